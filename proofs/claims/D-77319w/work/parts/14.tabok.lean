/-! what the tables say is said by the words of the Statement (printed by gen_tabok.py) -/
set_option maxRecDepth 100000
theorem am_c {α : Type} {P : α → Prop} {a : α} {l : List α} (h : P a) (t : ∀ e ∈ l, P e) : ∀ e ∈ a :: l, P e := List.forall_mem_cons.mpr ⟨h, t⟩
theorem am_nl {α : Type} {P : α → Prop} : ∀ e ∈ ([] : List α), P e := fun _ h => absurd h List.not_mem_nil
def am_rn (t : Nat) : String := match t with
  | 0 => RX3
  | 1 => RX6
  | 2 => RX2
  | _ => RX1
def am_fldP (e : Nat × Nat × Nat × Nat × Bool) : Prop :=
  bif e.2.2.1 == 100 then (bif e.2.2.2.1 == 0 then Cond.fieldLink (am_cn e.1) e.2.1 "java/lang/String" "value" "[B" ∈ lw_all else Cond.fieldLink (am_cn e.1) e.2.1 "java/lang/String" "coder" "B" ∈ lw_all) else
  ∃ q : vw_C, am_CL[e.2.2.1]? = some q ∧ e.2.2.2.1 < q.2.2 ∧ (bif e.2.2.2.2 then Cond.fieldLinkNest (am_cn e.1) e.2.1 (q.2.1 e.2.2.2.1).1 (q.2.1 e.2.2.2.1).2.1 (q.2.1 e.2.2.2.1).2.2.1 "CallMigrator" ∈ am_NW else Cond.fieldLink (am_cn e.1) e.2.1 (q.2.1 e.2.2.2.1).1 (q.2.1 e.2.2.2.1).2.1 (q.2.1 e.2.2.2.1).2.2.1 ∈ lw_all)
def am_newP (e : Nat × Nat × Nat) : Prop := ∃ q : vw_C, am_CL[e.2.2]? = some q ∧ Cond.classLink (am_cn e.1) e.2.1 q.1 ∈ lw_all ∧ Cond.instantiable q.1 q.2.2 ∈ lw_all ∧ Cond.initialized q.1 ∈ lw_all
def am_anewP (e : Nat × Nat × Nat) : Prop := e.2.2 < 4 ∧ Cond.classLink (am_cn e.1) e.2.1 (am_rn e.2.2) ∈ lw_all
def am_castP (e : Nat × Nat × Nat) : Prop := e.2.2 < 2 ∧ (bif e.2.2 == 0 then Cond.classLink (am_cn e.1) e.2.1 "[I" ∈ lw_all else Cond.classLink (am_cn e.1) e.2.1 "[B" ∈ lw_all)
def am_statP (e : Nat × Nat × Value × String × String × String × String) : Prop := Cond.fieldLink (am_cn e.1) e.2.1 e.2.2.2.1 e.2.2.2.2.1 e.2.2.2.2.2.1 ∈ lw_all
def am_ldcP (e : Nat × Nat × Value) : Prop := (∃ x, e.2.2 = .int x ∧ Cond.constant (am_cn e.1) e.2.1 x ∈ lw_all) ∨ (∃ r, e.2.2 = .retAddr r ∧ e.1 = 2 ∧ ((e.2.1 = 35 ∧ r = 1) ∨ (e.2.1 = 46 ∧ r = 2) ∨ (e.2.1 = 48 ∧ r = 3)))
def am_ldc2P (e : Nat × Nat × Int64) : Prop := Cond.constantLong (am_cn e.1) e.2.1 e.2.2 ∈ lw_all
def am_specP (e : Nat × Nat × Nat) : Prop :=
  (e.2.2 = 0 → Cond.methodLink (am_cn e.1) e.2.1 objectInit ∈ lw_all) ∧ (e.2.2 = 1 → Cond.methodLink (am_cn e.1) e.2.1 arraycopyName ∈ lw_all) ∧ (e.2.2 = 2 → Cond.methodLink (am_cn e.1) e.2.1 ⟨"[I", "clone", "()Ljava/lang/Object;"⟩ ∈ lw_all) ∧ (e.2.2 = 3 → Cond.methodLink (am_cn e.1) e.2.1 ⟨"[B", "clone", "()Ljava/lang/Object;"⟩ ∈ lw_all) ∧ (e.2.2 = 4 → Cond.methodLink (am_cn e.1) e.2.1 Lib.Math.max.name ∈ lw_all) ∧ (e.2.2 = 5 → Cond.methodLink (am_cn e.1) e.2.1 Lib.Math.min.name ∈ lw_all)
def am_callP (e : Nat × Nat × Nat × Nat) : Prop :=
  (e.2.2.1 = 0 → Cond.methodLink (am_cn e.1) e.2.1 (am_y e.2.2.2) ∈ lw_all ∧ am_stc e.2.2.2 = true ∧ am_hh e.2.2.2 = []) ∧
  (e.2.2.1 = 1 → Cond.methodLinkNest (am_cn e.1) e.2.1 (am_y e.2.2.2) "CallMigrator" ∈ am_NW ∧ am_stc e.2.2.2 = true ∧ am_hh e.2.2.2 = []) ∧
  (e.2.2.1 = 2 → Cond.methodLink (am_cn e.1) e.2.1 (am_y e.2.2.2) ∈ lw_all ∧ Cond.selects (am_y e.2.2.2).cls (am_y e.2.2.2) (am_y e.2.2.2) ∈ lw_all ∧ am_stc e.2.2.2 = false ∧ am_hh e.2.2.2 = []) ∧
  (e.2.2.1 = 3 → Cond.methodLink (am_cn e.1) e.2.1 (am_y e.2.2.2) ∈ lw_all ∧ Cond.selects "java/lang/StringBuilder" (am_y e.2.2.2) (am_y e.2.2.2) ∈ lw_all ++ am_XW ∧ Cond.sameMethod (am_y e.2.2.2).cls (am_y e.2.2.2).cls (am_y e.2.2.2).name (am_y e.2.2.2).desc ∈ lw_all ∧ am_stc e.2.2.2 = false ∧ am_hh e.2.2.2 = []) ∧
  (e.2.2.1 = 4 → Cond.methodLink (am_cn e.1) e.2.1 (am_y e.2.2.2) ∈ lw_all ∧ (am_y e.2.2.2).name = "<init>" ∧ am_stc e.2.2.2 = false ∧ am_hh e.2.2.2 = [] ∧ am_ret e.2.2.2 = none) ∧
  (e.2.2.1 = 5 → Cond.methodLinkNest (am_cn e.1) e.2.1 (am_y e.2.2.2) "CallMigrator" ∈ am_NW ∧ (am_y e.2.2.2).name = "<init>" ∧ am_stc e.2.2.2 = false ∧ am_hh e.2.2.2 = [] ∧ am_ret e.2.2.2 = none) ∧
  (e.2.2.1 = 6 → Cond.methodLink (am_cn e.1) e.2.1 (am_y e.2.2.2) ∈ lw_all ∧ Cond.superclass (am_cn e.1) (am_y e.2.2.2).cls ∈ lw_all ∧ Cond.sameMethod (am_y e.2.2.2).cls (am_y e.2.2.2).cls (am_y e.2.2.2).name (am_y e.2.2.2).desc ∈ lw_all ∧ (am_y e.2.2.2).name ≠ "<init>" ∧ am_stc e.2.2.2 = false ∧ am_hh e.2.2.2 = []) ∧
  (e.2.2.1 = 7 → Cond.methodLink (am_cn e.1) e.2.1 (am_y e.2.2.2) ∈ lw_all ∧ Cond.selects (am_y e.2.2.2).cls (am_y e.2.2.2) (am_y e.2.2.2) ∈ lw_all ∧ am_stc e.2.2.2 = false ∧ am_hh e.2.2.2 ≠ []) ∧ e.2.2.1 < 8 ∧ e.2.2.2 < 180
/-- a method's own words -/
def am_mP (q : am_MI) : Prop :=
  (bif q.2.2.2.2.2.2.2.2.isEmpty then Cond.code q.2.1 q.2.2.1 q.2.2.2.1 q.2.2.2.2.1 ∈ lw_all else Cond.codeWith q.2.1 q.2.2.1 q.2.2.2.1 q.2.2.2.2.1 q.2.2.2.2.2.2.2.2 ∈ lw_all) ∧
  (bif q.2.2.2.2.2.2.1 then Cond.static q.2.1 ∈ lw_all else Cond.instanceMethod q.2.1 ∈ lw_all) ∧ Cond.initialized q.2.1.cls ∈ lw_all ∧ plainName q.2.1.cls = true ∧ am_cn q.1 = q.2.1.cls ∧
  (q.2.1.cls ≠ "java/lang/invoke/MethodHandle" ∧ q.2.1.cls ≠ "java/lang/invoke/VarHandle") ∧ (parseMethodDescriptor q.2.1.desc).map (fun d => d.parameters.length) = some q.2.2.2.2.2.1 ∧ q.2.2.2.1 ≤ 10
theorem am_fldL_ok : ∀ e ∈ am_fldL, am_fldP e :=
  am_c ⟨_, rfl, by decide, q485⟩ <|
  am_c ⟨_, rfl, by decide, q486⟩ <|
  am_c ⟨_, rfl, by decide, q487⟩ <|
  am_c ⟨_, rfl, by decide, q488⟩ <|
  am_c ⟨_, rfl, by decide, q629⟩ <|
  am_c ⟨_, rfl, by decide, q630⟩ <|
  am_c ⟨_, rfl, by decide, q631⟩ <|
  am_c q1221 <|
  am_c q1222 <|
  am_c ⟨_, rfl, by decide, q232⟩ <|
  am_c ⟨_, rfl, by decide, q234⟩ <|
  am_c ⟨_, rfl, by decide, q235⟩ <|
  am_c ⟨_, rfl, by decide, q237⟩ <|
  am_c ⟨_, rfl, by decide, q239⟩ <|
  am_c ⟨_, rfl, by decide, q240⟩ <|
  am_c ⟨_, rfl, by decide, q241⟩ <|
  am_c ⟨_, rfl, by decide, q165⟩ <|
  am_c ⟨_, rfl, by decide, q169⟩ <|
  am_c ⟨_, rfl, by decide, q173⟩ <|
  am_c ⟨_, rfl, by decide, q176⟩ <|
  am_c ⟨_, rfl, by decide, q179⟩ <|
  am_c ⟨_, rfl, by decide, q182⟩ <|
  am_c ⟨_, rfl, by decide, q185⟩ <|
  am_c ⟨_, rfl, by decide, q189⟩ <|
  am_c ⟨_, rfl, by decide, q191⟩ <|
  am_c ⟨_, rfl, by decide, q104⟩ <|
  am_c ⟨_, rfl, by decide, q107⟩ <|
  am_c ⟨_, rfl, by decide, q110⟩ <|
  am_c ⟨_, rfl, by decide, q114⟩ <|
  am_c ⟨_, rfl, by decide, q134⟩ <|
  am_c ⟨_, rfl, by decide, q139⟩ <|
  am_c ⟨_, rfl, by decide, q142⟩ <|
  am_c ⟨_, rfl, by decide, q146⟩ <|
  am_c ⟨_, rfl, by decide, q220⟩ <|
  am_c ⟨_, rfl, by decide, q221⟩ <|
  am_c ⟨_, rfl, by decide, q222⟩ <|
  am_c ⟨_, rfl, by decide, q873⟩ <|
  am_c ⟨_, rfl, by decide, q874⟩ <|
  am_c ⟨_, rfl, by decide, q875⟩ <|
  am_c ⟨_, rfl, by decide, q876⟩ <|
  am_c ⟨_, rfl, by decide, q877⟩ <|
  am_c ⟨_, rfl, by decide, q878⟩ <|
  am_c ⟨_, rfl, by decide, q879⟩ <|
  am_c ⟨_, rfl, by decide, q880⟩ <|
  am_c ⟨_, rfl, by decide, q881⟩ <|
  am_c ⟨_, rfl, by decide, q882⟩ <|
  am_c ⟨_, rfl, by decide, q883⟩ <|
  am_c ⟨_, rfl, by decide, q884⟩ <|
  am_c ⟨_, rfl, by decide, q885⟩ <|
  am_c ⟨_, rfl, by decide, q886⟩ <|
  am_c ⟨_, rfl, by decide, q887⟩ <|
  am_c ⟨_, rfl, by decide, q888⟩ <|
  am_c ⟨_, rfl, by decide, q889⟩ <|
  am_c ⟨_, rfl, by decide, q890⟩ <|
  am_c ⟨_, rfl, by decide, q891⟩ <|
  am_c ⟨_, rfl, by decide, q892⟩ <|
  am_c ⟨_, rfl, by decide, q893⟩ <|
  am_c ⟨_, rfl, by decide, q894⟩ <|
  am_c ⟨_, rfl, by decide, q895⟩ <|
  am_c ⟨_, rfl, by decide, q336⟩ <|
  am_c ⟨_, rfl, by decide, q340⟩ <|
  am_c ⟨_, rfl, by decide, q482⟩ <|
  am_c ⟨_, rfl, by decide, q529⟩ <|
  am_c ⟨_, rfl, by decide, q530⟩ <|
  am_c ⟨_, rfl, by decide, q532⟩ <|
  am_c ⟨_, rfl, by decide, (List.mem_of_getElem? (i := 0) rfl)⟩ <|
  am_c ⟨_, rfl, by decide, (List.mem_of_getElem? (i := 1) rfl)⟩ <|
  am_c ⟨_, rfl, by decide, (List.mem_of_getElem? (i := 2) rfl)⟩ <|
  am_c ⟨_, rfl, by decide, (List.mem_of_getElem? (i := 3) rfl)⟩ <|
  am_c ⟨_, rfl, by decide, (List.mem_of_getElem? (i := 4) rfl)⟩ <|
  am_c ⟨_, rfl, by decide, (List.mem_of_getElem? (i := 5) rfl)⟩ <|
  am_c ⟨_, rfl, by decide, (List.mem_of_getElem? (i := 6) rfl)⟩ <|
  am_c ⟨_, rfl, by decide, (List.mem_of_getElem? (i := 7) rfl)⟩ <|
  am_c ⟨_, rfl, by decide, (List.mem_of_getElem? (i := 8) rfl)⟩ <|
  am_c ⟨_, rfl, by decide, (List.mem_of_getElem? (i := 9) rfl)⟩ <|
  am_c ⟨_, rfl, by decide, (List.mem_of_getElem? (i := 10) rfl)⟩ <|
  am_c ⟨_, rfl, by decide, (List.mem_of_getElem? (i := 11) rfl)⟩ <|
  am_c ⟨_, rfl, by decide, (List.mem_of_getElem? (i := 12) rfl)⟩ <|
  am_c ⟨_, rfl, by decide, (List.mem_of_getElem? (i := 13) rfl)⟩ <|
  am_c ⟨_, rfl, by decide, (List.mem_of_getElem? (i := 14) rfl)⟩ <|
  am_c ⟨_, rfl, by decide, (List.mem_of_getElem? (i := 15) rfl)⟩ <|
  am_c ⟨_, rfl, by decide, (List.mem_of_getElem? (i := 16) rfl)⟩ <|
  am_c ⟨_, rfl, by decide, (List.mem_of_getElem? (i := 17) rfl)⟩ <|
  am_c ⟨_, rfl, by decide, (List.mem_of_getElem? (i := 18) rfl)⟩ <|
  am_c ⟨_, rfl, by decide, (List.mem_of_getElem? (i := 19) rfl)⟩ <|
  am_c ⟨_, rfl, by decide, (List.mem_of_getElem? (i := 20) rfl)⟩ <|
  am_c ⟨_, rfl, by decide, (List.mem_of_getElem? (i := 21) rfl)⟩ <|
  am_c ⟨_, rfl, by decide, (List.mem_of_getElem? (i := 22) rfl)⟩ <|
  am_c ⟨_, rfl, by decide, (List.mem_of_getElem? (i := 23) rfl)⟩ <|
  am_c ⟨_, rfl, by decide, (List.mem_of_getElem? (i := 24) rfl)⟩ <|
  am_c ⟨_, rfl, by decide, (List.mem_of_getElem? (i := 25) rfl)⟩ <|
  am_c ⟨_, rfl, by decide, (List.mem_of_getElem? (i := 26) rfl)⟩ <|
  am_c ⟨_, rfl, by decide, (List.mem_of_getElem? (i := 27) rfl)⟩ <|
  am_c ⟨_, rfl, by decide, (List.mem_of_getElem? (i := 28) rfl)⟩ <|
  am_c ⟨_, rfl, by decide, (List.mem_of_getElem? (i := 29) rfl)⟩ <|
  am_c ⟨_, rfl, by decide, (List.mem_of_getElem? (i := 30) rfl)⟩ <|
  am_c ⟨_, rfl, by decide, (List.mem_of_getElem? (i := 31) rfl)⟩ <|
  am_c ⟨_, rfl, by decide, (List.mem_of_getElem? (i := 32) rfl)⟩ <|
  am_c ⟨_, rfl, by decide, (List.mem_of_getElem? (i := 33) rfl)⟩ <|
  am_c ⟨_, rfl, by decide, (List.mem_of_getElem? (i := 34) rfl)⟩ <|
  am_c ⟨_, rfl, by decide, (List.mem_of_getElem? (i := 35) rfl)⟩ <|
  am_c ⟨_, rfl, by decide, (List.mem_of_getElem? (i := 36) rfl)⟩ <|
  am_c ⟨_, rfl, by decide, (List.mem_of_getElem? (i := 37) rfl)⟩ <|
  am_c ⟨_, rfl, by decide, (List.mem_of_getElem? (i := 38) rfl)⟩ <|
  am_c ⟨_, rfl, by decide, (List.mem_of_getElem? (i := 39) rfl)⟩ <|
  am_c ⟨_, rfl, by decide, (List.mem_of_getElem? (i := 40) rfl)⟩ <|
  am_c ⟨_, rfl, by decide, (List.mem_of_getElem? (i := 41) rfl)⟩ <|
  am_c ⟨_, rfl, by decide, (List.mem_of_getElem? (i := 42) rfl)⟩ <|
  am_c ⟨_, rfl, by decide, (List.mem_of_getElem? (i := 43) rfl)⟩ <|
  am_c ⟨_, rfl, by decide, (List.mem_of_getElem? (i := 44) rfl)⟩ <|
  am_c ⟨_, rfl, by decide, (List.mem_of_getElem? (i := 45) rfl)⟩ <|
  am_c ⟨_, rfl, by decide, (List.mem_of_getElem? (i := 46) rfl)⟩ <|
  am_c ⟨_, rfl, by decide, (List.mem_of_getElem? (i := 47) rfl)⟩ <|
  am_c ⟨_, rfl, by decide, (List.mem_of_getElem? (i := 48) rfl)⟩ <|
  am_c ⟨_, rfl, by decide, (List.mem_of_getElem? (i := 49) rfl)⟩ <|
  am_c ⟨_, rfl, by decide, (List.mem_of_getElem? (i := 50) rfl)⟩ <|
  am_nl
theorem am_newL_ok : ∀ e ∈ am_newL, am_newP e :=
  am_c ⟨_, rfl, q87, q88, q57⟩ <|
  am_c ⟨_, rfl, q214, q215, q61⟩ <|
  am_c ⟨_, rfl, q327, q328, q64⟩ <|
  am_c ⟨_, rfl, q523, q524, q68⟩ <|
  am_c ⟨_, rfl, q611, q612, q70⟩ <|
  am_c ⟨_, rfl, q93, q126, q59⟩ <|
  am_c ⟨_, rfl, q97, q98, q58⟩ <|
  am_c ⟨_, rfl, q291, q126, q59⟩ <|
  am_c ⟨_, rfl, q436, q437, q67⟩ <|
  am_c ⟨_, rfl, q508, q98, q58⟩ <|
  am_c ⟨_, rfl, q394, q328, q64⟩ <|
  am_c ⟨_, rfl, q544, q98, q58⟩ <|
  am_c ⟨_, rfl, q79, q80, q56⟩ <|
  am_c ⟨_, rfl, q867, q868, q62⟩ <|
  am_nl
theorem am_anewL_ok : ∀ e ∈ am_anewL, am_anewP e :=
  am_c ⟨by decide, q87⟩ <|
  am_c ⟨by decide, q93⟩ <|
  am_c ⟨by decide, q95⟩ <|
  am_c ⟨by decide, q97⟩ <|
  am_c ⟨by decide, q508⟩ <|
  am_c ⟨by decide, q544⟩ <|
  am_nl
theorem am_castL_ok : ∀ e ∈ am_castL, am_castP e :=
  am_c ⟨by decide, q681⟩ <|
  am_c ⟨by decide, q318⟩ <|
  am_c ⟨by decide, q393⟩ <|
  am_nl
theorem am_statL_ok : ∀ e ∈ am_statL, am_statP e :=
  am_c q460 <|
  am_c q462 <|
  am_c q620 <|
  am_c q710 <|
  am_c q738 <|
  am_c q694 <|
  am_c q696 <|
  am_nl
theorem am_ldcL_ok : ∀ e ∈ am_ldcL, am_ldcP e :=
  am_c (Or.inl ⟨_, rfl, q673⟩) <|
  am_c (Or.inl ⟨_, rfl, q669⟩) <|
  am_c (Or.inr ⟨_, rfl, rfl, Or.inl ⟨rfl, rfl⟩⟩) <|
  am_c (Or.inr ⟨_, rfl, rfl, Or.inr (Or.inl ⟨rfl, rfl⟩)⟩) <|
  am_c (Or.inr ⟨_, rfl, rfl, Or.inr (Or.inr ⟨rfl, rfl⟩)⟩) <|
  am_nl
theorem am_ldc2L_ok : ∀ e ∈ am_ldc2L, am_ldc2P e :=
  am_c q859 <|
  am_c q863 <|
  am_c q950 <|
  am_c q954 <|
  am_c q971 <|
  am_c q980 <|
  am_c q981 <|
  am_c q1018 <|
  am_c q1047 <|
  am_c q1067 <|
  am_c q1068 <|
  am_c q1076 <|
  am_c q1077 <|
  am_c q1078 <|
  am_c q1079 <|
  am_c q1080 <|
  am_c q1154 <|
  am_c q1171 <|
  am_c q1200 <|
  am_c q1201 <|
  am_c q1206 <|
  am_c q1207 <|
  am_nl
theorem am_specL_ok : ∀ e ∈ am_specL, am_specP e :=
  am_c ⟨(fun h => absurd h (by decide)), (fun h => absurd h (by decide)), (fun h => absurd h (by decide)), (fun _ => q677), (fun h => absurd h (by decide)), (fun h => absurd h (by decide))⟩ <|
  am_c ⟨(fun h => absurd h (by decide)), (fun h => absurd h (by decide)), (fun h => absurd h (by decide)), (fun h => absurd h (by decide)), (fun h => absurd h (by decide)), (fun _ => q682)⟩ <|
  am_c ⟨(fun h => absurd h (by decide)), (fun _ => q685), (fun h => absurd h (by decide)), (fun h => absurd h (by decide)), (fun h => absurd h (by decide)), (fun h => absurd h (by decide))⟩ <|
  am_c ⟨(fun _ => q459), (fun h => absurd h (by decide)), (fun h => absurd h (by decide)), (fun h => absurd h (by decide)), (fun h => absurd h (by decide)), (fun h => absurd h (by decide))⟩ <|
  am_c ⟨(fun _ => q619), (fun h => absurd h (by decide)), (fun h => absurd h (by decide)), (fun h => absurd h (by decide)), (fun h => absurd h (by decide)), (fun h => absurd h (by decide))⟩ <|
  am_c ⟨(fun h => absurd h (by decide)), (fun h => absurd h (by decide)), (fun h => absurd h (by decide)), (fun h => absurd h (by decide)), (fun h => absurd h (by decide)), (fun _ => q844)⟩ <|
  am_c ⟨(fun h => absurd h (by decide)), (fun _ => q827), (fun h => absurd h (by decide)), (fun h => absurd h (by decide)), (fun h => absurd h (by decide)), (fun h => absurd h (by decide))⟩ <|
  am_c ⟨(fun h => absurd h (by decide)), (fun h => absurd h (by decide)), (fun h => absurd h (by decide)), (fun h => absurd h (by decide)), (fun _ => q666), (fun h => absurd h (by decide))⟩ <|
  am_c ⟨(fun _ => q84), (fun h => absurd h (by decide)), (fun h => absurd h (by decide)), (fun h => absurd h (by decide)), (fun h => absurd h (by decide)), (fun h => absurd h (by decide))⟩ <|
  am_c ⟨(fun h => absurd h (by decide)), (fun _ => q279), (fun h => absurd h (by decide)), (fun h => absurd h (by decide)), (fun h => absurd h (by decide)), (fun h => absurd h (by decide))⟩ <|
  am_c ⟨(fun _ => q92), (fun h => absurd h (by decide)), (fun h => absurd h (by decide)), (fun h => absurd h (by decide)), (fun h => absurd h (by decide)), (fun h => absurd h (by decide))⟩ <|
  am_c ⟨(fun h => absurd h (by decide)), (fun _ => q286), (fun h => absurd h (by decide)), (fun h => absurd h (by decide)), (fun h => absurd h (by decide)), (fun h => absurd h (by decide))⟩ <|
  am_c ⟨(fun _ => q103), (fun h => absurd h (by decide)), (fun h => absurd h (by decide)), (fun h => absurd h (by decide)), (fun h => absurd h (by decide)), (fun h => absurd h (by decide))⟩ <|
  am_c ⟨(fun _ => q133), (fun h => absurd h (by decide)), (fun h => absurd h (by decide)), (fun h => absurd h (by decide)), (fun h => absurd h (by decide)), (fun h => absurd h (by decide))⟩ <|
  am_c ⟨(fun h => absurd h (by decide)), (fun h => absurd h (by decide)), (fun _ => q312), (fun h => absurd h (by decide)), (fun h => absurd h (by decide)), (fun h => absurd h (by decide))⟩ <|
  am_c ⟨(fun _ => q219), (fun h => absurd h (by decide)), (fun h => absurd h (by decide)), (fun h => absurd h (by decide)), (fun h => absurd h (by decide)), (fun h => absurd h (by decide))⟩ <|
  am_c ⟨(fun _ => q872), (fun h => absurd h (by decide)), (fun h => absurd h (by decide)), (fun h => absurd h (by decide)), (fun h => absurd h (by decide)), (fun h => absurd h (by decide))⟩ <|
  am_c ⟨(fun _ => q335), (fun h => absurd h (by decide)), (fun h => absurd h (by decide)), (fun h => absurd h (by decide)), (fun h => absurd h (by decide)), (fun h => absurd h (by decide))⟩ <|
  am_c ⟨(fun h => absurd h (by decide)), (fun h => absurd h (by decide)), (fun _ => q392), (fun h => absurd h (by decide)), (fun h => absurd h (by decide)), (fun h => absurd h (by decide))⟩ <|
  am_c ⟨(fun _ => q528), (fun h => absurd h (by decide)), (fun h => absurd h (by decide)), (fun h => absurd h (by decide)), (fun h => absurd h (by decide)), (fun h => absurd h (by decide))⟩ <|
  am_nl
theorem am_callL_ok : ∀ e ∈ am_callL, am_callP e :=
  am_c ⟨(fun _ => ⟨q742, rfl, rfl⟩), (fun h => absurd h (by decide)), (fun h => absurd h (by decide)), (fun h => absurd h (by decide)), (fun h => absurd h (by decide)), (fun h => absurd h (by decide)), (fun h => absurd h (by decide)), (fun h => absurd h (by decide)), by decide, by decide⟩ <|
  am_c ⟨(fun h => absurd h (by decide)), (fun h => absurd h (by decide)), (fun h => absurd h (by decide)), (fun h => absurd h (by decide)), (fun _ => ⟨q479, rfl, rfl, rfl, rfl⟩), (fun h => absurd h (by decide)), (fun h => absurd h (by decide)), (fun h => absurd h (by decide)), by decide, by decide⟩ <|
  am_c ⟨(fun _ => ⟨q652, rfl, rfl⟩), (fun h => absurd h (by decide)), (fun h => absurd h (by decide)), (fun h => absurd h (by decide)), (fun h => absurd h (by decide)), (fun h => absurd h (by decide)), (fun h => absurd h (by decide)), (fun h => absurd h (by decide)), by decide, by decide⟩ <|
  am_c ⟨(fun h => absurd h (by decide)), (fun h => absurd h (by decide)), (fun h => absurd h (by decide)), (fun _ => ⟨q655, List.mem_append_right _ (List.mem_of_getElem? (i := 0) rfl), q1210, rfl, rfl⟩), (fun h => absurd h (by decide)), (fun h => absurd h (by decide)), (fun h => absurd h (by decide)), (fun h => absurd h (by decide)), by decide, by decide⟩ <|
  am_c ⟨(fun h => absurd h (by decide)), (fun h => absurd h (by decide)), (fun h => absurd h (by decide)), (fun _ => ⟨q659, List.mem_append_right _ (List.mem_of_getElem? (i := 1) rfl), q1211, rfl, rfl⟩), (fun h => absurd h (by decide)), (fun h => absurd h (by decide)), (fun h => absurd h (by decide)), (fun h => absurd h (by decide)), by decide, by decide⟩ <|
  am_c ⟨(fun _ => ⟨q663, rfl, rfl⟩), (fun h => absurd h (by decide)), (fun h => absurd h (by decide)), (fun h => absurd h (by decide)), (fun h => absurd h (by decide)), (fun h => absurd h (by decide)), (fun h => absurd h (by decide)), (fun h => absurd h (by decide)), by decide, by decide⟩ <|
  am_c ⟨(fun _ => ⟨q674, rfl, rfl⟩), (fun h => absurd h (by decide)), (fun h => absurd h (by decide)), (fun h => absurd h (by decide)), (fun h => absurd h (by decide)), (fun h => absurd h (by decide)), (fun h => absurd h (by decide)), (fun h => absurd h (by decide)), by decide, by decide⟩ <|
  am_c ⟨(fun h => absurd h (by decide)), (fun h => absurd h (by decide)), (fun h => absurd h (by decide)), (fun _ => ⟨q686, List.mem_append_left _ q689, q688, rfl, rfl⟩), (fun h => absurd h (by decide)), (fun h => absurd h (by decide)), (fun h => absurd h (by decide)), (fun h => absurd h (by decide)), by decide, by decide⟩ <|
  am_c ⟨(fun _ => ⟨q691, rfl, rfl⟩), (fun h => absurd h (by decide)), (fun h => absurd h (by decide)), (fun h => absurd h (by decide)), (fun h => absurd h (by decide)), (fun h => absurd h (by decide)), (fun h => absurd h (by decide)), (fun h => absurd h (by decide)), by decide, by decide⟩ <|
  am_c ⟨(fun _ => ⟨q765, rfl, rfl⟩), (fun h => absurd h (by decide)), (fun h => absurd h (by decide)), (fun h => absurd h (by decide)), (fun h => absurd h (by decide)), (fun h => absurd h (by decide)), (fun h => absurd h (by decide)), (fun h => absurd h (by decide)), by decide, by decide⟩ <|
  am_c ⟨(fun h => absurd h (by decide)), (fun h => absurd h (by decide)), (fun h => absurd h (by decide)), (fun _ => ⟨q768, List.mem_append_right _ (List.mem_of_getElem? (i := 2) rfl), q1213, rfl, rfl⟩), (fun h => absurd h (by decide)), (fun h => absurd h (by decide)), (fun h => absurd h (by decide)), (fun h => absurd h (by decide)), by decide, by decide⟩ <|
  am_c ⟨(fun _ => ⟨q772, rfl, rfl⟩), (fun h => absurd h (by decide)), (fun h => absurd h (by decide)), (fun h => absurd h (by decide)), (fun h => absurd h (by decide)), (fun h => absurd h (by decide)), (fun h => absurd h (by decide)), (fun h => absurd h (by decide)), by decide, by decide⟩ <|
  am_c ⟨(fun h => absurd h (by decide)), (fun h => absurd h (by decide)), (fun h => absurd h (by decide)), (fun _ => ⟨q799, List.mem_append_right _ (List.mem_of_getElem? (i := 3) rfl), q1215, rfl, rfl⟩), (fun h => absurd h (by decide)), (fun h => absurd h (by decide)), (fun h => absurd h (by decide)), (fun h => absurd h (by decide)), by decide, by decide⟩ <|
  am_c ⟨(fun h => absurd h (by decide)), (fun h => absurd h (by decide)), (fun _ => ⟨q806, q808, rfl, rfl⟩), (fun h => absurd h (by decide)), (fun h => absurd h (by decide)), (fun h => absurd h (by decide)), (fun h => absurd h (by decide)), (fun h => absurd h (by decide)), by decide, by decide⟩ <|
  am_c ⟨(fun h => absurd h (by decide)), (fun h => absurd h (by decide)), (fun h => absurd h (by decide)), (fun _ => ⟨q814, List.mem_append_right _ (List.mem_of_getElem? (i := 4) rfl), q1216, rfl, rfl⟩), (fun h => absurd h (by decide)), (fun h => absurd h (by decide)), (fun h => absurd h (by decide)), (fun h => absurd h (by decide)), by decide, by decide⟩ <|
  am_c ⟨(fun h => absurd h (by decide)), (fun h => absurd h (by decide)), (fun h => absurd h (by decide)), (fun _ => ⟨q818, List.mem_append_right _ (List.mem_of_getElem? (i := 5) rfl), q1217, rfl, rfl⟩), (fun h => absurd h (by decide)), (fun h => absurd h (by decide)), (fun h => absurd h (by decide)), (fun h => absurd h (by decide)), by decide, by decide⟩ <|
  am_c ⟨(fun h => absurd h (by decide)), (fun h => absurd h (by decide)), (fun _ => ⟨q822, q812, rfl, rfl⟩), (fun h => absurd h (by decide)), (fun h => absurd h (by decide)), (fun h => absurd h (by decide)), (fun h => absurd h (by decide)), (fun h => absurd h (by decide)), by decide, by decide⟩ <|
  am_c ⟨(fun h => absurd h (by decide)), (fun h => absurd h (by decide)), (fun _ => ⟨q823, q825, rfl, rfl⟩), (fun h => absurd h (by decide)), (fun h => absurd h (by decide)), (fun h => absurd h (by decide)), (fun h => absurd h (by decide)), (fun h => absurd h (by decide)), by decide, by decide⟩ <|
  am_c ⟨(fun _ => ⟨q845, rfl, rfl⟩), (fun h => absurd h (by decide)), (fun h => absurd h (by decide)), (fun h => absurd h (by decide)), (fun h => absurd h (by decide)), (fun h => absurd h (by decide)), (fun h => absurd h (by decide)), (fun h => absurd h (by decide)), by decide, by decide⟩ <|
  am_c ⟨(fun h => absurd h (by decide)), (fun h => absurd h (by decide)), (fun h => absurd h (by decide)), (fun h => absurd h (by decide)), (fun _ => ⟨q616, rfl, rfl, rfl, rfl⟩), (fun h => absurd h (by decide)), (fun h => absurd h (by decide)), (fun h => absurd h (by decide)), by decide, by decide⟩ <|
  am_c ⟨(fun h => absurd h (by decide)), (fun h => absurd h (by decide)), (fun h => absurd h (by decide)), (fun h => absurd h (by decide)), (fun h => absurd h (by decide)), (fun h => absurd h (by decide)), (fun _ => ⟨q649, q640, q1209, by decide, rfl, rfl⟩), (fun h => absurd h (by decide)), by decide, by decide⟩ <|
  am_c ⟨(fun h => absurd h (by decide)), (fun h => absurd h (by decide)), (fun h => absurd h (by decide)), (fun h => absurd h (by decide)), (fun h => absurd h (by decide)), (fun h => absurd h (by decide)), (fun _ => ⟨q762, q640, q1212, by decide, rfl, rfl⟩), (fun h => absurd h (by decide)), by decide, by decide⟩ <|
  am_c ⟨(fun h => absurd h (by decide)), (fun h => absurd h (by decide)), (fun h => absurd h (by decide)), (fun h => absurd h (by decide)), (fun h => absurd h (by decide)), (fun h => absurd h (by decide)), (fun _ => ⟨q796, q640, q1214, by decide, rfl, rfl⟩), (fun h => absurd h (by decide)), by decide, by decide⟩ <|
  am_c ⟨(fun h => absurd h (by decide)), (fun h => absurd h (by decide)), (fun h => absurd h (by decide)), (fun h => absurd h (by decide)), (fun h => absurd h (by decide)), (fun h => absurd h (by decide)), (fun _ => ⟨q834, q640, q1218, by decide, rfl, rfl⟩), (fun h => absurd h (by decide)), by decide, by decide⟩ <|
  am_c ⟨(fun h => absurd h (by decide)), (fun h => absurd h (by decide)), (fun h => absurd h (by decide)), (fun h => absurd h (by decide)), (fun h => absurd h (by decide)), (fun h => absurd h (by decide)), (fun _ => ⟨q841, q640, q1219, by decide, rfl, rfl⟩), (fun h => absurd h (by decide)), by decide, by decide⟩ <|
  am_c ⟨(fun _ => ⟨q712, rfl, rfl⟩), (fun h => absurd h (by decide)), (fun h => absurd h (by decide)), (fun h => absurd h (by decide)), (fun h => absurd h (by decide)), (fun h => absurd h (by decide)), (fun h => absurd h (by decide)), (fun h => absurd h (by decide)), by decide, by decide⟩ <|
  am_c ⟨(fun h => absurd h (by decide)), (fun h => absurd h (by decide)), (fun _ => ⟨q734, q736, rfl, rfl⟩), (fun h => absurd h (by decide)), (fun h => absurd h (by decide)), (fun h => absurd h (by decide)), (fun h => absurd h (by decide)), (fun h => absurd h (by decide)), by decide, by decide⟩ <|
  am_c ⟨(fun _ => ⟨q739, rfl, rfl⟩), (fun h => absurd h (by decide)), (fun h => absurd h (by decide)), (fun h => absurd h (by decide)), (fun h => absurd h (by decide)), (fun h => absurd h (by decide)), (fun h => absurd h (by decide)), (fun h => absurd h (by decide)), by decide, by decide⟩ <|
  am_c ⟨(fun _ => ⟨q745, rfl, rfl⟩), (fun h => absurd h (by decide)), (fun h => absurd h (by decide)), (fun h => absurd h (by decide)), (fun h => absurd h (by decide)), (fun h => absurd h (by decide)), (fun h => absurd h (by decide)), (fun h => absurd h (by decide)), by decide, by decide⟩ <|
  am_c ⟨(fun _ => ⟨q784, rfl, rfl⟩), (fun h => absurd h (by decide)), (fun h => absurd h (by decide)), (fun h => absurd h (by decide)), (fun h => absurd h (by decide)), (fun h => absurd h (by decide)), (fun h => absurd h (by decide)), (fun h => absurd h (by decide)), by decide, by decide⟩ <|
  am_c ⟨(fun h => absurd h (by decide)), (fun h => absurd h (by decide)), (fun _ => ⟨q810, q812, rfl, rfl⟩), (fun h => absurd h (by decide)), (fun h => absurd h (by decide)), (fun h => absurd h (by decide)), (fun h => absurd h (by decide)), (fun h => absurd h (by decide)), by decide, by decide⟩ <|
  am_c ⟨(fun _ => ⟨q828, rfl, rfl⟩), (fun h => absurd h (by decide)), (fun h => absurd h (by decide)), (fun h => absurd h (by decide)), (fun h => absurd h (by decide)), (fun h => absurd h (by decide)), (fun h => absurd h (by decide)), (fun h => absurd h (by decide)), by decide, by decide⟩ <|
  am_c ⟨(fun _ => ⟨q670, rfl, rfl⟩), (fun h => absurd h (by decide)), (fun h => absurd h (by decide)), (fun h => absurd h (by decide)), (fun h => absurd h (by decide)), (fun h => absurd h (by decide)), (fun h => absurd h (by decide)), (fun h => absurd h (by decide)), by decide, by decide⟩ <|
  am_c ⟨(fun h => absurd h (by decide)), (fun h => absurd h (by decide)), (fun _ => ⟨q261, qs0, rfl, rfl⟩), (fun h => absurd h (by decide)), (fun h => absurd h (by decide)), (fun h => absurd h (by decide)), (fun h => absurd h (by decide)), (fun h => absurd h (by decide)), by decide, by decide⟩ <|
  am_c ⟨(fun _ => ⟨q265, rfl, rfl⟩), (fun h => absurd h (by decide)), (fun h => absurd h (by decide)), (fun h => absurd h (by decide)), (fun h => absurd h (by decide)), (fun h => absurd h (by decide)), (fun h => absurd h (by decide)), (fun h => absurd h (by decide)), by decide, by decide⟩ <|
  am_c ⟨(fun _ => ⟨q268, rfl, rfl⟩), (fun h => absurd h (by decide)), (fun h => absurd h (by decide)), (fun h => absurd h (by decide)), (fun h => absurd h (by decide)), (fun h => absurd h (by decide)), (fun h => absurd h (by decide)), (fun h => absurd h (by decide)), by decide, by decide⟩ <|
  am_c ⟨(fun h => absurd h (by decide)), (fun h => absurd h (by decide)), (fun _ => ⟨q271, qs1, rfl, rfl⟩), (fun h => absurd h (by decide)), (fun h => absurd h (by decide)), (fun h => absurd h (by decide)), (fun h => absurd h (by decide)), (fun h => absurd h (by decide)), by decide, by decide⟩ <|
  am_c ⟨(fun h => absurd h (by decide)), (fun h => absurd h (by decide)), (fun _ => ⟨q275, qs2, rfl, rfl⟩), (fun h => absurd h (by decide)), (fun h => absurd h (by decide)), (fun h => absurd h (by decide)), (fun h => absurd h (by decide)), (fun h => absurd h (by decide)), by decide, by decide⟩ <|
  am_c ⟨(fun h => absurd h (by decide)), (fun h => absurd h (by decide)), (fun _ => ⟨q282, q284, rfl, rfl⟩), (fun h => absurd h (by decide)), (fun h => absurd h (by decide)), (fun h => absurd h (by decide)), (fun h => absurd h (by decide)), (fun h => absurd h (by decide)), by decide, by decide⟩ <|
  am_c ⟨(fun h => absurd h (by decide)), (fun h => absurd h (by decide)), (fun _ => ⟨q287, q289, rfl, rfl⟩), (fun h => absurd h (by decide)), (fun h => absurd h (by decide)), (fun h => absurd h (by decide)), (fun h => absurd h (by decide)), (fun h => absurd h (by decide)), by decide, by decide⟩ <|
  am_c ⟨(fun h => absurd h (by decide)), (fun h => absurd h (by decide)), (fun _ => ⟨q300, qs3, rfl, rfl⟩), (fun h => absurd h (by decide)), (fun h => absurd h (by decide)), (fun h => absurd h (by decide)), (fun h => absurd h (by decide)), (fun h => absurd h (by decide)), by decide, by decide⟩ <|
  am_c ⟨(fun h => absurd h (by decide)), (fun h => absurd h (by decide)), (fun _ => ⟨q304, q306, rfl, rfl⟩), (fun h => absurd h (by decide)), (fun h => absurd h (by decide)), (fun h => absurd h (by decide)), (fun h => absurd h (by decide)), (fun h => absurd h (by decide)), by decide, by decide⟩ <|
  am_c ⟨(fun h => absurd h (by decide)), (fun h => absurd h (by decide)), (fun _ => ⟨q308, q310, rfl, rfl⟩), (fun h => absurd h (by decide)), (fun h => absurd h (by decide)), (fun h => absurd h (by decide)), (fun h => absurd h (by decide)), (fun h => absurd h (by decide)), by decide, by decide⟩ <|
  am_c ⟨(fun h => absurd h (by decide)), (fun h => absurd h (by decide)), (fun h => absurd h (by decide)), (fun h => absurd h (by decide)), (fun _ => ⟨q329, rfl, rfl, rfl, rfl⟩), (fun h => absurd h (by decide)), (fun h => absurd h (by decide)), (fun h => absurd h (by decide)), by decide, by decide⟩ <|
  am_c ⟨(fun h => absurd h (by decide)), (fun h => absurd h (by decide)), (fun h => absurd h (by decide)), (fun h => absurd h (by decide)), (fun _ => ⟨q348, rfl, rfl, rfl, rfl⟩), (fun h => absurd h (by decide)), (fun h => absurd h (by decide)), (fun h => absurd h (by decide)), by decide, by decide⟩ <|
  am_c ⟨(fun h => absurd h (by decide)), (fun h => absurd h (by decide)), (fun _ => ⟨q349, qs4, rfl, rfl⟩), (fun h => absurd h (by decide)), (fun h => absurd h (by decide)), (fun h => absurd h (by decide)), (fun h => absurd h (by decide)), (fun h => absurd h (by decide)), by decide, by decide⟩ <|
  am_c ⟨(fun h => absurd h (by decide)), (fun h => absurd h (by decide)), (fun _ => ⟨q353, q355, rfl, rfl⟩), (fun h => absurd h (by decide)), (fun h => absurd h (by decide)), (fun h => absurd h (by decide)), (fun h => absurd h (by decide)), (fun h => absurd h (by decide)), by decide, by decide⟩ <|
  am_c ⟨(fun h => absurd h (by decide)), (fun h => absurd h (by decide)), (fun _ => ⟨q381, qs8, rfl, rfl⟩), (fun h => absurd h (by decide)), (fun h => absurd h (by decide)), (fun h => absurd h (by decide)), (fun h => absurd h (by decide)), (fun h => absurd h (by decide)), by decide, by decide⟩ <|
  am_c ⟨(fun _ => ⟨q385, rfl, rfl⟩), (fun h => absurd h (by decide)), (fun h => absurd h (by decide)), (fun h => absurd h (by decide)), (fun h => absurd h (by decide)), (fun h => absurd h (by decide)), (fun h => absurd h (by decide)), (fun h => absurd h (by decide)), by decide, by decide⟩ <|
  am_c ⟨(fun h => absurd h (by decide)), (fun h => absurd h (by decide)), (fun _ => ⟨q388, q390, rfl, rfl⟩), (fun h => absurd h (by decide)), (fun h => absurd h (by decide)), (fun h => absurd h (by decide)), (fun h => absurd h (by decide)), (fun h => absurd h (by decide)), by decide, by decide⟩ <|
  am_c ⟨(fun h => absurd h (by decide)), (fun h => absurd h (by decide)), (fun _ => ⟨q424, q426, rfl, rfl⟩), (fun h => absurd h (by decide)), (fun h => absurd h (by decide)), (fun h => absurd h (by decide)), (fun h => absurd h (by decide)), (fun h => absurd h (by decide)), by decide, by decide⟩ <|
  am_c ⟨(fun _ => ⟨q522, rfl, rfl⟩), (fun h => absurd h (by decide)), (fun h => absurd h (by decide)), (fun h => absurd h (by decide)), (fun h => absurd h (by decide)), (fun h => absurd h (by decide)), (fun h => absurd h (by decide)), (fun h => absurd h (by decide)), by decide, by decide⟩ <|
  am_c ⟨(fun h => absurd h (by decide)), (fun h => absurd h (by decide)), (fun _ => ⟨q540, q542, rfl, rfl⟩), (fun h => absurd h (by decide)), (fun h => absurd h (by decide)), (fun h => absurd h (by decide)), (fun h => absurd h (by decide)), (fun h => absurd h (by decide)), by decide, by decide⟩ <|
  am_c ⟨(fun h => absurd h (by decide)), (fun h => absurd h (by decide)), (fun _ => ⟨q585, q587, rfl, rfl⟩), (fun h => absurd h (by decide)), (fun h => absurd h (by decide)), (fun h => absurd h (by decide)), (fun h => absurd h (by decide)), (fun h => absurd h (by decide)), by decide, by decide⟩ <|
  am_c ⟨(fun h => absurd h (by decide)), (fun h => absurd h (by decide)), (fun _ => ⟨q598, q600, rfl, rfl⟩), (fun h => absurd h (by decide)), (fun h => absurd h (by decide)), (fun h => absurd h (by decide)), (fun h => absurd h (by decide)), (fun h => absurd h (by decide)), by decide, by decide⟩ <|
  am_c ⟨(fun h => absurd h (by decide)), (fun h => absurd h (by decide)), (fun _ => ⟨q607, qs21, rfl, rfl⟩), (fun h => absurd h (by decide)), (fun h => absurd h (by decide)), (fun h => absurd h (by decide)), (fun h => absurd h (by decide)), (fun h => absurd h (by decide)), by decide, by decide⟩ <|
  am_c ⟨(fun h => absurd h (by decide)), (fun h => absurd h (by decide)), (fun h => absurd h (by decide)), (fun h => absurd h (by decide)), (fun _ => ⟨q613, rfl, rfl, rfl, rfl⟩), (fun h => absurd h (by decide)), (fun h => absurd h (by decide)), (fun h => absurd h (by decide)), by decide, by decide⟩ <|
  am_c ⟨(fun h => absurd h (by decide)), (fun h => absurd h (by decide)), (fun _ => ⟨q641, q643, rfl, rfl⟩), (fun h => absurd h (by decide)), (fun h => absurd h (by decide)), (fun h => absurd h (by decide)), (fun h => absurd h (by decide)), (fun h => absurd h (by decide)), by decide, by decide⟩ <|
  am_c ⟨(fun h => absurd h (by decide)), (fun h => absurd h (by decide)), (fun _ => ⟨q830, q832, rfl, rfl⟩), (fun h => absurd h (by decide)), (fun h => absurd h (by decide)), (fun h => absurd h (by decide)), (fun h => absurd h (by decide)), (fun h => absurd h (by decide)), by decide, by decide⟩ <|
  am_c ⟨(fun h => absurd h (by decide)), (fun h => absurd h (by decide)), (fun _ => ⟨q837, q839, rfl, rfl⟩), (fun h => absurd h (by decide)), (fun h => absurd h (by decide)), (fun h => absurd h (by decide)), (fun h => absurd h (by decide)), (fun h => absurd h (by decide)), by decide, by decide⟩ <|
  am_c ⟨(fun _ => ⟨q860, rfl, rfl⟩), (fun h => absurd h (by decide)), (fun h => absurd h (by decide)), (fun h => absurd h (by decide)), (fun h => absurd h (by decide)), (fun h => absurd h (by decide)), (fun h => absurd h (by decide)), (fun h => absurd h (by decide)), by decide, by decide⟩ <|
  am_c ⟨(fun _ => ⟨q864, rfl, rfl⟩), (fun h => absurd h (by decide)), (fun h => absurd h (by decide)), (fun h => absurd h (by decide)), (fun h => absurd h (by decide)), (fun h => absurd h (by decide)), (fun h => absurd h (by decide)), (fun h => absurd h (by decide)), by decide, by decide⟩ <|
  am_c ⟨(fun h => absurd h (by decide)), (fun h => absurd h (by decide)), (fun h => absurd h (by decide)), (fun h => absurd h (by decide)), (fun _ => ⟨q100, rfl, rfl, rfl, rfl⟩), (fun h => absurd h (by decide)), (fun h => absurd h (by decide)), (fun h => absurd h (by decide)), by decide, by decide⟩ <|
  am_c ⟨(fun h => absurd h (by decide)), (fun h => absurd h (by decide)), (fun h => absurd h (by decide)), (fun h => absurd h (by decide)), (fun _ => ⟨q127, rfl, rfl, rfl, rfl⟩), (fun h => absurd h (by decide)), (fun h => absurd h (by decide)), (fun h => absurd h (by decide)), by decide, by decide⟩ <|
  am_c ⟨(fun _ => ⟨q159, rfl, rfl⟩), (fun h => absurd h (by decide)), (fun h => absurd h (by decide)), (fun h => absurd h (by decide)), (fun h => absurd h (by decide)), (fun h => absurd h (by decide)), (fun h => absurd h (by decide)), (fun h => absurd h (by decide)), by decide, by decide⟩ <|
  am_c ⟨(fun _ => ⟨q162, rfl, rfl⟩), (fun h => absurd h (by decide)), (fun h => absurd h (by decide)), (fun h => absurd h (by decide)), (fun h => absurd h (by decide)), (fun h => absurd h (by decide)), (fun h => absurd h (by decide)), (fun h => absurd h (by decide)), by decide, by decide⟩ <|
  am_c ⟨(fun h => absurd h (by decide)), (fun h => absurd h (by decide)), (fun _ => ⟨q357, q359, rfl, rfl⟩), (fun h => absurd h (by decide)), (fun h => absurd h (by decide)), (fun h => absurd h (by decide)), (fun h => absurd h (by decide)), (fun h => absurd h (by decide)), by decide, by decide⟩ <|
  am_c ⟨(fun h => absurd h (by decide)), (fun h => absurd h (by decide)), (fun _ => ⟨q568, q570, rfl, rfl⟩), (fun h => absurd h (by decide)), (fun h => absurd h (by decide)), (fun h => absurd h (by decide)), (fun h => absurd h (by decide)), (fun h => absurd h (by decide)), by decide, by decide⟩ <|
  am_c ⟨(fun h => absurd h (by decide)), (fun h => absurd h (by decide)), (fun _ => ⟨q572, q566, rfl, rfl⟩), (fun h => absurd h (by decide)), (fun h => absurd h (by decide)), (fun h => absurd h (by decide)), (fun h => absurd h (by decide)), (fun h => absurd h (by decide)), by decide, by decide⟩ <|
  am_c ⟨(fun h => absurd h (by decide)), (fun h => absurd h (by decide)), (fun _ => ⟨q602, q600, rfl, rfl⟩), (fun h => absurd h (by decide)), (fun h => absurd h (by decide)), (fun h => absurd h (by decide)), (fun h => absurd h (by decide)), (fun h => absurd h (by decide)), by decide, by decide⟩ <|
  am_c ⟨(fun h => absurd h (by decide)), (fun h => absurd h (by decide)), (fun _ => ⟨q589, q587, rfl, rfl⟩), (fun h => absurd h (by decide)), (fun h => absurd h (by decide)), (fun h => absurd h (by decide)), (fun h => absurd h (by decide)), (fun h => absurd h (by decide)), by decide, by decide⟩ <|
  am_c ⟨(fun h => absurd h (by decide)), (fun h => absurd h (by decide)), (fun _ => ⟨q645, q647, rfl, rfl⟩), (fun h => absurd h (by decide)), (fun h => absurd h (by decide)), (fun h => absurd h (by decide)), (fun h => absurd h (by decide)), (fun h => absurd h (by decide)), by decide, by decide⟩ <|
  am_c ⟨(fun h => absurd h (by decide)), (fun h => absurd h (by decide)), (fun _ => ⟨q730, q732, rfl, rfl⟩), (fun h => absurd h (by decide)), (fun h => absurd h (by decide)), (fun h => absurd h (by decide)), (fun h => absurd h (by decide)), (fun h => absurd h (by decide)), by decide, by decide⟩ <|
  am_c ⟨(fun h => absurd h (by decide)), (fun h => absurd h (by decide)), (fun _ => ⟨q758, q760, rfl, rfl⟩), (fun h => absurd h (by decide)), (fun h => absurd h (by decide)), (fun h => absurd h (by decide)), (fun h => absurd h (by decide)), (fun h => absurd h (by decide)), by decide, by decide⟩ <|
  am_c ⟨(fun h => absurd h (by decide)), (fun h => absurd h (by decide)), (fun _ => ⟨q792, q794, rfl, rfl⟩), (fun h => absurd h (by decide)), (fun h => absurd h (by decide)), (fun h => absurd h (by decide)), (fun h => absurd h (by decide)), (fun h => absurd h (by decide)), by decide, by decide⟩ <|
  am_c ⟨(fun h => absurd h (by decide)), (fun h => absurd h (by decide)), (fun _ => ⟨q829, q643, rfl, rfl⟩), (fun h => absurd h (by decide)), (fun h => absurd h (by decide)), (fun h => absurd h (by decide)), (fun h => absurd h (by decide)), (fun h => absurd h (by decide)), by decide, by decide⟩ <|
  am_c ⟨(fun h => absurd h (by decide)), (fun h => absurd h (by decide)), (fun h => absurd h (by decide)), (fun h => absurd h (by decide)), (fun _ => ⟨q130, rfl, rfl, rfl, rfl⟩), (fun h => absurd h (by decide)), (fun h => absurd h (by decide)), (fun h => absurd h (by decide)), by decide, by decide⟩ <|
  am_c ⟨(fun h => absurd h (by decide)), (fun h => absurd h (by decide)), (fun _ => ⟨q428, qs9, rfl, rfl⟩), (fun h => absurd h (by decide)), (fun h => absurd h (by decide)), (fun h => absurd h (by decide)), (fun h => absurd h (by decide)), (fun h => absurd h (by decide)), by decide, by decide⟩ <|
  am_c ⟨(fun h => absurd h (by decide)), (fun h => absurd h (by decide)), (fun _ => ⟨q432, qs10, rfl, rfl⟩), (fun h => absurd h (by decide)), (fun h => absurd h (by decide)), (fun h => absurd h (by decide)), (fun h => absurd h (by decide)), (fun h => absurd h (by decide)), by decide, by decide⟩ <|
  am_c ⟨(fun h => absurd h (by decide)), (fun h => absurd h (by decide)), (fun h => absurd h (by decide)), (fun h => absurd h (by decide)), (fun _ => ⟨q473, rfl, rfl, rfl, rfl⟩), (fun h => absurd h (by decide)), (fun h => absurd h (by decide)), (fun h => absurd h (by decide)), by decide, by decide⟩ <|
  am_c ⟨(fun h => absurd h (by decide)), (fun h => absurd h (by decide)), (fun _ => ⟨q500, qs12, rfl, rfl⟩), (fun h => absurd h (by decide)), (fun h => absurd h (by decide)), (fun h => absurd h (by decide)), (fun h => absurd h (by decide)), (fun h => absurd h (by decide)), by decide, by decide⟩ <|
  am_c ⟨(fun h => absurd h (by decide)), (fun h => absurd h (by decide)), (fun _ => ⟨q504, qs13, rfl, rfl⟩), (fun h => absurd h (by decide)), (fun h => absurd h (by decide)), (fun h => absurd h (by decide)), (fun h => absurd h (by decide)), (fun h => absurd h (by decide)), by decide, by decide⟩ <|
  am_c ⟨(fun h => absurd h (by decide)), (fun h => absurd h (by decide)), (fun h => absurd h (by decide)), (fun h => absurd h (by decide)), (fun _ => ⟨q509, rfl, rfl, rfl, rfl⟩), (fun h => absurd h (by decide)), (fun h => absurd h (by decide)), (fun h => absurd h (by decide)), by decide, by decide⟩ <|
  am_c ⟨(fun h => absurd h (by decide)), (fun h => absurd h (by decide)), (fun _ => ⟨q510, qs14, rfl, rfl⟩), (fun h => absurd h (by decide)), (fun h => absurd h (by decide)), (fun h => absurd h (by decide)), (fun h => absurd h (by decide)), (fun h => absurd h (by decide)), by decide, by decide⟩ <|
  am_c ⟨(fun h => absurd h (by decide)), (fun h => absurd h (by decide)), (fun _ => ⟨q514, qs15, rfl, rfl⟩), (fun h => absurd h (by decide)), (fun h => absurd h (by decide)), (fun h => absurd h (by decide)), (fun h => absurd h (by decide)), (fun h => absurd h (by decide)), by decide, by decide⟩ <|
  am_c ⟨(fun _ => ⟨q947, rfl, rfl⟩), (fun h => absurd h (by decide)), (fun h => absurd h (by decide)), (fun h => absurd h (by decide)), (fun h => absurd h (by decide)), (fun h => absurd h (by decide)), (fun h => absurd h (by decide)), (fun h => absurd h (by decide)), by decide, by decide⟩ <|
  am_c ⟨(fun _ => ⟨q951, rfl, rfl⟩), (fun h => absurd h (by decide)), (fun h => absurd h (by decide)), (fun h => absurd h (by decide)), (fun h => absurd h (by decide)), (fun h => absurd h (by decide)), (fun h => absurd h (by decide)), (fun h => absurd h (by decide)), by decide, by decide⟩ <|
  am_c ⟨(fun h => absurd h (by decide)), (fun h => absurd h (by decide)), (fun _ => ⟨q955, qs22, rfl, rfl⟩), (fun h => absurd h (by decide)), (fun h => absurd h (by decide)), (fun h => absurd h (by decide)), (fun h => absurd h (by decide)), (fun h => absurd h (by decide)), by decide, by decide⟩ <|
  am_c ⟨(fun h => absurd h (by decide)), (fun h => absurd h (by decide)), (fun _ => ⟨q959, qs23, rfl, rfl⟩), (fun h => absurd h (by decide)), (fun h => absurd h (by decide)), (fun h => absurd h (by decide)), (fun h => absurd h (by decide)), (fun h => absurd h (by decide)), by decide, by decide⟩ <|
  am_c ⟨(fun h => absurd h (by decide)), (fun h => absurd h (by decide)), (fun _ => ⟨q963, qs24, rfl, rfl⟩), (fun h => absurd h (by decide)), (fun h => absurd h (by decide)), (fun h => absurd h (by decide)), (fun h => absurd h (by decide)), (fun h => absurd h (by decide)), by decide, by decide⟩ <|
  am_c ⟨(fun h => absurd h (by decide)), (fun h => absurd h (by decide)), (fun _ => ⟨q976, qs25, rfl, rfl⟩), (fun h => absurd h (by decide)), (fun h => absurd h (by decide)), (fun h => absurd h (by decide)), (fun h => absurd h (by decide)), (fun h => absurd h (by decide)), by decide, by decide⟩ <|
  am_c ⟨(fun h => absurd h (by decide)), (fun h => absurd h (by decide)), (fun _ => ⟨q990, qs26, rfl, rfl⟩), (fun h => absurd h (by decide)), (fun h => absurd h (by decide)), (fun h => absurd h (by decide)), (fun h => absurd h (by decide)), (fun h => absurd h (by decide)), by decide, by decide⟩ <|
  am_c ⟨(fun h => absurd h (by decide)), (fun h => absurd h (by decide)), (fun _ => ⟨q994, qs27, rfl, rfl⟩), (fun h => absurd h (by decide)), (fun h => absurd h (by decide)), (fun h => absurd h (by decide)), (fun h => absurd h (by decide)), (fun h => absurd h (by decide)), by decide, by decide⟩ <|
  am_c ⟨(fun h => absurd h (by decide)), (fun h => absurd h (by decide)), (fun _ => ⟨q998, qs28, rfl, rfl⟩), (fun h => absurd h (by decide)), (fun h => absurd h (by decide)), (fun h => absurd h (by decide)), (fun h => absurd h (by decide)), (fun h => absurd h (by decide)), by decide, by decide⟩ <|
  am_c ⟨(fun h => absurd h (by decide)), (fun h => absurd h (by decide)), (fun _ => ⟨q1002, qs29, rfl, rfl⟩), (fun h => absurd h (by decide)), (fun h => absurd h (by decide)), (fun h => absurd h (by decide)), (fun h => absurd h (by decide)), (fun h => absurd h (by decide)), by decide, by decide⟩ <|
  am_c ⟨(fun h => absurd h (by decide)), (fun h => absurd h (by decide)), (fun _ => ⟨q1006, qs30, rfl, rfl⟩), (fun h => absurd h (by decide)), (fun h => absurd h (by decide)), (fun h => absurd h (by decide)), (fun h => absurd h (by decide)), (fun h => absurd h (by decide)), by decide, by decide⟩ <|
  am_c ⟨(fun h => absurd h (by decide)), (fun h => absurd h (by decide)), (fun _ => ⟨q1019, qs31, rfl, rfl⟩), (fun h => absurd h (by decide)), (fun h => absurd h (by decide)), (fun h => absurd h (by decide)), (fun h => absurd h (by decide)), (fun h => absurd h (by decide)), by decide, by decide⟩ <|
  am_c ⟨(fun h => absurd h (by decide)), (fun h => absurd h (by decide)), (fun _ => ⟨q1039, qs32, rfl, rfl⟩), (fun h => absurd h (by decide)), (fun h => absurd h (by decide)), (fun h => absurd h (by decide)), (fun h => absurd h (by decide)), (fun h => absurd h (by decide)), by decide, by decide⟩ <|
  am_c ⟨(fun h => absurd h (by decide)), (fun h => absurd h (by decide)), (fun _ => ⟨q1056, qs33, rfl, rfl⟩), (fun h => absurd h (by decide)), (fun h => absurd h (by decide)), (fun h => absurd h (by decide)), (fun h => absurd h (by decide)), (fun h => absurd h (by decide)), by decide, by decide⟩ <|
  am_c ⟨(fun h => absurd h (by decide)), (fun h => absurd h (by decide)), (fun _ => ⟨q1060, qs34, rfl, rfl⟩), (fun h => absurd h (by decide)), (fun h => absurd h (by decide)), (fun h => absurd h (by decide)), (fun h => absurd h (by decide)), (fun h => absurd h (by decide)), by decide, by decide⟩ <|
  am_c ⟨(fun _ => ⟨q1064, rfl, rfl⟩), (fun h => absurd h (by decide)), (fun h => absurd h (by decide)), (fun h => absurd h (by decide)), (fun h => absurd h (by decide)), (fun h => absurd h (by decide)), (fun h => absurd h (by decide)), (fun h => absurd h (by decide)), by decide, by decide⟩ <|
  am_c ⟨(fun _ => ⟨q1069, rfl, rfl⟩), (fun h => absurd h (by decide)), (fun h => absurd h (by decide)), (fun h => absurd h (by decide)), (fun h => absurd h (by decide)), (fun h => absurd h (by decide)), (fun h => absurd h (by decide)), (fun h => absurd h (by decide)), by decide, by decide⟩ <|
  am_c ⟨(fun h => absurd h (by decide)), (fun h => absurd h (by decide)), (fun _ => ⟨q1072, qs35, rfl, rfl⟩), (fun h => absurd h (by decide)), (fun h => absurd h (by decide)), (fun h => absurd h (by decide)), (fun h => absurd h (by decide)), (fun h => absurd h (by decide)), by decide, by decide⟩ <|
  am_c ⟨(fun _ => ⟨q1081, rfl, rfl⟩), (fun h => absurd h (by decide)), (fun h => absurd h (by decide)), (fun h => absurd h (by decide)), (fun h => absurd h (by decide)), (fun h => absurd h (by decide)), (fun h => absurd h (by decide)), (fun h => absurd h (by decide)), by decide, by decide⟩ <|
  am_c ⟨(fun h => absurd h (by decide)), (fun h => absurd h (by decide)), (fun _ => ⟨q1084, qs36, rfl, rfl⟩), (fun h => absurd h (by decide)), (fun h => absurd h (by decide)), (fun h => absurd h (by decide)), (fun h => absurd h (by decide)), (fun h => absurd h (by decide)), by decide, by decide⟩ <|
  am_c ⟨(fun _ => ⟨q1088, rfl, rfl⟩), (fun h => absurd h (by decide)), (fun h => absurd h (by decide)), (fun h => absurd h (by decide)), (fun h => absurd h (by decide)), (fun h => absurd h (by decide)), (fun h => absurd h (by decide)), (fun h => absurd h (by decide)), by decide, by decide⟩ <|
  am_c ⟨(fun h => absurd h (by decide)), (fun h => absurd h (by decide)), (fun _ => ⟨q1091, qs37, rfl, rfl⟩), (fun h => absurd h (by decide)), (fun h => absurd h (by decide)), (fun h => absurd h (by decide)), (fun h => absurd h (by decide)), (fun h => absurd h (by decide)), by decide, by decide⟩ <|
  am_c ⟨(fun _ => ⟨q1099, rfl, rfl⟩), (fun h => absurd h (by decide)), (fun h => absurd h (by decide)), (fun h => absurd h (by decide)), (fun h => absurd h (by decide)), (fun h => absurd h (by decide)), (fun h => absurd h (by decide)), (fun h => absurd h (by decide)), by decide, by decide⟩ <|
  am_c ⟨(fun h => absurd h (by decide)), (fun h => absurd h (by decide)), (fun _ => ⟨q1102, qs38, rfl, rfl⟩), (fun h => absurd h (by decide)), (fun h => absurd h (by decide)), (fun h => absurd h (by decide)), (fun h => absurd h (by decide)), (fun h => absurd h (by decide)), by decide, by decide⟩ <|
  am_c ⟨(fun h => absurd h (by decide)), (fun h => absurd h (by decide)), (fun _ => ⟨q1106, qs39, rfl, rfl⟩), (fun h => absurd h (by decide)), (fun h => absurd h (by decide)), (fun h => absurd h (by decide)), (fun h => absurd h (by decide)), (fun h => absurd h (by decide)), by decide, by decide⟩ <|
  am_c ⟨(fun h => absurd h (by decide)), (fun h => absurd h (by decide)), (fun _ => ⟨q1110, qs40, rfl, rfl⟩), (fun h => absurd h (by decide)), (fun h => absurd h (by decide)), (fun h => absurd h (by decide)), (fun h => absurd h (by decide)), (fun h => absurd h (by decide)), by decide, by decide⟩ <|
  am_c ⟨(fun h => absurd h (by decide)), (fun h => absurd h (by decide)), (fun _ => ⟨q1114, qs41, rfl, rfl⟩), (fun h => absurd h (by decide)), (fun h => absurd h (by decide)), (fun h => absurd h (by decide)), (fun h => absurd h (by decide)), (fun h => absurd h (by decide)), by decide, by decide⟩ <|
  am_c ⟨(fun h => absurd h (by decide)), (fun h => absurd h (by decide)), (fun _ => ⟨q1118, qs42, rfl, rfl⟩), (fun h => absurd h (by decide)), (fun h => absurd h (by decide)), (fun h => absurd h (by decide)), (fun h => absurd h (by decide)), (fun h => absurd h (by decide)), by decide, by decide⟩ <|
  am_c ⟨(fun h => absurd h (by decide)), (fun h => absurd h (by decide)), (fun _ => ⟨q1122, qs43, rfl, rfl⟩), (fun h => absurd h (by decide)), (fun h => absurd h (by decide)), (fun h => absurd h (by decide)), (fun h => absurd h (by decide)), (fun h => absurd h (by decide)), by decide, by decide⟩ <|
  am_c ⟨(fun h => absurd h (by decide)), (fun h => absurd h (by decide)), (fun _ => ⟨q1126, qs44, rfl, rfl⟩), (fun h => absurd h (by decide)), (fun h => absurd h (by decide)), (fun h => absurd h (by decide)), (fun h => absurd h (by decide)), (fun h => absurd h (by decide)), by decide, by decide⟩ <|
  am_c ⟨(fun h => absurd h (by decide)), (fun h => absurd h (by decide)), (fun _ => ⟨q1130, qs45, rfl, rfl⟩), (fun h => absurd h (by decide)), (fun h => absurd h (by decide)), (fun h => absurd h (by decide)), (fun h => absurd h (by decide)), (fun h => absurd h (by decide)), by decide, by decide⟩ <|
  am_c ⟨(fun h => absurd h (by decide)), (fun h => absurd h (by decide)), (fun _ => ⟨q1134, qs46, rfl, rfl⟩), (fun h => absurd h (by decide)), (fun h => absurd h (by decide)), (fun h => absurd h (by decide)), (fun h => absurd h (by decide)), (fun h => absurd h (by decide)), by decide, by decide⟩ <|
  am_c ⟨(fun h => absurd h (by decide)), (fun h => absurd h (by decide)), (fun _ => ⟨q1138, qs47, rfl, rfl⟩), (fun h => absurd h (by decide)), (fun h => absurd h (by decide)), (fun h => absurd h (by decide)), (fun h => absurd h (by decide)), (fun h => absurd h (by decide)), by decide, by decide⟩ <|
  am_c ⟨(fun h => absurd h (by decide)), (fun h => absurd h (by decide)), (fun _ => ⟨q1142, qs48, rfl, rfl⟩), (fun h => absurd h (by decide)), (fun h => absurd h (by decide)), (fun h => absurd h (by decide)), (fun h => absurd h (by decide)), (fun h => absurd h (by decide)), by decide, by decide⟩ <|
  am_c ⟨(fun h => absurd h (by decide)), (fun h => absurd h (by decide)), (fun _ => ⟨q1146, qs49, rfl, rfl⟩), (fun h => absurd h (by decide)), (fun h => absurd h (by decide)), (fun h => absurd h (by decide)), (fun h => absurd h (by decide)), (fun h => absurd h (by decide)), by decide, by decide⟩ <|
  am_c ⟨(fun h => absurd h (by decide)), (fun h => absurd h (by decide)), (fun _ => ⟨q1159, qs50, rfl, rfl⟩), (fun h => absurd h (by decide)), (fun h => absurd h (by decide)), (fun h => absurd h (by decide)), (fun h => absurd h (by decide)), (fun h => absurd h (by decide)), by decide, by decide⟩ <|
  am_c ⟨(fun h => absurd h (by decide)), (fun h => absurd h (by decide)), (fun _ => ⟨q1176, qs51, rfl, rfl⟩), (fun h => absurd h (by decide)), (fun h => absurd h (by decide)), (fun h => absurd h (by decide)), (fun h => absurd h (by decide)), (fun h => absurd h (by decide)), by decide, by decide⟩ <|
  am_c ⟨(fun h => absurd h (by decide)), (fun h => absurd h (by decide)), (fun _ => ⟨q1180, qs52, rfl, rfl⟩), (fun h => absurd h (by decide)), (fun h => absurd h (by decide)), (fun h => absurd h (by decide)), (fun h => absurd h (by decide)), (fun h => absurd h (by decide)), by decide, by decide⟩ <|
  am_c ⟨(fun h => absurd h (by decide)), (fun h => absurd h (by decide)), (fun _ => ⟨q1184, qs53, rfl, rfl⟩), (fun h => absurd h (by decide)), (fun h => absurd h (by decide)), (fun h => absurd h (by decide)), (fun h => absurd h (by decide)), (fun h => absurd h (by decide)), by decide, by decide⟩ <|
  am_c ⟨(fun h => absurd h (by decide)), (fun h => absurd h (by decide)), (fun _ => ⟨q1188, qs54, rfl, rfl⟩), (fun h => absurd h (by decide)), (fun h => absurd h (by decide)), (fun h => absurd h (by decide)), (fun h => absurd h (by decide)), (fun h => absurd h (by decide)), by decide, by decide⟩ <|
  am_c ⟨(fun h => absurd h (by decide)), (fun h => absurd h (by decide)), (fun h => absurd h (by decide)), (fun h => absurd h (by decide)), (fun _ => ⟨q332, rfl, rfl, rfl, rfl⟩), (fun h => absurd h (by decide)), (fun h => absurd h (by decide)), (fun h => absurd h (by decide)), by decide, by decide⟩ <|
  am_c ⟨(fun h => absurd h (by decide)), (fun h => absurd h (by decide)), (fun _ => ⟨q361, qs5, rfl, rfl⟩), (fun h => absurd h (by decide)), (fun h => absurd h (by decide)), (fun h => absurd h (by decide)), (fun h => absurd h (by decide)), (fun h => absurd h (by decide)), by decide, by decide⟩ <|
  am_c ⟨(fun h => absurd h (by decide)), (fun h => absurd h (by decide)), (fun _ => ⟨q365, qs6, rfl, rfl⟩), (fun h => absurd h (by decide)), (fun h => absurd h (by decide)), (fun h => absurd h (by decide)), (fun h => absurd h (by decide)), (fun h => absurd h (by decide)), by decide, by decide⟩ <|
  am_c ⟨(fun h => absurd h (by decide)), (fun h => absurd h (by decide)), (fun _ => ⟨q369, qs7, rfl, rfl⟩), (fun h => absurd h (by decide)), (fun h => absurd h (by decide)), (fun h => absurd h (by decide)), (fun h => absurd h (by decide)), (fun h => absurd h (by decide)), by decide, by decide⟩ <|
  am_c ⟨(fun h => absurd h (by decide)), (fun h => absurd h (by decide)), (fun h => absurd h (by decide)), (fun h => absurd h (by decide)), (fun _ => ⟨q476, rfl, rfl, rfl, rfl⟩), (fun h => absurd h (by decide)), (fun h => absurd h (by decide)), (fun h => absurd h (by decide)), by decide, by decide⟩ <|
  am_c ⟨(fun h => absurd h (by decide)), (fun h => absurd h (by decide)), (fun _ => ⟨q545, q542, rfl, rfl⟩), (fun h => absurd h (by decide)), (fun h => absurd h (by decide)), (fun h => absurd h (by decide)), (fun h => absurd h (by decide)), (fun h => absurd h (by decide)), by decide, by decide⟩ <|
  am_c ⟨(fun h => absurd h (by decide)), (fun h => absurd h (by decide)), (fun h => absurd h (by decide)), (fun h => absurd h (by decide)), (fun _ => ⟨q546, rfl, rfl, rfl, rfl⟩), (fun h => absurd h (by decide)), (fun h => absurd h (by decide)), (fun h => absurd h (by decide)), by decide, by decide⟩ <|
  am_c ⟨(fun h => absurd h (by decide)), (fun h => absurd h (by decide)), (fun _ => ⟨q547, qs16, rfl, rfl⟩), (fun h => absurd h (by decide)), (fun h => absurd h (by decide)), (fun h => absurd h (by decide)), (fun h => absurd h (by decide)), (fun h => absurd h (by decide)), by decide, by decide⟩ <|
  am_c ⟨(fun h => absurd h (by decide)), (fun h => absurd h (by decide)), (fun _ => ⟨q551, qs17, rfl, rfl⟩), (fun h => absurd h (by decide)), (fun h => absurd h (by decide)), (fun h => absurd h (by decide)), (fun h => absurd h (by decide)), (fun h => absurd h (by decide)), by decide, by decide⟩ <|
  am_c ⟨(fun h => absurd h (by decide)), (fun h => absurd h (by decide)), (fun _ => ⟨q555, q355, rfl, rfl⟩), (fun h => absurd h (by decide)), (fun h => absurd h (by decide)), (fun h => absurd h (by decide)), (fun h => absurd h (by decide)), (fun h => absurd h (by decide)), by decide, by decide⟩ <|
  am_c ⟨(fun h => absurd h (by decide)), (fun h => absurd h (by decide)), (fun _ => ⟨q556, qs18, rfl, rfl⟩), (fun h => absurd h (by decide)), (fun h => absurd h (by decide)), (fun h => absurd h (by decide)), (fun h => absurd h (by decide)), (fun h => absurd h (by decide)), by decide, by decide⟩ <|
  am_c ⟨(fun h => absurd h (by decide)), (fun h => absurd h (by decide)), (fun _ => ⟨q560, qs19, rfl, rfl⟩), (fun h => absurd h (by decide)), (fun h => absurd h (by decide)), (fun h => absurd h (by decide)), (fun h => absurd h (by decide)), (fun h => absurd h (by decide)), by decide, by decide⟩ <|
  am_c ⟨(fun h => absurd h (by decide)), (fun h => absurd h (by decide)), (fun _ => ⟨q564, q566, rfl, rfl⟩), (fun h => absurd h (by decide)), (fun h => absurd h (by decide)), (fun h => absurd h (by decide)), (fun h => absurd h (by decide)), (fun h => absurd h (by decide)), by decide, by decide⟩ <|
  am_c ⟨(fun h => absurd h (by decide)), (fun h => absurd h (by decide)), (fun _ => ⟨q573, qs20, rfl, rfl⟩), (fun h => absurd h (by decide)), (fun h => absurd h (by decide)), (fun h => absurd h (by decide)), (fun h => absurd h (by decide)), (fun h => absurd h (by decide)), by decide, by decide⟩ <|
  am_c ⟨(fun h => absurd h (by decide)), (fun h => absurd h (by decide)), (fun h => absurd h (by decide)), (fun h => absurd h (by decide)), (fun _ => ⟨q81, rfl, rfl, rfl, rfl⟩), (fun h => absurd h (by decide)), (fun h => absurd h (by decide)), (fun h => absurd h (by decide)), by decide, by decide⟩ <|
  am_c ⟨(fun h => absurd h (by decide)), (fun h => absurd h (by decide)), (fun _ => ⟨q257, q259, rfl, rfl⟩), (fun h => absurd h (by decide)), (fun h => absurd h (by decide)), (fun h => absurd h (by decide)), (fun h => absurd h (by decide)), (fun h => absurd h (by decide)), by decide, by decide⟩ <|
  am_c ⟨(fun h => absurd h (by decide)), (fun h => absurd h (by decide)), (fun _ => ⟨q292, q294, rfl, rfl⟩), (fun h => absurd h (by decide)), (fun h => absurd h (by decide)), (fun h => absurd h (by decide)), (fun h => absurd h (by decide)), (fun h => absurd h (by decide)), by decide, by decide⟩ <|
  am_c ⟨(fun h => absurd h (by decide)), (fun h => absurd h (by decide)), (fun _ => ⟨q296, q298, rfl, rfl⟩), (fun h => absurd h (by decide)), (fun h => absurd h (by decide)), (fun h => absurd h (by decide)), (fun h => absurd h (by decide)), (fun h => absurd h (by decide)), by decide, by decide⟩ <|
  am_c ⟨(fun h => absurd h (by decide)), (fun h => absurd h (by decide)), (fun _ => ⟨q319, q321, rfl, rfl⟩), (fun h => absurd h (by decide)), (fun h => absurd h (by decide)), (fun h => absurd h (by decide)), (fun h => absurd h (by decide)), (fun h => absurd h (by decide)), by decide, by decide⟩ <|
  am_c ⟨(fun h => absurd h (by decide)), (fun h => absurd h (by decide)), (fun _ => ⟨q323, q325, rfl, rfl⟩), (fun h => absurd h (by decide)), (fun h => absurd h (by decide)), (fun h => absurd h (by decide)), (fun h => absurd h (by decide)), (fun h => absurd h (by decide)), by decide, by decide⟩ <|
  am_c ⟨(fun h => absurd h (by decide)), (fun h => absurd h (by decide)), (fun _ => ⟨q373, q375, rfl, rfl⟩), (fun h => absurd h (by decide)), (fun h => absurd h (by decide)), (fun h => absurd h (by decide)), (fun h => absurd h (by decide)), (fun h => absurd h (by decide)), by decide, by decide⟩ <|
  am_c ⟨(fun h => absurd h (by decide)), (fun h => absurd h (by decide)), (fun _ => ⟨q377, q379, rfl, rfl⟩), (fun h => absurd h (by decide)), (fun h => absurd h (by decide)), (fun h => absurd h (by decide)), (fun h => absurd h (by decide)), (fun h => absurd h (by decide)), by decide, by decide⟩ <|
  am_c ⟨(fun h => absurd h (by decide)), (fun h => absurd h (by decide)), (fun _ => ⟨q395, q397, rfl, rfl⟩), (fun h => absurd h (by decide)), (fun h => absurd h (by decide)), (fun h => absurd h (by decide)), (fun h => absurd h (by decide)), (fun h => absurd h (by decide)), by decide, by decide⟩ <|
  am_c ⟨(fun h => absurd h (by decide)), (fun h => absurd h (by decide)), (fun _ => ⟨q399, q401, rfl, rfl⟩), (fun h => absurd h (by decide)), (fun h => absurd h (by decide)), (fun h => absurd h (by decide)), (fun h => absurd h (by decide)), (fun h => absurd h (by decide)), by decide, by decide⟩ <|
  am_c ⟨(fun h => absurd h (by decide)), (fun h => absurd h (by decide)), (fun _ => ⟨q403, q405, rfl, rfl⟩), (fun h => absurd h (by decide)), (fun h => absurd h (by decide)), (fun h => absurd h (by decide)), (fun h => absurd h (by decide)), (fun h => absurd h (by decide)), by decide, by decide⟩ <|
  am_c ⟨(fun h => absurd h (by decide)), (fun h => absurd h (by decide)), (fun _ => ⟨q407, q409, rfl, rfl⟩), (fun h => absurd h (by decide)), (fun h => absurd h (by decide)), (fun h => absurd h (by decide)), (fun h => absurd h (by decide)), (fun h => absurd h (by decide)), by decide, by decide⟩ <|
  am_c ⟨(fun h => absurd h (by decide)), (fun h => absurd h (by decide)), (fun _ => ⟨q411, q413, rfl, rfl⟩), (fun h => absurd h (by decide)), (fun h => absurd h (by decide)), (fun h => absurd h (by decide)), (fun h => absurd h (by decide)), (fun h => absurd h (by decide)), by decide, by decide⟩ <|
  am_c ⟨(fun h => absurd h (by decide)), (fun h => absurd h (by decide)), (fun _ => ⟨q415, q417, rfl, rfl⟩), (fun h => absurd h (by decide)), (fun h => absurd h (by decide)), (fun h => absurd h (by decide)), (fun h => absurd h (by decide)), (fun h => absurd h (by decide)), by decide, by decide⟩ <|
  am_c ⟨(fun h => absurd h (by decide)), (fun h => absurd h (by decide)), (fun h => absurd h (by decide)), (fun h => absurd h (by decide)), (fun h => absurd h (by decide)), (fun h => absurd h (by decide)), (fun h => absurd h (by decide)), (fun _ => ⟨q419, q421, rfl, fun h => by cases h⟩), by decide, by decide⟩ <|
  am_c ⟨(fun h => absurd h (by decide)), (fun h => absurd h (by decide)), (fun _ => ⟨q518, q520, rfl, rfl⟩), (fun h => absurd h (by decide)), (fun h => absurd h (by decide)), (fun h => absurd h (by decide)), (fun h => absurd h (by decide)), (fun h => absurd h (by decide)), by decide, by decide⟩ <|
  am_c ⟨(fun h => absurd h (by decide)), (fun h => absurd h (by decide)), (fun _ => ⟨q577, q579, rfl, rfl⟩), (fun h => absurd h (by decide)), (fun h => absurd h (by decide)), (fun h => absurd h (by decide)), (fun h => absurd h (by decide)), (fun h => absurd h (by decide)), by decide, by decide⟩ <|
  am_c ⟨(fun h => absurd h (by decide)), (fun h => absurd h (by decide)), (fun _ => ⟨q581, q583, rfl, rfl⟩), (fun h => absurd h (by decide)), (fun h => absurd h (by decide)), (fun h => absurd h (by decide)), (fun h => absurd h (by decide)), (fun h => absurd h (by decide)), by decide, by decide⟩ <|
  am_c ⟨(fun h => absurd h (by decide)), (fun h => absurd h (by decide)), (fun _ => ⟨q590, q592, rfl, rfl⟩), (fun h => absurd h (by decide)), (fun h => absurd h (by decide)), (fun h => absurd h (by decide)), (fun h => absurd h (by decide)), (fun h => absurd h (by decide)), by decide, by decide⟩ <|
  am_c ⟨(fun h => absurd h (by decide)), (fun h => absurd h (by decide)), (fun _ => ⟨q594, q596, rfl, rfl⟩), (fun h => absurd h (by decide)), (fun h => absurd h (by decide)), (fun h => absurd h (by decide)), (fun h => absurd h (by decide)), (fun h => absurd h (by decide)), by decide, by decide⟩ <|
  am_c ⟨(fun h => absurd h (by decide)), (fun h => absurd h (by decide)), (fun _ => ⟨q603, q605, rfl, rfl⟩), (fun h => absurd h (by decide)), (fun h => absurd h (by decide)), (fun h => absurd h (by decide)), (fun h => absurd h (by decide)), (fun h => absurd h (by decide)), by decide, by decide⟩ <|
  am_c ⟨(fun h => absurd h (by decide)), (fun h => absurd h (by decide)), (fun _ => ⟨q847, q849, rfl, rfl⟩), (fun h => absurd h (by decide)), (fun h => absurd h (by decide)), (fun h => absurd h (by decide)), (fun h => absurd h (by decide)), (fun h => absurd h (by decide)), by decide, by decide⟩ <|
  am_c ⟨(fun h => absurd h (by decide)), (fun h => absurd h (by decide)), (fun _ => ⟨q851, q853, rfl, rfl⟩), (fun h => absurd h (by decide)), (fun h => absurd h (by decide)), (fun h => absurd h (by decide)), (fun h => absurd h (by decide)), (fun h => absurd h (by decide)), by decide, by decide⟩ <|
  am_c ⟨(fun h => absurd h (by decide)), (fun h => absurd h (by decide)), (fun _ => ⟨q855, q857, rfl, rfl⟩), (fun h => absurd h (by decide)), (fun h => absurd h (by decide)), (fun h => absurd h (by decide)), (fun h => absurd h (by decide)), (fun h => absurd h (by decide)), by decide, by decide⟩ <|
  am_c ⟨(fun h => absurd h (by decide)), (fun h => absurd h (by decide)), (fun h => absurd h (by decide)), (fun h => absurd h (by decide)), (fun _ => ⟨q869, rfl, rfl, rfl, rfl⟩), (fun h => absurd h (by decide)), (fun h => absurd h (by decide)), (fun h => absurd h (by decide)), by decide, by decide⟩ <|
  am_c ⟨(fun h => absurd h (by decide)), (fun h => absurd h (by decide)), (fun _ => ⟨q943, q945, rfl, rfl⟩), (fun h => absurd h (by decide)), (fun h => absurd h (by decide)), (fun h => absurd h (by decide)), (fun h => absurd h (by decide)), (fun h => absurd h (by decide)), by decide, by decide⟩ <|
  am_c ⟨(fun h => absurd h (by decide)), (fun h => absurd h (by decide)), (fun _ => ⟨q967, q969, rfl, rfl⟩), (fun h => absurd h (by decide)), (fun h => absurd h (by decide)), (fun h => absurd h (by decide)), (fun h => absurd h (by decide)), (fun h => absurd h (by decide)), by decide, by decide⟩ <|
  am_c ⟨(fun h => absurd h (by decide)), (fun h => absurd h (by decide)), (fun _ => ⟨q972, q974, rfl, rfl⟩), (fun h => absurd h (by decide)), (fun h => absurd h (by decide)), (fun h => absurd h (by decide)), (fun h => absurd h (by decide)), (fun h => absurd h (by decide)), by decide, by decide⟩ <|
  am_c ⟨(fun h => absurd h (by decide)), (fun h => absurd h (by decide)), (fun _ => ⟨q982, q984, rfl, rfl⟩), (fun h => absurd h (by decide)), (fun h => absurd h (by decide)), (fun h => absurd h (by decide)), (fun h => absurd h (by decide)), (fun h => absurd h (by decide)), by decide, by decide⟩ <|
  am_c ⟨(fun h => absurd h (by decide)), (fun h => absurd h (by decide)), (fun _ => ⟨q986, q988, rfl, rfl⟩), (fun h => absurd h (by decide)), (fun h => absurd h (by decide)), (fun h => absurd h (by decide)), (fun h => absurd h (by decide)), (fun h => absurd h (by decide)), by decide, by decide⟩ <|
  am_c ⟨(fun h => absurd h (by decide)), (fun h => absurd h (by decide)), (fun _ => ⟨q1010, q1012, rfl, rfl⟩), (fun h => absurd h (by decide)), (fun h => absurd h (by decide)), (fun h => absurd h (by decide)), (fun h => absurd h (by decide)), (fun h => absurd h (by decide)), by decide, by decide⟩ <|
  am_c ⟨(fun h => absurd h (by decide)), (fun h => absurd h (by decide)), (fun _ => ⟨q1014, q1016, rfl, rfl⟩), (fun h => absurd h (by decide)), (fun h => absurd h (by decide)), (fun h => absurd h (by decide)), (fun h => absurd h (by decide)), (fun h => absurd h (by decide)), by decide, by decide⟩ <|
  am_c ⟨(fun h => absurd h (by decide)), (fun h => absurd h (by decide)), (fun _ => ⟨q1023, q1025, rfl, rfl⟩), (fun h => absurd h (by decide)), (fun h => absurd h (by decide)), (fun h => absurd h (by decide)), (fun h => absurd h (by decide)), (fun h => absurd h (by decide)), by decide, by decide⟩ <|
  am_c ⟨(fun h => absurd h (by decide)), (fun h => absurd h (by decide)), (fun _ => ⟨q1027, q1029, rfl, rfl⟩), (fun h => absurd h (by decide)), (fun h => absurd h (by decide)), (fun h => absurd h (by decide)), (fun h => absurd h (by decide)), (fun h => absurd h (by decide)), by decide, by decide⟩ <|
  am_c ⟨(fun h => absurd h (by decide)), (fun h => absurd h (by decide)), (fun _ => ⟨q1031, q1033, rfl, rfl⟩), (fun h => absurd h (by decide)), (fun h => absurd h (by decide)), (fun h => absurd h (by decide)), (fun h => absurd h (by decide)), (fun h => absurd h (by decide)), by decide, by decide⟩ <|
  am_c ⟨(fun h => absurd h (by decide)), (fun h => absurd h (by decide)), (fun _ => ⟨q1035, q1037, rfl, rfl⟩), (fun h => absurd h (by decide)), (fun h => absurd h (by decide)), (fun h => absurd h (by decide)), (fun h => absurd h (by decide)), (fun h => absurd h (by decide)), by decide, by decide⟩ <|
  am_c ⟨(fun h => absurd h (by decide)), (fun h => absurd h (by decide)), (fun _ => ⟨q1043, q1045, rfl, rfl⟩), (fun h => absurd h (by decide)), (fun h => absurd h (by decide)), (fun h => absurd h (by decide)), (fun h => absurd h (by decide)), (fun h => absurd h (by decide)), by decide, by decide⟩ <|
  am_c ⟨(fun h => absurd h (by decide)), (fun h => absurd h (by decide)), (fun _ => ⟨q1048, q1050, rfl, rfl⟩), (fun h => absurd h (by decide)), (fun h => absurd h (by decide)), (fun h => absurd h (by decide)), (fun h => absurd h (by decide)), (fun h => absurd h (by decide)), by decide, by decide⟩ <|
  am_c ⟨(fun h => absurd h (by decide)), (fun h => absurd h (by decide)), (fun _ => ⟨q1052, q1054, rfl, rfl⟩), (fun h => absurd h (by decide)), (fun h => absurd h (by decide)), (fun h => absurd h (by decide)), (fun h => absurd h (by decide)), (fun h => absurd h (by decide)), by decide, by decide⟩ <|
  am_c ⟨(fun h => absurd h (by decide)), (fun h => absurd h (by decide)), (fun _ => ⟨q1095, q1097, rfl, rfl⟩), (fun h => absurd h (by decide)), (fun h => absurd h (by decide)), (fun h => absurd h (by decide)), (fun h => absurd h (by decide)), (fun h => absurd h (by decide)), by decide, by decide⟩ <|
  am_c ⟨(fun h => absurd h (by decide)), (fun h => absurd h (by decide)), (fun _ => ⟨q1150, q1152, rfl, rfl⟩), (fun h => absurd h (by decide)), (fun h => absurd h (by decide)), (fun h => absurd h (by decide)), (fun h => absurd h (by decide)), (fun h => absurd h (by decide)), by decide, by decide⟩ <|
  am_c ⟨(fun h => absurd h (by decide)), (fun h => absurd h (by decide)), (fun _ => ⟨q1155, q1157, rfl, rfl⟩), (fun h => absurd h (by decide)), (fun h => absurd h (by decide)), (fun h => absurd h (by decide)), (fun h => absurd h (by decide)), (fun h => absurd h (by decide)), by decide, by decide⟩ <|
  am_c ⟨(fun h => absurd h (by decide)), (fun h => absurd h (by decide)), (fun _ => ⟨q1163, q1165, rfl, rfl⟩), (fun h => absurd h (by decide)), (fun h => absurd h (by decide)), (fun h => absurd h (by decide)), (fun h => absurd h (by decide)), (fun h => absurd h (by decide)), by decide, by decide⟩ <|
  am_c ⟨(fun h => absurd h (by decide)), (fun h => absurd h (by decide)), (fun _ => ⟨q1167, q1169, rfl, rfl⟩), (fun h => absurd h (by decide)), (fun h => absurd h (by decide)), (fun h => absurd h (by decide)), (fun h => absurd h (by decide)), (fun h => absurd h (by decide)), by decide, by decide⟩ <|
  am_c ⟨(fun h => absurd h (by decide)), (fun h => absurd h (by decide)), (fun _ => ⟨q1172, q1174, rfl, rfl⟩), (fun h => absurd h (by decide)), (fun h => absurd h (by decide)), (fun h => absurd h (by decide)), (fun h => absurd h (by decide)), (fun h => absurd h (by decide)), by decide, by decide⟩ <|
  am_c ⟨(fun h => absurd h (by decide)), (fun h => absurd h (by decide)), (fun _ => ⟨q1192, q1194, rfl, rfl⟩), (fun h => absurd h (by decide)), (fun h => absurd h (by decide)), (fun h => absurd h (by decide)), (fun h => absurd h (by decide)), (fun h => absurd h (by decide)), by decide, by decide⟩ <|
  am_c ⟨(fun h => absurd h (by decide)), (fun h => absurd h (by decide)), (fun _ => ⟨q1196, q1198, rfl, rfl⟩), (fun h => absurd h (by decide)), (fun h => absurd h (by decide)), (fun h => absurd h (by decide)), (fun h => absurd h (by decide)), (fun h => absurd h (by decide)), by decide, by decide⟩ <|
  am_c ⟨(fun h => absurd h (by decide)), (fun h => absurd h (by decide)), (fun _ => ⟨q1202, q1204, rfl, rfl⟩), (fun h => absurd h (by decide)), (fun h => absurd h (by decide)), (fun h => absurd h (by decide)), (fun h => absurd h (by decide)), (fun h => absurd h (by decide)), by decide, by decide⟩ <|
  am_c ⟨(fun h => absurd h (by decide)), (fun h => absurd h (by decide)), (fun h => absurd h (by decide)), (fun h => absurd h (by decide)), (fun h => absurd h (by decide)), (fun _ => ⟨(List.mem_of_getElem? (i := 51) rfl), rfl, rfl, rfl, rfl⟩), (fun h => absurd h (by decide)), (fun h => absurd h (by decide)), by decide, by decide⟩ <|
  am_c ⟨(fun h => absurd h (by decide)), (fun h => absurd h (by decide)), (fun h => absurd h (by decide)), (fun h => absurd h (by decide)), (fun h => absurd h (by decide)), (fun _ => ⟨(List.mem_of_getElem? (i := 52) rfl), rfl, rfl, rfl, rfl⟩), (fun h => absurd h (by decide)), (fun h => absurd h (by decide)), by decide, by decide⟩ <|
  am_c ⟨(fun h => absurd h (by decide)), (fun h => absurd h (by decide)), (fun h => absurd h (by decide)), (fun h => absurd h (by decide)), (fun h => absurd h (by decide)), (fun _ => ⟨(List.mem_of_getElem? (i := 53) rfl), rfl, rfl, rfl, rfl⟩), (fun h => absurd h (by decide)), (fun h => absurd h (by decide)), by decide, by decide⟩ <|
  am_c ⟨(fun h => absurd h (by decide)), (fun _ => ⟨(List.mem_of_getElem? (i := 54) rfl), rfl, rfl⟩), (fun h => absurd h (by decide)), (fun h => absurd h (by decide)), (fun h => absurd h (by decide)), (fun h => absurd h (by decide)), (fun h => absurd h (by decide)), (fun h => absurd h (by decide)), by decide, by decide⟩ <|
  am_nl
theorem am_tab0_ok : ∀ e ∈ am_tab0, am_mP e :=
  am_c ⟨q83, q82, q56, by decide, rfl, ⟨by decide, by decide⟩, by decide +kernel, by decide⟩ <|
  am_c ⟨q260, q258, q56, by decide, rfl, ⟨by decide, by decide⟩, by decide +kernel, by decide⟩ <|
  am_c ⟨q264, q263, q56, by decide, rfl, ⟨by decide, by decide⟩, by decide +kernel, by decide⟩ <|
  am_c ⟨q267, q266, q56, by decide, rfl, ⟨by decide, by decide⟩, by decide +kernel, by decide⟩ <|
  am_c ⟨q270, q269, q56, by decide, rfl, ⟨by decide, by decide⟩, by decide +kernel, by decide⟩ <|
  am_c ⟨q274, q273, q56, by decide, rfl, ⟨by decide, by decide⟩, by decide +kernel, by decide⟩ <|
  am_c ⟨q278, q277, q56, by decide, rfl, ⟨by decide, by decide⟩, by decide +kernel, by decide⟩ <|
  am_c ⟨q295, q293, q56, by decide, rfl, ⟨by decide, by decide⟩, by decide +kernel, by decide⟩ <|
  am_c ⟨q299, q297, q56, by decide, rfl, ⟨by decide, by decide⟩, by decide +kernel, by decide⟩ <|
  am_c ⟨q303, q302, q56, by decide, rfl, ⟨by decide, by decide⟩, by decide +kernel, by decide⟩ <|
  am_c ⟨q322, q320, q56, by decide, rfl, ⟨by decide, by decide⟩, by decide +kernel, by decide⟩ <|
  am_c ⟨q326, q324, q56, by decide, rfl, ⟨by decide, by decide⟩, by decide +kernel, by decide⟩ <|
  am_c ⟨q352, q351, q56, by decide, rfl, ⟨by decide, by decide⟩, by decide +kernel, by decide⟩ <|
  am_c ⟨q376, q374, q56, by decide, rfl, ⟨by decide, by decide⟩, by decide +kernel, by decide⟩ <|
  am_c ⟨q380, q378, q56, by decide, rfl, ⟨by decide, by decide⟩, by decide +kernel, by decide⟩ <|
  am_c ⟨q384, q383, q56, by decide, rfl, ⟨by decide, by decide⟩, by decide +kernel, by decide⟩ <|
  am_c ⟨q387, q386, q56, by decide, rfl, ⟨by decide, by decide⟩, by decide +kernel, by decide⟩ <|
  am_c ⟨q398, q396, q56, by decide, rfl, ⟨by decide, by decide⟩, by decide +kernel, by decide⟩ <|
  am_c ⟨q402, q400, q56, by decide, rfl, ⟨by decide, by decide⟩, by decide +kernel, by decide⟩ <|
  am_c ⟨q406, q404, q56, by decide, rfl, ⟨by decide, by decide⟩, by decide +kernel, by decide⟩ <|
  am_nl
theorem am_tab1_ok : ∀ e ∈ am_tab1, am_mP e :=
  am_c ⟨q410, q408, q56, by decide, rfl, ⟨by decide, by decide⟩, by decide +kernel, by decide⟩ <|
  am_c ⟨q414, q412, q56, by decide, rfl, ⟨by decide, by decide⟩, by decide +kernel, by decide⟩ <|
  am_c ⟨q418, q416, q56, by decide, rfl, ⟨by decide, by decide⟩, by decide +kernel, by decide⟩ <|
  am_c ⟨q422, q420, q56, by decide, rfl, ⟨by decide, by decide⟩, by decide +kernel, by decide⟩ <|
  am_c ⟨q521, q519, q56, by decide, rfl, ⟨by decide, by decide⟩, by decide +kernel, by decide⟩ <|
  am_c ⟨q580, q578, q56, by decide, rfl, ⟨by decide, by decide⟩, by decide +kernel, by decide⟩ <|
  am_c ⟨q584, q582, q56, by decide, rfl, ⟨by decide, by decide⟩, by decide +kernel, by decide⟩ <|
  am_c ⟨q593, q591, q56, by decide, rfl, ⟨by decide, by decide⟩, by decide +kernel, by decide⟩ <|
  am_c ⟨q597, q595, q56, by decide, rfl, ⟨by decide, by decide⟩, by decide +kernel, by decide⟩ <|
  am_c ⟨q606, q604, q56, by decide, rfl, ⟨by decide, by decide⟩, by decide +kernel, by decide⟩ <|
  am_c ⟨q610, q609, q56, by decide, rfl, ⟨by decide, by decide⟩, by decide +kernel, by decide⟩ <|
  am_c ⟨q850, q848, q56, by decide, rfl, ⟨by decide, by decide⟩, by decide +kernel, by decide⟩ <|
  am_c ⟨q854, q852, q56, by decide, rfl, ⟨by decide, by decide⟩, by decide +kernel, by decide⟩ <|
  am_c ⟨q858, q856, q56, by decide, rfl, ⟨by decide, by decide⟩, by decide +kernel, by decide⟩ <|
  am_c ⟨q862, q861, q56, by decide, rfl, ⟨by decide, by decide⟩, by decide +kernel, by decide⟩ <|
  am_c ⟨q866, q865, q56, by decide, rfl, ⟨by decide, by decide⟩, by decide +kernel, by decide⟩ <|
  am_c ⟨q91, q90, q57, by decide, rfl, ⟨by decide, by decide⟩, by decide +kernel, by decide⟩ <|
  am_c ⟨q285, q283, q57, by decide, rfl, ⟨by decide, by decide⟩, by decide +kernel, by decide⟩ <|
  am_c ⟨q356, q354, q57, by decide, rfl, ⟨by decide, by decide⟩, by decide +kernel, by decide⟩ <|
  am_c ⟨q567, q565, q57, by decide, rfl, ⟨by decide, by decide⟩, by decide +kernel, by decide⟩ <|
  am_nl
theorem am_tab2_ok : ∀ e ∈ am_tab2, am_mP e :=
  am_c ⟨q571, q569, q57, by decide, rfl, ⟨by decide, by decide⟩, by decide +kernel, by decide⟩ <|
  am_c ⟨q601, q599, q57, by decide, rfl, ⟨by decide, by decide⟩, by decide +kernel, by decide⟩ <|
  am_c ⟨q102, q101, q58, by decide, rfl, ⟨by decide, by decide⟩, by decide +kernel, by decide⟩ <|
  am_c ⟨q588, q586, q58, by decide, rfl, ⟨by decide, by decide⟩, by decide +kernel, by decide⟩ <|
  am_c ⟨q644, q642, q58, by decide, rfl, ⟨by decide, by decide⟩, by decide +kernel, by decide⟩ <|
  am_c ⟨q129, q128, q59, by decide, rfl, ⟨by decide, by decide⟩, by decide +kernel, by decide⟩ <|
  am_c ⟨q132, q131, q59, by decide, rfl, ⟨by decide, by decide⟩, by decide +kernel, by decide⟩ <|
  am_c ⟨q290, q288, q59, by decide, rfl, ⟨by decide, by decide⟩, by decide +kernel, by decide⟩ <|
  am_c ⟨q307, q305, q59, by decide, rfl, ⟨by decide, by decide⟩, by decide +kernel, by decide⟩ <|
  am_c ⟨q311, q309, q59, by decide, rfl, ⟨by decide, by decide⟩, by decide +kernel, by decide⟩ <|
  am_c ⟨q218, q217, q61, by decide, rfl, ⟨by decide, by decide⟩, by decide +kernel, by decide⟩ <|
  am_c ⟨q427, q425, q61, by decide, rfl, ⟨by decide, by decide⟩, by decide +kernel, by decide⟩ <|
  am_c ⟨q431, q430, q61, by decide, rfl, ⟨by decide, by decide⟩, by decide +kernel, by decide⟩ <|
  am_c ⟨q435, q434, q61, by decide, rfl, ⟨by decide, by decide⟩, by decide +kernel, by decide⟩ <|
  am_c ⟨q503, q502, q61, by decide, rfl, ⟨by decide, by decide⟩, by decide +kernel, by decide⟩ <|
  am_c ⟨q507, q506, q61, by decide, rfl, ⟨by decide, by decide⟩, by decide +kernel, by decide⟩ <|
  am_c ⟨q513, q512, q61, by decide, rfl, ⟨by decide, by decide⟩, by decide +kernel, by decide⟩ <|
  am_c ⟨q517, q516, q61, by decide, rfl, ⟨by decide, by decide⟩, by decide +kernel, by decide⟩ <|
  am_c ⟨q871, q870, q62, by decide, rfl, ⟨by decide, by decide⟩, by decide +kernel, by decide⟩ <|
  am_c ⟨q946, q944, q62, by decide, rfl, ⟨by decide, by decide⟩, by decide +kernel, by decide⟩ <|
  am_nl
theorem am_tab3_ok : ∀ e ∈ am_tab3, am_mP e :=
  am_c ⟨q949, q948, q62, by decide, rfl, ⟨by decide, by decide⟩, by decide +kernel, by decide⟩ <|
  am_c ⟨q953, q952, q62, by decide, rfl, ⟨by decide, by decide⟩, by decide +kernel, by decide⟩ <|
  am_c ⟨q958, q957, q62, by decide, rfl, ⟨by decide, by decide⟩, by decide +kernel, by decide⟩ <|
  am_c ⟨q962, q961, q62, by decide, rfl, ⟨by decide, by decide⟩, by decide +kernel, by decide⟩ <|
  am_c ⟨q966, q965, q62, by decide, rfl, ⟨by decide, by decide⟩, by decide +kernel, by decide⟩ <|
  am_c ⟨q970, q968, q62, by decide, rfl, ⟨by decide, by decide⟩, by decide +kernel, by decide⟩ <|
  am_c ⟨q975, q973, q62, by decide, rfl, ⟨by decide, by decide⟩, by decide +kernel, by decide⟩ <|
  am_c ⟨q979, q978, q62, by decide, rfl, ⟨by decide, by decide⟩, by decide +kernel, by decide⟩ <|
  am_c ⟨q985, q983, q62, by decide, rfl, ⟨by decide, by decide⟩, by decide +kernel, by decide⟩ <|
  am_c ⟨q989, q987, q62, by decide, rfl, ⟨by decide, by decide⟩, by decide +kernel, by decide⟩ <|
  am_c ⟨q993, q992, q62, by decide, rfl, ⟨by decide, by decide⟩, by decide +kernel, by decide⟩ <|
  am_c ⟨q997, q996, q62, by decide, rfl, ⟨by decide, by decide⟩, by decide +kernel, by decide⟩ <|
  am_c ⟨q1001, q1000, q62, by decide, rfl, ⟨by decide, by decide⟩, by decide +kernel, by decide⟩ <|
  am_c ⟨q1005, q1004, q62, by decide, rfl, ⟨by decide, by decide⟩, by decide +kernel, by decide⟩ <|
  am_c ⟨q1009, q1008, q62, by decide, rfl, ⟨by decide, by decide⟩, by decide +kernel, by decide⟩ <|
  am_c ⟨q1013, q1011, q62, by decide, rfl, ⟨by decide, by decide⟩, by decide +kernel, by decide⟩ <|
  am_c ⟨q1017, q1015, q62, by decide, rfl, ⟨by decide, by decide⟩, by decide +kernel, by decide⟩ <|
  am_c ⟨q1022, q1021, q62, by decide, rfl, ⟨by decide, by decide⟩, by decide +kernel, by decide⟩ <|
  am_c ⟨q1026, q1024, q62, by decide, rfl, ⟨by decide, by decide⟩, by decide +kernel, by decide⟩ <|
  am_c ⟨q1030, q1028, q62, by decide, rfl, ⟨by decide, by decide⟩, by decide +kernel, by decide⟩ <|
  am_nl
theorem am_tab4_ok : ∀ e ∈ am_tab4, am_mP e :=
  am_c ⟨q1034, q1032, q62, by decide, rfl, ⟨by decide, by decide⟩, by decide +kernel, by decide⟩ <|
  am_c ⟨q1038, q1036, q62, by decide, rfl, ⟨by decide, by decide⟩, by decide +kernel, by decide⟩ <|
  am_c ⟨q1042, q1041, q62, by decide, rfl, ⟨by decide, by decide⟩, by decide +kernel, by decide⟩ <|
  am_c ⟨q1046, q1044, q62, by decide, rfl, ⟨by decide, by decide⟩, by decide +kernel, by decide⟩ <|
  am_c ⟨q1051, q1049, q62, by decide, rfl, ⟨by decide, by decide⟩, by decide +kernel, by decide⟩ <|
  am_c ⟨q1055, q1053, q62, by decide, rfl, ⟨by decide, by decide⟩, by decide +kernel, by decide⟩ <|
  am_c ⟨q1059, q1058, q62, by decide, rfl, ⟨by decide, by decide⟩, by decide +kernel, by decide⟩ <|
  am_c ⟨q1063, q1062, q62, by decide, rfl, ⟨by decide, by decide⟩, by decide +kernel, by decide⟩ <|
  am_c ⟨q1066, q1065, q62, by decide, rfl, ⟨by decide, by decide⟩, by decide +kernel, by decide⟩ <|
  am_c ⟨q1071, q1070, q62, by decide, rfl, ⟨by decide, by decide⟩, by decide +kernel, by decide⟩ <|
  am_c ⟨q1075, q1074, q62, by decide, rfl, ⟨by decide, by decide⟩, by decide +kernel, by decide⟩ <|
  am_c ⟨q1083, q1082, q62, by decide, rfl, ⟨by decide, by decide⟩, by decide +kernel, by decide⟩ <|
  am_c ⟨q1087, q1086, q62, by decide, rfl, ⟨by decide, by decide⟩, by decide +kernel, by decide⟩ <|
  am_c ⟨q1090, q1089, q62, by decide, rfl, ⟨by decide, by decide⟩, by decide +kernel, by decide⟩ <|
  am_c ⟨q1094, q1093, q62, by decide, rfl, ⟨by decide, by decide⟩, by decide +kernel, by decide⟩ <|
  am_c ⟨q1098, q1096, q62, by decide, rfl, ⟨by decide, by decide⟩, by decide +kernel, by decide⟩ <|
  am_c ⟨q1101, q1100, q62, by decide, rfl, ⟨by decide, by decide⟩, by decide +kernel, by decide⟩ <|
  am_c ⟨q1105, q1104, q62, by decide, rfl, ⟨by decide, by decide⟩, by decide +kernel, by decide⟩ <|
  am_c ⟨q1109, q1108, q62, by decide, rfl, ⟨by decide, by decide⟩, by decide +kernel, by decide⟩ <|
  am_c ⟨q1113, q1112, q62, by decide, rfl, ⟨by decide, by decide⟩, by decide +kernel, by decide⟩ <|
  am_nl
theorem am_tab5_ok : ∀ e ∈ am_tab5, am_mP e :=
  am_c ⟨q1117, q1116, q62, by decide, rfl, ⟨by decide, by decide⟩, by decide +kernel, by decide⟩ <|
  am_c ⟨q1121, q1120, q62, by decide, rfl, ⟨by decide, by decide⟩, by decide +kernel, by decide⟩ <|
  am_c ⟨q1125, q1124, q62, by decide, rfl, ⟨by decide, by decide⟩, by decide +kernel, by decide⟩ <|
  am_c ⟨q1129, q1128, q62, by decide, rfl, ⟨by decide, by decide⟩, by decide +kernel, by decide⟩ <|
  am_c ⟨q1133, q1132, q62, by decide, rfl, ⟨by decide, by decide⟩, by decide +kernel, by decide⟩ <|
  am_c ⟨q1137, q1136, q62, by decide, rfl, ⟨by decide, by decide⟩, by decide +kernel, by decide⟩ <|
  am_c ⟨q1141, q1140, q62, by decide, rfl, ⟨by decide, by decide⟩, by decide +kernel, by decide⟩ <|
  am_c ⟨q1145, q1144, q62, by decide, rfl, ⟨by decide, by decide⟩, by decide +kernel, by decide⟩ <|
  am_c ⟨q1149, q1148, q62, by decide, rfl, ⟨by decide, by decide⟩, by decide +kernel, by decide⟩ <|
  am_c ⟨q1153, q1151, q62, by decide, rfl, ⟨by decide, by decide⟩, by decide +kernel, by decide⟩ <|
  am_c ⟨q1158, q1156, q62, by decide, rfl, ⟨by decide, by decide⟩, by decide +kernel, by decide⟩ <|
  am_c ⟨q1162, q1161, q62, by decide, rfl, ⟨by decide, by decide⟩, by decide +kernel, by decide⟩ <|
  am_c ⟨q1166, q1164, q62, by decide, rfl, ⟨by decide, by decide⟩, by decide +kernel, by decide⟩ <|
  am_c ⟨q1170, q1168, q62, by decide, rfl, ⟨by decide, by decide⟩, by decide +kernel, by decide⟩ <|
  am_c ⟨q1175, q1173, q62, by decide, rfl, ⟨by decide, by decide⟩, by decide +kernel, by decide⟩ <|
  am_c ⟨q1179, q1178, q62, by decide, rfl, ⟨by decide, by decide⟩, by decide +kernel, by decide⟩ <|
  am_c ⟨q1183, q1182, q62, by decide, rfl, ⟨by decide, by decide⟩, by decide +kernel, by decide⟩ <|
  am_c ⟨q1187, q1186, q62, by decide, rfl, ⟨by decide, by decide⟩, by decide +kernel, by decide⟩ <|
  am_c ⟨q1191, q1190, q62, by decide, rfl, ⟨by decide, by decide⟩, by decide +kernel, by decide⟩ <|
  am_c ⟨q1195, q1193, q62, by decide, rfl, ⟨by decide, by decide⟩, by decide +kernel, by decide⟩ <|
  am_nl
theorem am_tab6_ok : ∀ e ∈ am_tab6, am_mP e :=
  am_c ⟨q1199, q1197, q62, by decide, rfl, ⟨by decide, by decide⟩, by decide +kernel, by decide⟩ <|
  am_c ⟨q1205, q1203, q62, by decide, rfl, ⟨by decide, by decide⟩, by decide +kernel, by decide⟩ <|
  am_c ⟨q331, q330, q64, by decide, rfl, ⟨by decide, by decide⟩, by decide +kernel, by decide⟩ <|
  am_c ⟨q334, q333, q64, by decide, rfl, ⟨by decide, by decide⟩, by decide +kernel, by decide⟩ <|
  am_c ⟨q360, q358, q64, by decide, rfl, ⟨by decide, by decide⟩, by decide +kernel, by decide⟩ <|
  am_c ⟨q364, q363, q64, by decide, rfl, ⟨by decide, by decide⟩, by decide +kernel, by decide⟩ <|
  am_c ⟨q368, q367, q64, by decide, rfl, ⟨by decide, by decide⟩, by decide +kernel, by decide⟩ <|
  am_c ⟨q372, q371, q64, by decide, rfl, ⟨by decide, by decide⟩, by decide +kernel, by decide⟩ <|
  am_c ⟨q391, q389, q64, by decide, rfl, ⟨by decide, by decide⟩, by decide +kernel, by decide⟩ <|
  am_c ⟨q475, q474, q67, by decide, rfl, ⟨by decide, by decide⟩, by decide +kernel, by decide⟩ <|
  am_c ⟨q527, q526, q68, by decide, rfl, ⟨by decide, by decide⟩, by decide +kernel, by decide⟩ <|
  am_c ⟨q543, q541, q68, by decide, rfl, ⟨by decide, by decide⟩, by decide +kernel, by decide⟩ <|
  am_c ⟨q550, q549, q68, by decide, rfl, ⟨by decide, by decide⟩, by decide +kernel, by decide⟩ <|
  am_c ⟨q554, q553, q68, by decide, rfl, ⟨by decide, by decide⟩, by decide +kernel, by decide⟩ <|
  am_c ⟨q559, q558, q68, by decide, rfl, ⟨by decide, by decide⟩, by decide +kernel, by decide⟩ <|
  am_c ⟨q563, q562, q68, by decide, rfl, ⟨by decide, by decide⟩, by decide +kernel, by decide⟩ <|
  am_c ⟨q576, q575, q68, by decide, rfl, ⟨by decide, by decide⟩, by decide +kernel, by decide⟩ <|
  am_c ⟨q161, q160, q60, by decide, rfl, ⟨by decide, by decide⟩, by decide +kernel, by decide⟩ <|
  am_c ⟨q164, q163, q60, by decide, rfl, ⟨by decide, by decide⟩, by decide +kernel, by decide⟩ <|
  am_c ⟨q676, q675, q60, by decide, rfl, ⟨by decide, by decide⟩, by decide +kernel, by decide⟩ <|
  am_nl
theorem am_tab7_ok : ∀ e ∈ am_tab7, am_mP e :=
  am_c ⟨q458, q457, q65, by decide, rfl, ⟨by decide, by decide⟩, by decide +kernel, by decide⟩ <|
  am_c ⟨q481, q480, q65, by decide, rfl, ⟨by decide, by decide⟩, by decide +kernel, by decide⟩ <|
  am_c ⟨q478, q477, q66, by decide, rfl, ⟨by decide, by decide⟩, by decide +kernel, by decide⟩ <|
  am_c ⟨q618, q617, q69, by decide, rfl, ⟨by decide, by decide⟩, by decide +kernel, by decide⟩ <|
  am_c ⟨q651, q650, q69, by decide, rfl, ⟨by decide, by decide⟩, by decide +kernel, by decide⟩ <|
  am_c ⟨q658, q657, q69, by decide, rfl, ⟨by decide, by decide⟩, by decide +kernel, by decide⟩ <|
  am_c ⟨q662, q661, q69, by decide, rfl, ⟨by decide, by decide⟩, by decide +kernel, by decide⟩ <|
  am_c ⟨q690, q687, q69, by decide, rfl, ⟨by decide, by decide⟩, by decide +kernel, by decide⟩ <|
  am_c ⟨q764, q763, q69, by decide, rfl, ⟨by decide, by decide⟩, by decide +kernel, by decide⟩ <|
  am_c ⟨q771, q770, q69, by decide, rfl, ⟨by decide, by decide⟩, by decide +kernel, by decide⟩ <|
  am_c ⟨q798, q797, q69, by decide, rfl, ⟨by decide, by decide⟩, by decide +kernel, by decide⟩ <|
  am_c ⟨q802, q801, q69, by decide, rfl, ⟨by decide, by decide⟩, by decide +kernel, by decide⟩ <|
  am_c ⟨q817, q816, q69, by decide, rfl, ⟨by decide, by decide⟩, by decide +kernel, by decide⟩ <|
  am_c ⟨q821, q820, q69, by decide, rfl, ⟨by decide, by decide⟩, by decide +kernel, by decide⟩ <|
  am_c ⟨q836, q835, q69, by decide, rfl, ⟨by decide, by decide⟩, by decide +kernel, by decide⟩ <|
  am_c ⟨q843, q842, q69, by decide, rfl, ⟨by decide, by decide⟩, by decide +kernel, by decide⟩ <|
  am_c ⟨q615, q614, q70, by decide, rfl, ⟨by decide, by decide⟩, by decide +kernel, by decide⟩ <|
  am_c ⟨q648, q646, q70, by decide, rfl, ⟨by decide, by decide⟩, by decide +kernel, by decide⟩ <|
  am_c ⟨q761, q759, q70, by decide, rfl, ⟨by decide, by decide⟩, by decide +kernel, by decide⟩ <|
  am_c ⟨q795, q793, q70, by decide, rfl, ⟨by decide, by decide⟩, by decide +kernel, by decide⟩ <|
  am_nl
theorem am_tab8_ok : ∀ e ∈ am_tab8, am_mP e :=
  am_c ⟨q833, q831, q70, by decide, rfl, ⟨by decide, by decide⟩, by decide +kernel, by decide⟩ <|
  am_c ⟨q840, q838, q70, by decide, rfl, ⟨by decide, by decide⟩, by decide +kernel, by decide⟩ <|
  am_c ⟨q709, q708, q71, by decide, rfl, ⟨by decide, by decide⟩, by decide +kernel, by decide⟩ <|
  am_c ⟨q733, q731, q71, by decide, rfl, ⟨by decide, by decide⟩, by decide +kernel, by decide⟩ <|
  am_c ⟨q737, q735, q71, by decide, rfl, ⟨by decide, by decide⟩, by decide +kernel, by decide⟩ <|
  am_c ⟨q744, q743, q71, by decide, rfl, ⟨by decide, by decide⟩, by decide +kernel, by decide⟩ <|
  am_c ⟨q783, q782, q71, by decide, rfl, ⟨by decide, by decide⟩, by decide +kernel, by decide⟩ <|
  am_c ⟨q809, q807, q71, by decide, rfl, ⟨by decide, by decide⟩, by decide +kernel, by decide⟩ <|
  am_c ⟨q813, q811, q71, by decide, rfl, ⟨by decide, by decide⟩, by decide +kernel, by decide⟩ <|
  am_c ⟨q826, q824, q71, by decide, rfl, ⟨by decide, by decide⟩, by decide +kernel, by decide⟩ <|
  am_c ⟨q654, q653, q74, by decide, rfl, ⟨by decide, by decide⟩, by decide +kernel, by decide⟩ <|
  am_c ⟨q693, q692, q74, by decide, rfl, ⟨by decide, by decide⟩, by decide +kernel, by decide⟩ <|
  am_c ⟨q665, q664, q75, by decide, rfl, ⟨by decide, by decide⟩, by decide +kernel, by decide⟩ <|
  am_c ⟨q672, q671, q75, by decide, rfl, ⟨by decide, by decide⟩, by decide +kernel, by decide⟩ <|
  am_c ⟨q714, q713, q77, by decide, rfl, ⟨by decide, by decide⟩, by decide +kernel, by decide⟩ <|
  am_c ⟨q747, q746, q77, by decide, rfl, ⟨by decide, by decide⟩, by decide +kernel, by decide⟩ <|
  am_c ⟨q786, q785, q77, by decide, rfl, ⟨by decide, by decide⟩, by decide +kernel, by decide⟩ <|
  am_c ⟨q741, q740, q78, by decide, rfl, ⟨by decide, by decide⟩, by decide +kernel, by decide⟩ <|
  am_c ⟨q767, q766, q78, by decide, rfl, ⟨by decide, by decide⟩, by decide +kernel, by decide⟩ <|
  am_c ⟨q774, q773, q78, by decide, rfl, ⟨by decide, by decide⟩, by decide +kernel, by decide⟩ <|
  am_nl
theorem am_tab9_ok : ∀ e ∈ am_tab9.take 0, am_mP e :=
  
  am_nl
