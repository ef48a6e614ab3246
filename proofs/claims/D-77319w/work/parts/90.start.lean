/-! the start: the law's entry meets what the abstract machine asks -/
set_option maxRecDepth 100000
theorem am_NW_tbl : ∀ w ∈ am_NW, w ∈ lw_tbl :=
  am_c q115 <|
  am_c q137 <|
  am_c q141 <|
  am_c q145 <|
  am_c q149 <|
  am_c q168 <|
  am_c q172 <|
  am_c q181 <|
  am_c q184 <|
  am_c q187 <|
  am_c q190 <|
  am_c q193 <|
  am_c q339 <|
  am_c q342 <|
  am_c q483 <|
  am_c q531 <|
  am_c q106 <|
  am_c q109 <|
  am_c q112 <|
  am_c q140 <|
  am_c q144 <|
  am_c q148 <|
  am_c q338 <|
  am_c q138 <|
  am_c q167 <|
  am_c q171 <|
  am_c q175 <|
  am_c q178 <|
  am_c q233 <|
  am_c q236 <|
  am_c q238 <|
  am_c q135 <|
  am_c q143 <|
  am_c q147 <|
  am_c q105 <|
  am_c q108 <|
  am_c q111 <|
  am_c q113 <|
  am_c q136 <|
  am_c q166 <|
  am_c q170 <|
  am_c q174 <|
  am_c q177 <|
  am_c q180 <|
  am_c q183 <|
  am_c q186 <|
  am_c q188 <|
  am_c q192 <|
  am_c q231 <|
  am_c q337 <|
  am_c q341 <|
  am_c q89 <|
  am_c q216 <|
  am_c q525 <|
  am_c q499 <|
  am_c q438 <|
  am_c q680 <|
  am_c q317 <|
  am_nl
theorem am_selp {C : String} {y : MethodName} {s : State} {args : Array Value} {n : Nat} (hy : y.cls ≠ "java/lang/invoke/MethodHandle" ∧ y.cls ≠ "java/lang/invoke/VarHandle")
    (hins : (Cond.instantiable C n).before args s = true) (hpriv : (Cond.privateMethod y).before args s = true) (hinst : (Cond.instanceMethod y).before args s = true) (hni : ∀ (c : ClassId) (k : Class), s.vm.findClass y.cls = some c → s.vm.classes[c]? = some k → k.isInterface = false) :
    (Cond.selects C y y).before args s = true := by
  obtain ⟨c, k, hc, hk, -, -, -, -⟩ := Cond.instantiable_spec hins
  obtain ⟨mk, methM, hnamed, hmethM, -, -⟩ := Cond.instanceMethod_spec hinst
  have hfound : s.methodFound? y.cls y.name y.desc = some mk := State.methodFound?_of_named hnamed hy
  obtain ⟨kY, hkY, -⟩ := className_of_methodNamed hnamed
  have h9 := hni mk.cls kY (findClass_of_methodNamed hnamed) hkY
  have hsel : selectMethod {} s.vm c mk = .method mk := selectMethod_private hmethM (Cond.privateMethod_at hpriv mk methM hnamed hmethM)
  simp only [Cond.before, Cond.holds, Cond.value, hc, hfound, hnamed, hsel, hkY]
  simp; exact h9
theorem am_ASB_ni {s : State} {args : Array Value} (hts : ∀ w ∈ lw_tbl, w.before args s = true) : ∀ (c : ClassId) (k : Class), s.vm.findClass "java/lang/AbstractStringBuilder" = some c → s.vm.classes[c]? = some k → k.isInterface = false := by
  intro c k hc hk
  have h := hts _ (lw_all_tbl q689)
  obtain ⟨c2, r2, m2, q1, q2, q3, q4, kP, hkP, hkPi⟩ := Cond.selects_spec h
  have hcl := findClass_of_methodNamed q3
  cases hc.symm.trans hcl
  cases hk.symm.trans hkP
  exact hkPi
theorem am_XW_tbl {s : State} {args : Array Value} (hts : ∀ w ∈ lw_tbl, w.before args s = true) : ∀ w ∈ am_XW, w.before args s = true :=
  am_c (am_selp ⟨by decide, by decide⟩ (hts _ (lw_all_tbl q612)) (hts _ q656) (hts _ (lw_all_tbl q657)) (am_ASB_ni hts)) <|
  am_c (am_selp ⟨by decide, by decide⟩ (hts _ (lw_all_tbl q612)) (hts _ q660) (hts _ (lw_all_tbl q661)) (am_ASB_ni hts)) <|
  am_c (am_selp ⟨by decide, by decide⟩ (hts _ (lw_all_tbl q612)) (hts _ q769) (hts _ (lw_all_tbl q770)) (am_ASB_ni hts)) <|
  am_c (am_selp ⟨by decide, by decide⟩ (hts _ (lw_all_tbl q612)) (hts _ q800) (hts _ (lw_all_tbl q801)) (am_ASB_ni hts)) <|
  am_c (am_selp ⟨by decide, by decide⟩ (hts _ (lw_all_tbl q612)) (hts _ q815) (hts _ (lw_all_tbl q816)) (am_ASB_ni hts)) <|
  am_c (am_selp ⟨by decide, by decide⟩ (hts _ (lw_all_tbl q612)) (hts _ q819) (hts _ (lw_all_tbl q820)) (am_ASB_ni hts)) <|
  am_nl
