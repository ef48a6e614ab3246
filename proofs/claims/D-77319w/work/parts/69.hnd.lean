/-! where a thrown error is caught -/
theorem hn51_11 : am_hnd 51 11 = none := rfl
theorem hn51_35 : am_hnd 51 35 = none := rfl
theorem hn52_29 : am_hnd 52 29 = none := rfl
theorem hn52_67 : am_hnd 52 67 = none := rfl
theorem hn52_145 : am_hnd 52 145 = none := rfl
theorem hn52_184 : am_hnd 52 184 = none := rfl
theorem hn52_210 : am_hnd 52 210 = none := rfl
theorem hn52_237 : am_hnd 52 237 = none := rfl
theorem hn54_34 : am_hnd 54 34 = none := rfl
theorem hn56_13 : am_hnd 56 13 = none := rfl
theorem hn56_39 : am_hnd 56 39 = none := rfl
theorem hn56_47 : am_hnd 56 47 = none := rfl
theorem hn56_60 : am_hnd 56 60 = none := rfl
theorem hn57_7 : am_hnd 57 7 = none := rfl
theorem hn23_4 : am_hnd 23 4 = some 25 := rfl
theorem am_kr_x {S : am_S} {d mid pc : Nat} {ls : am_L} {st : List Value} {Q : am_Out → Prop} {a : Nat} {h : am_H} (hh : am_hnd mid pc = none) : am_kr S 2 d mid pc ls st Q (.inr a, h) = Q (.inr a, h) := by
  have e : am_kr S 2 d mid pc ls st Q (.inr a, h) = (2 = 2 ∧ (match am_hnd mid pc with
    | some tg => wp S d mid tg ls [.ref a] h Q
    | none => Q (.inr a, h))) := rfl
  rw [e, hh]
  exact propext ⟨fun q => q.2, fun q => ⟨rfl, q⟩⟩
theorem am_kr_c {S : am_S} {d mid pc tg : Nat} {ls : am_L} {st : List Value} {Q : am_Out → Prop} {a : Nat} {h : am_H} (hh : am_hnd mid pc = some tg) : am_kr S 2 d mid pc ls st Q (.inr a, h) = wp S d mid tg ls [.ref a] h Q := by
  have e : am_kr S 2 d mid pc ls st Q (.inr a, h) = (2 = 2 ∧ (match am_hnd mid pc with
    | some tg => wp S d mid tg ls [.ref a] h Q
    | none => Q (.inr a, h))) := rfl
  rw [e, hh]
  exact propext ⟨fun q => q.2, fun q => ⟨rfl, q⟩⟩
