/-! THE LAW on the abstract machine: for every script it returns 1, in the room -/
theorem am_law (S : am_S) (hS : S.1 ≤ 256) : ∃ h', am_Ev S (200, 180, 0, am_ent 4 [.retAddr 0], [], []) (.inl (some (.int 1)), h') ∧ h'.length ≤ 601024 ∧ am_slots h' ≤ 7293034 := by
  obtain ⟨o, h1, h2⟩ := law_all (S := S) (d := 100) (Q := fun o => ∃ h', o = (.inl (some (.int (nI 1))), h') ∧ wt h' ≤ 132000) hS (fun h' hw => ⟨h', rfl, hw⟩)
  obtain ⟨h', rfl, hw⟩ := h2
  unfold wt at hw
  exact ⟨h', h1, by omega, by omega⟩
