/-! for the checksum of the whole -/
set_option maxRecDepth 100000
theorem bas_cases3 {st : Option (Nat × Nat)} {fl : LoT} (h : alOK st (ads fl)) : (st = none ∧ fl = []) ∨ ∃ d cap, st = some (d, cap) ∧ (ads fl).length ≤ cap ∧ cap < 4096 := by
  rcases st with _ | ⟨d, cap⟩
  · have h0 : ads fl = [] := h
    exact Or.inl ⟨rfl, List.map_eq_nil_iff.mp h0⟩
  · exact Or.inr ⟨d, cap, rfl, h.1, h.2.2⟩
