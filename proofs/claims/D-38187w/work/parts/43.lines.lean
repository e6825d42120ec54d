/-! a tray with worms keeps its line -/
set_option maxRecDepth 100000
theorem lk_lose {v : Nat → Int32} {x i : Int32} (h : v 2 = i) : (f_X3_lose v x).2 2 = i ∨ (f_X3_lose v x).2 0 = 0 := by
  unfold f_X3_lose
  dsimp only
  split
  · right; rfl
  · left; exact h
theorem lk_grow {v : Nat → Int32} {i : Int32} (h : v 2 = i) : (f_X3_grow v).2 2 = i ∨ (f_X3_grow v).2 0 = 0 := by
  unfold f_X3_grow
  dsimp only
  repeat' split
  all_goals first
    | exact Or.inl h
    | exact Or.inr ‹_›
    | (refine lk_lose ?_; exact h)
theorem lk_pass {v : Nat → Int32} {x i : Int32} (h : v 2 = i) : (f_X3_pass v x).2 2 = i ∨ (f_X3_pass v x).2 0 = 0 := by
  unfold f_X3_pass
  dsimp only
  have hg := lk_grow h
  generalize f_X3_grow v = r1 at hg ⊢
  split
  · exact Or.inr ‹_›
  · have h2 : r1.2 2 = i := hg.resolve_right ‹_›
    repeat' split
    all_goals (refine lk_lose ?_; exact h2)
