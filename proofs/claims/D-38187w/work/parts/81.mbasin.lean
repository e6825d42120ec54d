/-! THE MODEL's basins -/
set_option maxRecDepth 100000
abbrev MfT : Type := List (Nat × FvT)
abbrev mfE (dT : Nat → Nat) (q : Nat × FvT) : va_W := [(q.1, aI dT [nI q.2.2.2.2, nI q.2.2.2.1, nI q.2.1, nI q.2.2.1])]
def valm (l : MfT) : List FvT := l.map (fun q => q.2)
theorem valm_app (a b : MfT) : valm (a ++ b) = valm a ++ valm b := List.map_append
theorem valm_len (a : MfT) : (valm a).length = a.length := List.length_map _
theorem ok_mf (dT : Nat → Nat) : ∀ q, ∃ e, (q.1, e) ∈ mfE dT q ∧ okE dT e := fun q => ⟨_, List.mem_cons_self, ⟨rfl, _, rfl⟩⟩
theorem mf_head (dT : Nat → Nat) : ∀ q : Nat × FvT, ∃ e r, mfE dT q = (q.1, e) :: r := fun q => ⟨_, _, rfl⟩
theorem a_cases {a : Nat} (h : a < 6) : a = 0 ∨ a = 1 ∨ a = 2 ∨ a = 3 ∨ a = 4 ∨ a = 5 := by omega
theorem pc2_lt {a s : Nat} (ha : a < 6) (h : ¬ (3 : Int32) ≤ nI a) : (1 : Int32) = nI ((pcs 2 s).getD a 0) := by
  have h1 : a < 3 := Nat.lt_of_not_le fun z => h (nI_le (a := 3) z (by omega))
  rcases a_cases ha with rfl | rfl | rfl | rfl | rfl | rfl <;> first | rfl | omega
theorem pc2_ge {a s : Nat} (ha : a < 6) (h : (3 : Int32) ≤ nI a) : (0 : Int32) = nI ((pcs 2 s).getD a 0) := by
  have h1 : 3 ≤ a := (nI_leI (a := 3) (by omega) (by omega)).mp h
  rcases a_cases ha with rfl | rfl | rfl | rfl | rfl | rfl <;> first | rfl | omega
theorem pc1_lt {a s : Nat} (ha : a < 6) (h : ¬ (4 : Int32) ≤ nI a) : nI s = nI ((pcs 1 s).getD a 0) := by
  have h1 : a < 4 := Nat.lt_of_not_le fun z => h (nI_le (a := 4) z (by omega))
  rcases a_cases ha with rfl | rfl | rfl | rfl | rfl | rfl <;> first | rfl | omega
theorem pc1_ge {a s : Nat} (ha : a < 6) (h : (4 : Int32) ≤ nI a) : (0 : Int32) = nI ((pcs 1 s).getD a 0) := by
  have h1 : 4 ≤ a := (nI_leI (a := 4) (by omega) (by omega)).mp h
  rcases a_cases ha with rfl | rfl | rfl | rfl | rfl | rfl <;> first | rfl | omega
theorem pc0_lt {a s : Nat} (ha : a < 6) (h1 : 2 ≤ s) (h2 : s ≤ 6) (h : ¬ (5 : Int32) ≤ nI a) : imax 1 (nI s + ofGood a) = nI ((pcs 0 s).getD a 0) := by
  have h3 : a < 5 := Nat.lt_of_not_le fun z => h (nI_le (a := 5) z (by omega))
  rcases a_cases ha with rfl | rfl | rfl | rfl | rfl | rfl <;> rcases s_cases h1 h2 with rfl | rfl | rfl | rfl | rfl <;> first | decide +kernel | omega
theorem pc0_ge {a s : Nat} (ha : a < 6) (h : (5 : Int32) ≤ nI a) : (0 : Int32) = nI ((pcs 0 s).getD a 0) := by
  have h1 : 5 ≤ a := (nI_leI (a := 5) (by omega) (by omega)).mp h
  rcases a_cases ha with rfl | rfl | rfl | rfl | rfl | rfl <;> first | rfl | omega
theorem a5_in {a : Nat} (ha : a < 6) (h : ¬ (5 : Int32) ≤ nI a) : vp_in (nI a) 5 := by
  have h3 : a < 5 := Nat.lt_of_not_le fun z => h (nI_le (a := 5) z (by omega))
  exact vpin (nI_pos (by omega)) (nI_clamp (by omega)) h3
/-- the piece behind the last one is none -/
theorem pc_end {f : FvT} (h : okF f) : (pcs f.2.2.2 f.2.2.1).getD (f.2.1 + 1) 0 = 0 ↔ f.2.1 + 1 = (pcs f.2.2.2 f.2.2.1).length := by
  obtain ⟨h1, h2, h3, h4, h5⟩ := h
  constructor
  · intro h6
    rcases Nat.lt_or_ge (f.2.1 + 1) (pcs f.2.2.2 f.2.2.1).length with h7 | h7
    · have h8 := pcs_bd (k := f.2.2.2) h3 h4 _ (List.getElem_mem h7)
      rw [List.getD_eq_getElem?_getD, List.getElem?_eq_getElem h7] at h6
      have h9 : (pcs f.2.2.2 f.2.2.1)[f.2.1 + 1] = 0 := h6
      omega
    · omega
  · intro h6
    rw [List.getD_eq_getElem?_getD, List.getElem?_eq_none (by omega)]; rfl
theorem add12 : f_X14_add = f_X12_add := by
  funext v x
  rfl
theorem init12 : f_X14_init = f_X12_init := rfl
theorem pcs_small {f : FvT} (h : okF f) : (pcs f.2.2.2 f.2.2.1).getD (f.2.1 + 1) 0 < 2 ^ 31 := by
  obtain ⟨h1, h2, h3, h4, h5⟩ := h
  rcases Nat.lt_or_ge (f.2.1 + 1) (pcs f.2.2.2 f.2.2.1).length with h7 | h7
  · have h8 := pcs_bd (k := f.2.2.2) h3 h4 _ (List.getElem_mem h7)
    rw [List.getD_eq_getElem?_getD, List.getElem?_eq_getElem h7]
    show (pcs f.2.2.2 f.2.2.1)[f.2.1 + 1] < _
    omega
  · rw [List.getD_eq_getElem?_getD, List.getElem?_eq_none h7]; decide
theorem pk_back {n : Nat} : nI n + (-1) + 1 = nI n := by
  have h := nI_pred n
  rw [nI_succ] at h
  have e : (-1 : Int32) + 1 = 0 := by decide
  rw [Int32.add_assoc, e, Int32.add_zero]
theorem mf_sum {l : MfT} (h : ∀ q ∈ l, okF q.2) : l.length ≤ sumF (valm l) ∧ sumF (valm l) ≤ 7 * l.length := by
  have := sum_bd (valm l) (fun f hf => by obtain ⟨q, hq, rfl⟩ := List.mem_map.mp hf; exact h q hq)
  rwa [valm_len] at this
theorem okF_new {ln sz k : Nat} (h1 : ln < 4) (h2 : 2 ≤ sz) (h3 : sz ≤ 6) (h4 : k ≤ 2) : okF (ln, 0, sz, k) := (fi_new (pa := []) (qa := 0) (qb := 0) h1 h2 h3 h4).1
theorem mf_all {l : MfT} {q : Nat × FvT} (h : ∀ q ∈ l, okF q.2) (h1 : okF q.2) : ∀ x ∈ l ++ [q], okF x.2 := by
  intro x hx
  rcases List.mem_append.mp hx with h2 | h2
  · exact h x h2
  · cases List.mem_singleton.mp h2
    exact h1
