/-! for what is in a model's basin, for its making -/
set_option maxRecDepth 100000
theorem pm_some {mf : MfT} {k : Nat} {q : Nat × FvT} (hk : k < 2 ^ 31) (h : mf[k]? = some q) : pi_val (valm mf) (nI k) = nI (pcv q.2) := by
  unfold pi_val
  rw [nI_clamp hk, valm, List.getElem?_map, h]; rfl
theorem pm_none {st : Option (Nat × Nat)} {mf : MfT} {w : Int32} (hok : alOK st (ads mf)) (h0 : ¬ w < 0) (h : nI (ads mf).length ≤ w) : pi_val (valm mf) w = -1 := by
  obtain ⟨k, hk, rfl⟩ := nI_of h0
  unfold pi_val
  have h3 := al_short hok
  have h1 : mf.length ≤ k := by
    rcases Nat.lt_or_ge k mf.length with h2 | h2
    · exact absurd h (by rw [ads_len] at h3 ⊢; exact nI_ge h2 (by omega))
    · exact h2
  rw [nI_clamp hk, valm, List.getElem?_map, List.getElem?_eq_none h1]; rfl
theorem al_pushk {xs : List Nat} {k x : Nat} (h : k = xs.length) : va_up (fun i => xs[i]?) k (some x) = fun i => (xs ++ [x])[i]? := by
  subst h; exact al_push
