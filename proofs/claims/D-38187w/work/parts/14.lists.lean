/-! LISTS: java.util.ArrayList's cells -/
set_option maxRecDepth 100000
def al_d (g : Nat → Nat) (st : Option (Nat × Nat)) : Nat := match st with
  | none => g 0
  | some q => q.1
def al_t (dT : Nat → Nat) (st : Option (Nat × Nat)) (xs : List Nat) : va_W := match st with
  | none => []
  | some q => [(q.1, aR dT 1 q.2 (fun i => xs[i]?))]
/-- a list at a, changed mc times, that holds xs; st: where its array is and how long, none ahead of the first -/
abbrev alS (g dT : Nat → Nat) (a : Nat) (mc : Int32) (st : Option (Nat × Nat)) (xs : List Nat) : va_W := ob a 15 [.int mc, .ref (al_d g st), .int (nI xs.length)] :: al_t dT st xs
def alOK (st : Option (Nat × Nat)) (xs : List Nat) : Prop := match st with
  | none => xs = []
  | some q => xs.length ≤ q.2 ∧ 0 < q.2 ∧ q.2 < 4096
abbrev itS (q : Nat) (cur last : Int32) (mc : Int32) (a : Nat) : va_W := [ob q 16 [.int cur, .int last, .int mc, .ref a]]
/-- what an addition costs: cells, elements -/
def al_gc (st : Option (Nat × Nat)) (xs : List Nat) : Nat := match st with
  | none => 1
  | some q => if xs.length = q.2 then 1 else 0
def al_gs (st : Option (Nat × Nat)) (xs : List Nat) : Nat := match st with
  | none => 10
  | some q => if xs.length = q.2 then q.2 + max 1 (q.2 / 2) else 0
/-- where the array is then, d: if a new one was made -/
def al_n (st : Option (Nat × Nat)) (xs : List Nat) (d : Nat) : Option (Nat × Nat) := match st with
  | none => some (d, 10)
  | some q => if xs.length = q.2 then some (d, q.2 + max 1 (q.2 / 2)) else some q
theorem Wd.app0 {D : va_G} {A : Nat → Prop} {H0 H : Heap} {locs : List Loc} {LL : List va_W} (h : Wd D A H0 H locs LL) : Wd D A H0 H locs (LL ++ []) := by rw [List.append_nil]; exact h
theorem Wd.unapp0 {D : va_G} {A : Nat → Prop} {H0 H : Heap} {locs : List Loc} {LL : List va_W} (h : Wd D A H0 H locs (LL ++ [])) : Wd D A H0 H locs LL := by rw [List.append_nil] at h; exact h
theorem al_push {xs : List Nat} {x : Nat} : va_up (fun i => xs[i]?) xs.length (some x) = fun i => (xs ++ [x])[i]? := by
  funext i
  unfold va_up
  by_cases h : i = xs.length
  · subst h; simp
  · rw [if_neg h]
    show xs[i]? = (xs ++ [x])[i]?
    rcases Nat.lt_or_gt_of_ne h with h1 | h1
    · rw [List.getElem?_append_left h1]
    · rw [List.getElem?_eq_none (Nat.le_of_lt h1), List.getElem?_eq_none (by rw [List.length_append]; exact h1)]
theorem al_cpy0 {xs : List Nat} {n N k : Nat} (h1 : xs.length ≤ n) (h2 : xs.length ≤ N) (hk : k = min n N) : va_cpy (fun i => xs[i]?) (fun _ => none) 0 0 k = fun i => xs[i]? := by
  funext i
  unfold va_cpy
  split
  · rw [Nat.sub_zero, Nat.zero_add]
  · rename_i h
    rw [List.getElem?_eq_none]
    omega
theorem al_len0 (xs : List Nat) (x : Nat) : (xs ++ [x]).length = xs.length + 1 := by simp
theorem nI_min {a b : Nat} (ha : a < 2 ^ 31) (hb : b < 2 ^ 31) : imin (nI a) (nI b) = nI (min a b) := by
  unfold imin
  by_cases h : nI b < nI a
  · rw [if_pos h]
    have := (nI_ltI hb ha).mp h
    rw [Nat.min_eq_right (by omega)]
  · rw [if_neg h]
    have : ¬ b < a := fun z => h ((nI_ltI hb ha).mpr z)
    rw [Nat.min_eq_left (by omega)]
theorem nI_max {a b : Nat} (ha : a < 2 ^ 31) (hb : b < 2 ^ 31) : imax (nI a) (nI b) = nI (max a b) := by
  unfold imax
  by_cases h : nI a < nI b
  · rw [if_pos h]
    have := (nI_ltI ha hb).mp h
    rw [Nat.max_eq_right (by omega)]
  · rw [if_neg h]
    have : ¬ a < b := fun z => h ((nI_ltI ha hb).mpr z)
    rw [Nat.max_eq_left (by omega)]
theorem al_newlen {n : Nat} (h0 : 0 < n) (h : n < 4096) : (nI n + imax (nI (n + 1) - nI n) (nI n >>> ((1 : Int32) &&& 31))) = nI (n + max 1 (n / 2)) := by
  have e1 : nI (n + 1) - nI n = nI 1 := by rw [pk_sub (by omega)]; congr 1; omega
  have e2 : nI n >>> ((1 : Int32) &&& 31) = nI (n / 2) := pk_shrN (by omega) _ 1 (by decide)
  rw [e1, e2, nI_max (by omega) (by omega), nI_add]
theorem elOK.pre {dT : Nat → Nat} {L EE : List va_W} {x : Nat} (h : elOK dT EE x) : elOK dT (L ++ EE) x := by
  obtain ⟨e, h1, h2⟩ := h
  exact ⟨e, by rw [List.flatten_append]; exact List.mem_append_right _ h1, h2⟩
theorem Wd.mem {D : va_G} {A : Nat → Prop} {H0 H : Heap} {locs : List Loc} {L1 EE : List va_W} (h : Wd D A H0 H locs (L1 ++ EE)) : Wd D A H0 H locs (L1 ++ EE ++ []) := by rw [List.append_nil]; exact h
theorem al_push0 {x : Nat} : va_up (fun _ => (none : Option Nat)) 0 (some x) = fun i => [x][i]? := by
  funext i
  unfold va_up
  match i with
  | 0 => rfl
  | i + 1 => simp
theorem al_cases {st : Option (Nat × Nat)} {xs : List Nat} (h : alOK st xs) : (st = none ∧ xs = []) ∨ (∃ d cap, st = some (d, cap) ∧ xs.length < cap ∧ cap < 4096) ∨ (∃ d, st = some (d, xs.length) ∧ 0 < xs.length ∧ xs.length < 4096) := by
  rcases st with _ | ⟨d, cap⟩
  · exact Or.inl ⟨rfl, h⟩
  · obtain ⟨h1, h2, h3⟩ : xs.length ≤ cap ∧ 0 < cap ∧ cap < 4096 := h
    rcases Nat.lt_or_ge xs.length cap with hc | hc
    · exact Or.inr (Or.inl ⟨d, cap, rfl, hc, h3⟩)
    · have e0 : xs.length = cap := Nat.le_antisymm h1 hc
      subst e0
      exact Or.inr (Or.inr ⟨d, rfl, h2, h3⟩)
theorem al_gc_full {d : Nat} {xs : List Nat} : al_gc (some (d, xs.length)) xs = 1 := if_pos rfl
theorem al_gs_full {d : Nat} {xs : List Nat} : al_gs (some (d, xs.length)) xs = xs.length + max 1 (xs.length / 2) := if_pos rfl
theorem al_n_none {dT g : Nat → Nat} {a x q : Nat} {u : Int32} {EE : List va_W} : [[ob a 15 [.int u, .ref q, .int 1], (q, aR dT 1 10 (fun i => [x][i]?))]] ++ EE = [alS g dT a u (al_n none [] q) ([] ++ [x])] ++ EE := by
  have e1 : (1 : Int32) = nI 1 := by decide
  rw [e1]; rfl
theorem al_n_room {dT g : Nat → Nat} {a x d cap q : Nat} {u : Int32} {xs : List Nat} {EE : List va_W} (hc : xs.length < cap) : [[ob a 15 [.int u, .ref d, .int (nI (xs.length + 1))], (d, aR dT 1 cap (fun i => (xs ++ [x])[i]?))]] ++ EE = [alS g dT a u (al_n (some (d, cap)) xs q) (xs ++ [x])] ++ EE := by
  have e1 : al_n (some (d, cap)) xs q = some (d, cap) := if_neg (Nat.ne_of_lt hc)
  rw [e1, ← al_len0 xs x]; rfl
theorem al_n_full {dT g : Nat → Nat} {a x d q : Nat} {u : Int32} {xs : List Nat} {EE : List va_W} : [[ob a 15 [.int u, .ref q, .int (nI (xs.length + 1))], (q, aR dT 1 (xs.length + max 1 (xs.length / 2)) (fun i => (xs ++ [x])[i]?))]] ++ EE = [alS g dT a u (al_n (some (d, xs.length)) xs q) (xs ++ [x])] ++ EE := by
  have e1 : al_n (some (d, xs.length)) xs q = some (q, xs.length + max 1 (xs.length / 2)) := if_pos rfl
  rw [e1, ← al_len0 xs x]; rfl
theorem nI_sub1 {n : Nat} (h : 0 < n) : nI n - 1 = nI (n - 1) := by
  obtain ⟨k, rfl⟩ : ∃ k, n = k + 1 := ⟨n - 1, by omega⟩
  rw [nI_pred]; rfl
theorem er2 {xs : List Nat} {k : Nat} (h : k < xs.length) : va_up (va_cpy (fun i => xs[i]?) (fun i => xs[i]?) (k + 1) k (xs.length - 1 - k)) (xs.length - 1) none = fun i => (xs.eraseIdx k)[i]? := by
  funext i
  unfold va_up va_cpy
  rw [List.getElem?_eraseIdx]
  by_cases h1 : i = xs.length - 1
  · rw [if_pos h1]
    have hk : ¬ i < k := by omega
    rw [if_neg hk, List.getElem?_eq_none (by omega)]
  · rw [if_neg h1]
    by_cases h2 : k ≤ i ∧ i < k + (xs.length - 1 - k)
    · rw [if_pos h2, if_neg (by omega)]
      congr 1; omega
    · rw [if_neg h2]
      by_cases h3 : i < k
      · rw [if_pos h3]
      · rw [if_neg h3]
        show xs[i]? = xs[i + 1]?
        rw [List.getElem?_eq_none (show xs.length ≤ i by omega), List.getElem?_eq_none (show xs.length ≤ i + 1 by omega)]
theorem er1 {xs : List Nat} {k : Nat} (h : k + 1 = xs.length) : va_up (fun i => xs[i]?) (xs.length - 1) none = fun i => (xs.eraseIdx k)[i]? := by
  rw [← er2 (xs := xs) (k := k) (by omega)]
  congr 1
  funext i
  unfold va_cpy
  rw [if_neg (by omega)]
theorem er_len {xs : List Nat} {k : Nat} (h : k < xs.length) : (xs.eraseIdx k).length = xs.length - 1 := by rw [List.length_eraseIdx, if_pos h]
theorem ix_of {i : Int32} {n : Nat} (h : ¬ i < 0 ∧ i < nI n) (hn : n < 2 ^ 31) : ∃ k : Nat, k < n ∧ i = nI k := by
  obtain ⟨j, hj, rfl⟩ := nI_of h.1
  exact ⟨j, (nI_ltI hj hn).mp h.2, rfl⟩
theorem al_some {st : Option (Nat × Nat)} {xs : List Nat} {k : Nat} (h : alOK st xs) (hk : k < xs.length) : ∃ d cap, st = some (d, cap) ∧ xs.length ≤ cap ∧ cap < 4096 := by
  rcases st with _ | ⟨d, cap⟩
  · have h0 : xs = [] := h
    subst h0
    exact absurd hk (Nat.not_lt_zero _)
  · exact ⟨d, cap, rfl, h.1, h.2.2⟩
theorem al_short {st : Option (Nat × Nat)} {xs : List Nat} (h : alOK st xs) : xs.length < 4096 := by
  rcases st with _ | ⟨d, cap⟩
  · have h0 : xs = [] := h
    subst h0; decide
  · exact Nat.lt_of_le_of_lt h.1 h.2.2
