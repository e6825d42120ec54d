/-! WHAT ONE ASKS: the answers by number -/
set_option maxRecDepth 100000
theorem nor {a b : Prop} (h : ¬ a) (g : ¬ b) : ¬ (a ∨ b) := fun z => z.elim h g
theorem dnr {α : Type} {a b x : α} {c : Prop} [Decidable c] (h : c) (e : a = x) : (if c then a else b) = x := by rw [if_pos h]; exact e
theorem ix_le {w : Int32} (n : Nat) (hn : n < 2 ^ 31) (h0 : ¬ w < 0) (h1 : ¬ nI n < w) : w.toNatClampNeg < n + 1 := by
  obtain ⟨j, hj, rfl⟩ := nI_of h0
  rw [nI_clamp hj]
  rcases Nat.lt_or_ge j (n + 1) with h | h
  · exact h
  · exact absurd ((nI_ltI hn hj).mpr (by omega)) h1
def pl_told (v : Nat → Int32) (w : Int32) : Int32 := if w = 0 then v 0 else if w = 1 then v 1 else [v 2, v 3, v 4, v 5].getD (w - 2).toNatClampNeg 0
def ln_told (v : Nat → Int32) (w : Int32) : Int32 := if w = 0 then v 0 else if w = 1 then v 1 else v 2
def tr_told (v : Nat → Int32) (w : Int32) : Int32 := [v 0, v 1, v 2, v 3, v 4, v 5, v 6, v 7, v 8, v 9, (f_X3_need v).1, f_X1_one (v 10)].getD w.toNatClampNeg 0
def lo_told (v : Nat → Int32) (w : Int32) : Int32 := [v 9, v 0, v 3, v 4, v 5, v 6, v 7, v 8, v 10].getD w.toNatClampNeg 0
def sk_told (v : Nat → Int32) (w : Int32) : Int32 := if 6 ≤ w then [v 5, v 6, v 7, v 8].getD (w - 6).toNatClampNeg 0 else [v 0, v 1, v 2, v 3, (f_X12_grade v).1, f_X1_one (v 4)].getD w.toNatClampNeg 0
theorem ix_few {w : Int32} (n : Nat) (hn : n < 2 ^ 31) (h0 : ¬ w < 0) (h1 : ¬ nI n < w) : ∃ j, j ≤ n ∧ w = nI j := by
  obtain ⟨j, hj, rfl⟩ := nI_of h0
  refine ⟨j, ?_, rfl⟩
  rcases Nat.lt_or_ge n j with h | h
  · exact absurd ((nI_ltI hn hj).mpr h) h1
  · exact h
theorem pl_ix {w : Int32} (h : ¬ (w < 0 ∨ 5 < w)) (n0 : ¬ w = 0) (n1 : ¬ w = 1) : ¬ w - 2 < 0 ∧ (w - 2).toNatClampNeg < 4 := by
  obtain ⟨j, hj, rfl⟩ := ix_few 5 (by decide) (fun z => h (Or.inl z)) (fun z => h (Or.inr z))
  have : j = 0 ∨ j = 1 ∨ j = 2 ∨ j = 3 ∨ j = 4 ∨ j = 5 := by omega
  rcases this with rfl | rfl | rfl | rfl | rfl | rfl
  · exact absurd rfl n0
  · exact absurd rfl n1
  all_goals decide
theorem sk_ix {w : Int32} (h : ¬ (w < 0 ∨ 9 < w)) (n6 : 6 ≤ w) : ¬ w - 6 < 0 ∧ (w - 6).toNatClampNeg < 4 := by
  obtain ⟨j, hj, rfl⟩ := ix_few 9 (by decide) (fun z => h (Or.inl z)) (fun z => h (Or.inr z))
  have : j < 6 ∨ j = 6 ∨ j = 7 ∨ j = 8 ∨ j = 9 := by omega
  rcases this with h6 | rfl | rfl | rfl | rfl
  · exact absurd ((nI_leI (a := 6) (by decide) (by omega)).mp n6) (by omega)
  all_goals decide
theorem sk_ix6 {w : Int32} (h : ¬ (w < 0 ∨ 9 < w)) (n6 : ¬ 6 ≤ w) : w.toNatClampNeg < 6 := by
  obtain ⟨j, hj, rfl⟩ := nI_of (fun z => h (Or.inl z))
  rw [nI_clamp hj]
  have h8 : ¬ 6 ≤ j := fun z => n6 ((nI_leI (a := 6) (by decide) hj).mpr z)
  omega
theorem ix_nor {w : Int32} (n : Nat) (hn : n < 2 ^ 31) (h : ¬ (w < 0 ∨ nI n < w)) : w.toNatClampNeg < n + 1 := ix_le n hn (fun z => h (Or.inl z)) (fun z => h (Or.inr z))
theorem inz {α : Type} {a b x : α} {c : Prop} [Decidable c] (h : ¬ c) (e : b = x) : (if c then a else b) = x := by rw [if_neg h]; exact e
/-! the house's numbers -/
def sc_feed (sc : Nat → Int32) (y : Int32) : Nat → Int32 := vec [sc 0, sc 1, sc 2 - imin y (sc 2), sc 3 - imin (imin y (sc 2)) (sc 3), sc 4, sc 5, sc 6]
def sc_died (sc : Nat → Int32) (y : Int32) : Nat → Int32 := vec [sc 0, sc 1, sc 2, sc 3, sc 4 + y, sc 5, sc 6]
def sc_money (sc : Nat → Int32) (y : Int32) : Nat → Int32 := vec [sc 0, sc 1, sc 2, sc 3, sc 4, sc 5 + y, sc 6]
def tr_hatch (v : Nat → Int32) (i y t : Int32) : Nat → Int32 := vec [y, y * t / 10, i, 1, v 4, v 5, v 6, v 7, v 8, v 9, v 10]
def tr_feed (v : Nat → Int32) (got wet : Int32) : Nat → Int32 := vec [v 0, v 1, v 2, v 3, v 4, v 5, v 6, v 7, v 8 + got, v 9 + wet, v 10]
/-! elements of the lists -/
theorem el_F {α : Type} {dT : Nat → Nat} {f : Nat × α → va_W} {L : List (Nat × α)} {EE : List va_W} (hf : ∀ q, ∃ e, (q.1, e) ∈ f q ∧ okE dT e) (hm : L.flatMap f ∈ EE) : ∀ y ∈ ads L, elOK dT EE y := by
  intro y hy
  obtain ⟨q, hq, rfl⟩ := List.mem_map.mp hy
  obtain ⟨e, h1, h2⟩ := hf q
  exact ⟨e, List.mem_flatten.mpr ⟨_, hm, List.mem_flatMap.mpr ⟨q, hq, h1⟩⟩, h2⟩
theorem el_1 {dT : Nat → Nat} {S : va_W} {EE : List va_W} {x : Nat} {e : va_E} (hm : S ∈ EE) (h1 : (x, e) ∈ S) (h2 : okE dT e) : elOK dT EE x := ⟨e, List.mem_flatten.mpr ⟨S, hm, h1⟩, h2⟩
theorem ok_pl (dT : Nat → Nat) : ∀ q, ∃ e, (q.1, e) ∈ plE dT q ∧ okE dT e := fun q => ⟨_, List.mem_cons_self, by show (7 : Nat) ∈ [1, 2, 7, 8, 9, 10, 11, 12, 13, 15]; decide⟩
theorem ok_mp (dT : Nat → Nat) : ∀ q, ∃ e, (q.1, e) ∈ mpE dT q ∧ okE dT e := fun q => ⟨_, List.mem_cons_self, by show (8 : Nat) ∈ [1, 2, 7, 8, 9, 10, 11, 12, 13, 15]; decide⟩
theorem ok_ln (dT : Nat → Nat) : ∀ q, ∃ e, (q.1, e) ∈ lnE q ∧ okE dT e := fun q => ⟨_, List.mem_cons_self, by show (1 : Nat) ∈ [1, 2, 7, 8, 9, 10, 11, 12, 13, 15]; decide⟩
theorem ok_tr (dT : Nat → Nat) : ∀ q, ∃ e, (q.1, e) ∈ trE q ∧ okE dT e := fun q => ⟨_, List.mem_cons_self, by show (2 : Nat) ∈ [1, 2, 7, 8, 9, 10, 11, 12, 13, 15]; decide⟩
theorem ok_lo (dT : Nat → Nat) : ∀ q, ∃ e, (q.1, e) ∈ loE dT q ∧ okE dT e := fun q => ⟨_, List.mem_cons_self, by show (9 : Nat) ∈ [1, 2, 7, 8, 9, 10, 11, 12, 13, 15]; decide⟩
theorem ok_mo (dT : Nat → Nat) : ∀ q, ∃ e, (q.1, e) ∈ moE dT q ∧ okE dT e := fun q => ⟨_, List.mem_cons_self, by show (10 : Nat) ∈ [1, 2, 7, 8, 9, 10, 11, 12, 13, 15]; decide⟩
theorem ok_sk (dT : Nat → Nat) : ∀ q, ∃ e, (q.1, e) ∈ skE dT q ∧ okE dT e := fun q => ⟨_, List.mem_cons_self, by show (11 : Nat) ∈ [1, 2, 7, 8, 9, 10, 11, 12, 13, 15]; decide⟩
theorem ok_ms (dT : Nat → Nat) : ∀ q, ∃ e, (q.1, e) ∈ msE dT q ∧ okE dT e := fun q => ⟨_, List.mem_cons_self, by show (13 : Nat) ∈ [1, 2, 7, 8, 9, 10, 11, 12, 13, 15]; decide⟩
theorem okN {dT : Nat → Nat} {k : Nat} {fs : List Value} (h : k ∈ [1, 2, 7, 8, 9, 10, 11, 12, 13, 15]) : okE dT (.inr (k, fs)) := h
theorem nle_ne {x : Int32} (h : ¬ x ≤ 0) : ¬ x = 0 := by
  intro z
  rw [z] at h
  exact h (by decide)
/-! eggs -/
def eg_taint (v : Nat → Int32) (b : Int32) : Int32 := if bz b = 0 then f_X1_up (10 * v 5) (f_X10_all v).1 else if 3 < f_X1_up (10 * v 5) (f_X10_all v).1 then f_X1_up (10 * v 5) (f_X10_all v).1 / 2 else 0
def eg_line (v : Nat → Int32) (b : Int32) : Nat → Int32 := vec [v 1, imin 9 (v 2 + if v 5 = 0 then 1 else 0), eg_taint v b]
def sc_eggs (sc : Nat → Int32) (b : Int32) : Nat → Int32 := vec [sc 0, sc 1, sc 2, sc 3, sc 4, if bz b = 0 then sc 5 else sc 5 - 5, sc 6]
def sk_sold (v : Nat → Int32) : Nat → Int32 := vec [v 0, v 1, v 2, v 3, 1, v 5, v 6, v 7, v 8]
def sk_worth (v : Nat → Int32) : Int32 := v 0 * (4 - (f_X12_grade (sk_sold v)).1)
theorem nle_i {x : Int32} (h : ¬ x ≤ 0) : ¬ x ≤ 0 := h
theorem one_0 : f_X1_one 0 = 0 := by decide
theorem one_1 : f_X1_one 1 = 1 := by decide
theorem ads_snoc {α : Type} (l : List (Nat × α)) (q : Nat × α) : ads (l ++ [q]) = ads l ++ [q.1] := by unfold ads; rw [List.map_append]; rfl
def tr_none : Nat → Int32 := vec [0, 0, -1, 0, 0, 0, 0, 0, 0, 0, 0]
theorem ads_some {α : Type} {l : List (Nat × α)} {k : Nat} {q : Nat × α} (h : l[k]? = some q) : (ads l)[k]? = some q.1 := by unfold ads; rw [List.getElem?_map, h]; rfl
theorem ads_lt {α : Type} {l : List (Nat × α)} {k : Nat} {q : Nat × α} (h : l[k]? = some q) : k < (ads l).length := by rw [ads_len]; exact (List.getElem?_eq_some_iff.mp h).1
/-! two of one list -/
theorem er_ix {α : Type} {L : List α} {k k2 : Nat} {q2 : α} (h2 : L[k2]? = some q2) (hne : ¬ k = k2) : (L.eraseIdx k)[if k2 < k then k2 else k2 - 1]? = some q2 := by
  rw [List.getElem?_eraseIdx]
  by_cases h : k2 < k
  · rw [if_pos h, if_pos h]; exact h2
  · rw [if_neg h, if_neg (by omega), show k2 - 1 + 1 = k2 by omega]; exact h2
theorem er_set2 {α : Type} {L : List α} {k k2 : Nat} {q q2 : α} (hne : ¬ k = k2) : (((L.set k q).set k2 q2).eraseIdx k).eraseIdx (if k2 < k then k2 else k2 - 1) = (L.eraseIdx k).eraseIdx (if k2 < k then k2 else k2 - 1) := by
  apply List.ext_getElem?
  intro i
  simp only [List.getElem?_eraseIdx, List.getElem?_set]
  by_cases h : k2 < k
  · simp only [if_pos h]
    split
    · split
      · rw [if_neg (by omega), if_neg (by omega)]
      · omega
    · split
      · rw [if_neg (by omega), if_neg (by omega)]
      · rw [if_neg (by omega), if_neg (by omega)]
  · simp only [if_neg h]
    split
    · split
      · rw [if_neg (by omega), if_neg (by omega)]
      · rw [if_neg (by omega), if_neg (by omega)]
    · split
      · omega
      · rw [if_neg (by omega), if_neg (by omega)]
theorem foc2 {α : Type} {f : α → va_W} {L : List α} {k k2 : Nat} {q q2 : α} (h : L[k]? = some q) (h2 : L[k2]? = some q2) (hne : ¬ k = k2) : ∃ R, (L.flatMap f).Perm (f q ++ (f q2 ++ R)) ∧ ∀ q' q2' : α, (((L.set k q').set k2 q2').flatMap f).Perm (f q' ++ (f q2' ++ R)) := by
  refine ⟨((L.eraseIdx k).eraseIdx (if k2 < k then k2 else k2 - 1)).flatMap f, ?_, ?_⟩
  · exact (fm_perm h).trans (List.Perm.append_left _ (fm_perm (er_ix h2 hne)))
  · intro q' q2'
    have hk := (List.getElem?_eq_some_iff.mp h).1
    have hk2 := (List.getElem?_eq_some_iff.mp h2).1
    have e1 : ((L.set k q').set k2 q2')[k]? = some q' := by rw [List.getElem?_set_ne (fun z => hne z.symm), List.getElem?_set_self hk]
    have e2 : ((L.set k q').set k2 q2')[k2]? = some q2' := List.getElem?_set_self (by rw [List.length_set]; exact hk2)
    have p := (fm_perm (f := f) e1).trans (List.Perm.append_left _ (fm_perm (er_ix e2 hne)))
    rwa [er_set2 hne] at p
theorem Wd.foc2 {D : va_G} {A : Nat → Prop} {H0 H : Heap} {locs : List Loc} {LL : List va_W} {S1 S2 R F : va_W} (h : Wd D A H0 H locs (F :: LL)) (hp : F.Perm (S1 ++ (S2 ++ R))) : Wd D A H0 H locs (S1 :: S2 :: R :: LL) := by
  refine h.perm ?_
  simp only [List.flatten_cons, ← List.append_assoc]
  exact List.Perm.append_right _ (by rw [List.append_assoc]; exact hp)
theorem Wd.unf2 {D : va_G} {A : Nat → Prop} {H0 H : Heap} {locs : List Loc} {LL : List va_W} {S1 S2 R F : va_W} (h : Wd D A H0 H locs (S1 :: S2 :: R :: LL)) (hp : F.Perm (S1 ++ (S2 ++ R))) : Wd D A H0 H locs (F :: LL) := by
  refine h.perm ?_
  simp only [List.flatten_cons, ← List.append_assoc]
  exact List.Perm.append_right _ (by rw [List.append_assoc]; exact hp.symm)
theorem pt_hv {a y : Int32} (h : ¬ a ≤ y) (h1 : ¬ y < 1) : ¬ a = 0 := by
  intro z
  rw [z] at h
  exact h (Int32.le_trans (show (0 : Int32) ≤ 1 by decide) (Int32.not_lt.mp h1))
theorem ij_ne {α : Type} {L : List (Nat × α)} {k k2 : Nat} {q q2 : Nat × α} {i j : Int32} (h : L[k]? = some q ∧ i = nI k) (h2 : L[k2]? = some q2 ∧ j = nI k2) (hs : (ads L).length < 4096) (hne : ¬ k = k2) : ¬ i = j := by
  intro z
  have a := ads_lt h.1
  have b := ads_lt h2.1
  exact hne ((nI_eq (by omega) (by omega)).mp (h.2.symm.trans (z.trans h2.2)))
def pt_die (v w : Nat → Int32) (y : Int32) : Int32 := if (f_X3_part v w y).2.1 5 ≤ 0 then 0 else (f_X3_lose (f_X3_part v w y).2.2 (f_X1_up y 10)).1
def pt_to (v w : Nat → Int32) (y : Int32) : Nat → Int32 := if (f_X3_part v w y).2.1 5 ≤ 0 then (f_X3_part v w y).2.2 else (f_X3_lose (f_X3_part v w y).2.2 (f_X1_up y 10)).2
def pt_sc (sc v w : Nat → Int32) (y : Int32) : Nat → Int32 := vec [sc 0, sc 1, sc 2, sc 3, if (f_X3_part v w y).2.1 5 ≤ 0 then sc 4 else sc 4 + (f_X3_lose (f_X3_part v w y).2.2 (f_X1_up y 10)).1, sc 5, sc 6]
