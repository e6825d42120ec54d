/-! REELING: filaments by their values; what is joined, what goes on -/
set_option maxRecDepth 100000
/-- a filament: its line, its place, its size, its kind -/
abbrev FvT : Type := Nat × Nat × Nat × Nat
abbrev fiE (q : Nat × Nat × FvT) : va_W := [ob q.1 12 [.int (nI q.2.2.1), .ref q.2.1, .int (nI q.2.2.2.1)]]
abbrev paE (dT : Nat → Nat) (q : Nat × List Int32) : va_W := [(q.1, aI dT q.2)]
def pcs (k s : Nat) : List Nat := match k with
  | 0 => [s + 1, s, s, max 1 (s - 1), max 1 (s - 2)]
  | 1 => [s, s, s, s]
  | _ => [1, 1, 1]
def pcv (f : FvT) : Nat := (pcs f.2.2.2 f.2.2.1).getD f.2.1 0
def okF (f : FvT) : Prop := f.1 < 4 ∧ f.2.1 < (pcs f.2.2.2 f.2.2.1).length ∧ 2 ≤ f.2.2.1 ∧ f.2.2.1 ≤ 6 ∧ f.2.2.2 ≤ 2
def fiOK (pa : List (Nat × List Int32)) (q : Nat × Nat × FvT) : Prop := okF q.2.2 ∧ ∃ j : Nat, pa[j]? = some (q.2.1, (pcs q.2.2.2.2.2 q.2.2.2.2.1).map nI)
def vals (l : List (Nat × Nat × FvT)) : List FvT := l.map (fun q => q.2.2)
def sumF (l : List FvT) : Nat := (l.map pcv).sum
theorem pcs_len {k s : Nat} : (pcs k s).length ≤ 5 := by
  unfold pcs
  split <;> simp
theorem pcs_bd {k s : Nat} (h1 : 2 ≤ s) (h2 : s ≤ 6) : ∀ x ∈ pcs k s, 1 ≤ x ∧ x ≤ 7 := by
  intro x hx
  unfold pcs at hx
  split at hx <;> simp only [List.mem_cons, List.not_mem_nil, or_false] at hx <;> omega
theorem pcv_bd {f : FvT} (h : okF f) : 1 ≤ pcv f ∧ pcv f ≤ 7 := by
  obtain ⟨-, h2, h3, h4, -⟩ := h
  refine pcs_bd (k := f.2.2.2) h3 h4 _ ?_
  unfold pcv
  rw [List.getD_eq_getElem?_getD, List.getElem?_eq_getElem h2]
  exact List.getElem_mem h2
theorem pc_get {f : FvT} (h : okF f) : ((pcs f.2.2.2 f.2.2.1).map nI).getD f.2.1 0 = nI (pcv f) := by
  unfold pcv
  rw [List.getD_eq_getElem?_getD, List.getD_eq_getElem?_getD, List.getElem?_map, List.getElem?_eq_getElem h.2.1]; rfl
theorem pc_ln {f : FvT} (h : okF f) : f.2.1 < ((pcs f.2.2.2 f.2.2.1).map nI).length := by rw [List.length_map]; exact h.2.1
theorem at_bd {f : FvT} (h : okF f) : f.2.1 < 2 ^ 31 := by have := h.2.1; have := @pcs_len f.2.2.2 f.2.2.1; omega
theorem s_cases {s : Nat} (h1 : 2 ≤ s) (h2 : s ≤ 6) : s = 2 ∨ s = 3 ∨ s = 4 ∨ s = 5 ∨ s = 6 := by omega
theorem lo_p0 {s : Nat} (h1 : 2 ≤ s) (h2 : s ≤ 6) : lo_pieces (nI s) 0 = (pcs 0 s).map nI := by
  rcases s_cases h1 h2 with rfl | rfl | rfl | rfl | rfl <;> decide +kernel
theorem lo_p1 {s : Nat} (h1 : 2 ≤ s) (h2 : s ≤ 6) : lo_pieces (nI s) 1 = (pcs 1 s).map nI := by
  rcases s_cases h1 h2 with rfl | rfl | rfl | rfl | rfl <;> decide +kernel
theorem lo_p2 {s : Nat} (h1 : 2 ≤ s) (h2 : s ≤ 6) : lo_pieces (nI s) 2 = (pcs 2 s).map nI := by
  rcases s_cases h1 h2 with rfl | rfl | rfl | rfl | rfl <;> decide +kernel
theorem ok_fl (dT : Nat → Nat) : ∀ q, ∃ e, (q.1, e) ∈ fiE q ∧ okE dT e := fun q => ⟨_, List.mem_cons_self, by show (12 : Nat) ∈ [1, 2, 7, 8, 9, 10, 11, 12, 13, 15]; decide⟩
def sm_f (a : Nat) (q : Nat × Nat × FvT) : Nat × (Nat × Nat × FvT) := (a + pcv q.2.2, q)
theorem sm_same : ∀ (l : List (Nat × Nat × FvT)) (a : Nat), (mapA sm_f a l).2 = l
  | [], _ => rfl
  | x :: xs, a => by
    show x :: (mapA sm_f _ xs).2 = x :: xs
    rw [sm_same xs]
theorem sm_sum : ∀ (l : List (Nat × Nat × FvT)) (a : Nat), (mapA sm_f a l).1 = a + sumF (vals l)
  | [], _ => rfl
  | x :: xs, a => by
    show (mapA sm_f (a + pcv x.2.2) xs).1 = a + (pcv x.2.2 + sumF (vals xs))
    rw [sm_sum xs, Nat.add_assoc]
theorem vals_app (a b : List (Nat × Nat × FvT)) : vals (a ++ b) = vals a ++ vals b := List.map_append
theorem vals_len (a : List (Nat × Nat × FvT)) : (vals a).length = a.length := List.length_map _
theorem sumF_app (a b : List FvT) : sumF (a ++ b) = sumF a + sumF b := by unfold sumF; rw [List.map_append, List.sum_append]
theorem sum_bd : ∀ (l : List FvT), (∀ f ∈ l, okF f) → l.length ≤ sumF l ∧ sumF l ≤ 7 * l.length
  | [], _ => ⟨Nat.le_refl _, Nat.le_refl _⟩
  | f :: l, h => by
    have h1 := pcv_bd (h f List.mem_cons_self)
    have h2 := sum_bd l (fun x hx => h x (List.mem_cons_of_mem _ hx))
    have e : sumF (f :: l) = pcv f + sumF l := rfl
    rw [e, List.length_cons]
    omega
theorem fi_vals {pa : List (Nat × List Int32)} {l : List (Nat × Nat × FvT)} (h : ∀ q ∈ l, fiOK pa q) : ∀ f ∈ vals l, okF f := by
  intro f hf
  obtain ⟨q, hq, rfl⟩ := List.mem_map.mp hf
  exact (h q hq).1
theorem fi_sum {pa : List (Nat × List Int32)} {l : List (Nat × Nat × FvT)} (h : ∀ q ∈ l, fiOK pa q) : l.length ≤ sumF (vals l) ∧ sumF (vals l) ≤ 7 * l.length := by
  have := sum_bd _ (fi_vals h)
  rwa [vals_len] at this
theorem fi_more {pa px : List (Nat × List Int32)} {q : Nat × Nat × FvT} (h : fiOK pa q) : fiOK (pa ++ px) q := by
  obtain ⟨h1, j, hj⟩ := h
  exact ⟨h1, j, by rw [List.getElem?_append_left (List.getElem?_eq_some_iff.mp hj).1]; exact hj⟩
/-! what is joined -/
abbrev Lf : Type := Nat × Nat × Nat
def lfN (f : Lf) : Nat := f.1 + f.2.1 + f.2.2
def jnK (f : Lf) : Nat := if f.1 = 0 then (if f.2.1 = 0 then (if f.2.2 = 0 then 3 else 2) else 1) else 0
def jnF (f : Lf) : Lf := if f.1 = 0 then (if f.2.1 = 0 then (f.1, f.2.1, f.2.2 - 1) else (f.1, f.2.1 - 1, f.2.2)) else (f.1 - 1, f.2.1, f.2.2)
def jnW (T ln sz : Nat) : Nat → Lf → List FvT → Lf × List FvT
  | 0, f, l => (f, l)
  | n + 1, f, l => if T ≤ sumF l then (f, l) else if jnK f = 3 then (f, l) else jnW T ln sz n (jnF f) (l ++ [(ln, 0, sz, jnK f)])
def jn (T ln sz : Nat) (f : Lf) (l : List FvT) : Lf × List FvT := jnW T ln sz (lfN f) f l
theorem jn_stop {T ln sz : Nat} {f : Lf} {l : List FvT} (h : T ≤ sumF l) : jn T ln sz f l = (f, l) := by
  unfold jn
  cases lfN f with
  | zero => rfl
  | succ n => exact if_pos h
theorem jnK_3 {f : Lf} : jnK f = 3 ↔ lfN f = 0 := by
  unfold jnK lfN
  split
  · split
    · split
      · omega
      · omega
    · omega
  · omega
theorem jn_none {T ln sz : Nat} {f : Lf} {l : List FvT} (h : lfN f = 0) : jn T ln sz f l = (f, l) := by
  unfold jn
  rw [h]; rfl
theorem jnF_N {f : Lf} (h : lfN f ≠ 0) : lfN f = lfN (jnF f) + 1 := by
  unfold jnF lfN at *
  split
  · split
    · show _ = f.1 + f.2.1 + (f.2.2 - 1) + 1; omega
    · show _ = f.1 + (f.2.1 - 1) + f.2.2 + 1; omega
  · show _ = f.1 - 1 + f.2.1 + f.2.2 + 1; omega
theorem jn_go {T ln sz : Nat} {f : Lf} {l : List FvT} (h : ¬ T ≤ sumF l) (h0 : lfN f ≠ 0) : jn T ln sz f l = jn T ln sz (jnF f) (l ++ [(ln, 0, sz, jnK f)]) := by
  unfold jn
  rw [jnF_N h0]
  show (if T ≤ sumF l then (f, l) else if jnK f = 3 then (f, l) else jnW T ln sz (lfN (jnF f)) (jnF f) (l ++ [(ln, 0, sz, jnK f)])) = _
  rw [if_neg h, if_neg (fun z => h0 (jnK_3.mp z))]
theorem jnW_len {T ln sz : Nat} : ∀ (n : Nat) (f : Lf) (l : List FvT), l.length ≤ (jnW T ln sz n f l).2.length
  | 0, _, _ => Nat.le_refl _
  | n + 1, f, l => by
    unfold jnW
    split
    · exact Nat.le_refl _
    · split
      · exact Nat.le_refl _
      · refine Nat.le_trans ?_ (jnW_len n _ _)
        rw [List.length_append]; exact Nat.le_add_right _ _
theorem jn_len {T ln sz : Nat} {f : Lf} {l : List FvT} : l.length ≤ (jn T ln sz f l).2.length := jnW_len _ _ _
/-! what goes on -/
def goV (f : FvT) : Option FvT := if f.2.1 + 1 = (pcs f.2.2.2 f.2.2.1).length then none else some (f.1, f.2.1 + 1, f.2.2.1, f.2.2.2)
def goL (l : List FvT) : List FvT := l.filterMap goV
def skI (v : Nat → Int32) (k : Nat) : Nat → Int32 := fun i => if i = 5 + k then v i + 1 else v i
def skG (v : Nat → Int32) (l : List FvT) : Nat → Int32 := l.foldl (fun w f => skI w f.1) v
theorem goL_gone {f : FvT} {l : List FvT} (h : f.2.1 + 1 = (pcs f.2.2.2 f.2.2.1).length) : goL (f :: l) = goL l := by
  unfold goL
  rw [List.filterMap_cons_none]
  unfold goV; rw [if_pos h]
theorem goL_on {f : FvT} {l : List FvT} (h : ¬ f.2.1 + 1 = (pcs f.2.2.2 f.2.2.1).length) : goL (f :: l) = (f.1, f.2.1 + 1, f.2.2.1, f.2.2.2) :: goL l := by
  unfold goL
  rw [List.filterMap_cons_some]
  unfold goV; rw [if_neg h]
theorem goV_ok {f : FvT} (hf : okF f) (h : ¬ f.2.1 + 1 = (pcs f.2.2.2 f.2.2.1).length) : okF (f.1, f.2.1 + 1, f.2.2.1, f.2.2.2) := by
  obtain ⟨h1, h2, h3, h4, h5⟩ := hf
  exact ⟨h1, by show f.2.1 + 1 < (pcs f.2.2.2 f.2.2.1).length; omega, h3, h4, h5⟩
theorem sk_put {w : Nat → Int32} {k : Nat} (h : k < 4) : [w 5, w 6, w 7, w 8].set k ([w 5, w 6, w 7, w 8].getD k 0 + 1) = [skI w k 5, skI w k 6, skI w k 7, skI w k 8] := by
  have : k = 0 ∨ k = 1 ∨ k = 2 ∨ k = 3 := by omega
  rcases this with rfl | rfl | rfl | rfl <;> rfl
theorem sk_low {w : Nat → Int32} {k i : Nat} (h : i < 5) : skI w k i = w i := if_neg (by omega)
/-! steps -/
def rlW (T ln sz : Nat) : Nat → Lf → List FvT → (Nat → Int32) → Lf × List FvT × (Nat → Int32)
  | 0, f, l, v => (f, l, v)
  | n + 1, f, l, v => if (jn T ln sz f l).2.length = 0 then ((jn T ln sz f l).1, (jn T ln sz f l).2, v) else rlW T ln sz n (jn T ln sz f l).1 (goL (jn T ln sz f l).2) (skG (f_X12_add v (nI (sumF (jn T ln sz f l).2))) (jn T ln sz f l).2)
def rlJ (T ln sz : Nat) : Nat → Lf → List FvT → Nat
  | 0, _, _ => 0
  | n + 1, f, l => ((jn T ln sz f l).2.length - l.length) + (if (jn T ln sz f l).2.length = 0 then 0 else rlJ T ln sz n (jn T ln sz f l).1 (goL (jn T ln sz f l).2))
/-! a list's growth, paid ahead -/
def al_pot (st : Option (Nat × Nat)) : Nat := match st with
  | none => 5
  | some q => if q.2 < 15 then 4 else if q.2 < 22 then 3 else if q.2 < 33 then 2 else if q.2 < 49 then 1 else 0
def al_potS (st : Option (Nat × Nat)) : Nat := match st with
  | none => 182
  | some q => if q.2 < 15 then 172 else if q.2 < 22 then 151 else if q.2 < 33 then 120 else if q.2 < 49 then 72 else 0
def alC (st : Option (Nat × Nat)) : Prop := match st with
  | none => True
  | some q => 10 ≤ q.2 ∧ q.2 ≤ 72
theorem al_grow {st : Option (Nat × Nat)} {xs : List Nat} {d x : Nat} (hC : alC st) (hok : alOK st xs) (hl : xs.length < 40) : alC (al_n st xs d) ∧ alOK (al_n st xs d) (xs ++ [x]) ∧ al_gc st xs + al_pot (al_n st xs d) ≤ al_pot st ∧ al_gs st xs + al_potS (al_n st xs d) ≤ al_potS st := by
  rcases st with _ | ⟨e, c⟩
  · have h0 : xs = [] := hok
    subst h0
    exact ⟨⟨(show 10 ≤ 10 by decide), (show 10 ≤ 72 by decide)⟩, ⟨(show 1 ≤ 10 by decide), (show 0 < 10 by decide), (show 10 < 4096 by decide)⟩, (show 1 + 4 ≤ 5 by decide), (show 10 + 172 ≤ 182 by decide)⟩
  · obtain ⟨h1, h2, h3⟩ : xs.length ≤ c ∧ 0 < c ∧ c < 4096 := hok
    obtain ⟨h4, h5⟩ : 10 ≤ c ∧ c ≤ 72 := hC
    by_cases h : xs.length = c
    · have e1 : al_n (some (e, c)) xs d = some (d, c + max 1 (c / 2)) := if_pos h
      have e2 : al_gc (some (e, c)) xs = 1 := if_pos h
      have e3 : al_gs (some (e, c)) xs = c + max 1 (c / 2) := if_pos h
      rw [e1, e2, e3]
      refine ⟨⟨by show 10 ≤ c + _; omega, by show c + _ ≤ 72; omega⟩, ⟨by show _ ≤ c + _; rw [List.length_append]; show xs.length + 1 ≤ _; omega, by show 0 < c + _; omega, by show c + _ < 4096; omega⟩, ?_, ?_⟩
      · unfold al_pot
        dsimp only
        repeat' split
        all_goals omega
      · unfold al_potS
        dsimp only
        repeat' split
        all_goals omega
    · have e1 : al_n (some (e, c)) xs d = some (e, c) := if_neg h
      have e2 : al_gc (some (e, c)) xs = 0 := if_neg h
      have e3 : al_gs (some (e, c)) xs = 0 := if_neg h
      rw [e1, e2, e3]
      refine ⟨⟨h4, h5⟩, ⟨by show _ ≤ c; rw [List.length_append]; show xs.length + 1 ≤ c; omega, h2, h3⟩, by omega, by omega⟩
/-! one of a list taken out for good -/
theorem el_foc {α : Type} {dT : Nat → Nat} {f : Nat × α → va_W} {L : List (Nat × α)} {k : Nat} {q : Nat × α} {S : va_W} {EE : List va_W} {e : va_E} (hf : ∀ q, ∃ e, (q.1, e) ∈ f q ∧ okE dT e) (hq : L[k]? = some q) (hm : (L.eraseIdx k).flatMap f ∈ EE) (h1 : (q.1, e) ∈ S) (h2 : okE dT e) : ∀ y ∈ ads L, elOK dT ([S] ++ EE) y := by
  intro y hy
  obtain ⟨q2, hq2, rfl⟩ := List.mem_map.mp hy
  have hl := (List.getElem?_eq_some_iff.mp hq).1
  have e0 : L.getD k q = q := by rw [List.getD_eq_getElem?_getD, hq]; rfl
  have p1 := sg_erase L k q hl
  rw [e0] at p1
  rcases List.mem_cons.mp (p1.mem_iff.mp hq2) with rfl | h3
  · exact ⟨e, List.mem_flatten.mpr ⟨S, List.mem_cons_self, h1⟩, h2⟩
  · obtain ⟨e2, g1, g2⟩ := hf q2
    exact ⟨e2, List.mem_flatten.mpr ⟨_, List.mem_cons_of_mem _ hm, List.mem_flatMap.mpr ⟨q2, h3, g1⟩⟩, g2⟩
theorem mid_erase {α : Type} {dn rem : List α} {q : α} : (dn ++ q :: rem).eraseIdx dn.length = dn ++ rem := by
  rw [List.eraseIdx_append_of_length_le (Nat.le_refl _), Nat.sub_self]; rfl
theorem ads_mid_erase {α : Type} {dn rem : List (Nat × α)} {q : Nat × α} : (ads (dn ++ q :: rem)).eraseIdx dn.length = ads (dn ++ rem) := by
  unfold ads
  rw [List.map_append, List.map_cons, show dn.length = (dn.map (fun q => q.1)).length by rw [List.length_map], mid_erase, List.map_append]
/-- the addresses of a list's elements are apart -/
theorem Wd.apart {D : va_G} {A : Nat → Prop} {H0 H : Heap} {locs : List Loc} {LL : List va_W} {α : Type} {f : Nat × α → va_W} {L : List (Nat × α)} (h : Wd D A H0 H locs (L.flatMap f :: LL)) (hf : ∀ q, ∃ e r, f q = (q.1, e) :: r) : (ads L).Nodup := by
  have h1 := (wp_D.mp h.1.2).1
  rw [List.flatten_cons, List.map_append] at h1
  have h2 := (List.nodup_append.mp h1).1
  have sub : ∀ L : List (Nat × α), (ads L).Sublist ((L.flatMap f).map (·.1)) := by
    intro L
    induction L with
    | nil => exact List.Sublist.refl _
    | cons q L ih =>
      obtain ⟨e, r, hq⟩ := hf q
      rw [List.flatMap_cons, List.map_append, hq]
      show (q.1 :: ads L).Sublist (q.1 :: r.map (·.1) ++ _)
      exact (ih.trans (List.sublist_append_right _ _)).cons_cons _
  exact (sub L).nodup h2
theorem fi_head : ∀ q : Nat × Nat × FvT, ∃ e r, fiE q = (q.1, e) :: r := fun q => ⟨_, _, rfl⟩
theorem mid_ne {α : Type} {dn rem : List (Nat × α)} {q : Nat × α} (h : (ads (dn ++ q :: rem)).Nodup) : ∀ j, j < dn.length → (ads (dn ++ q :: rem))[j]? ≠ some q.1 := by
  intro j hj e
  have e1 : ads (dn ++ q :: rem) = ads dn ++ q.1 :: ads rem := ads_app _ _
  rw [e1] at h e
  rw [List.getElem?_append_left (by rw [ads_len]; exact hj)] at e
  exact (List.nodup_append.mp h).2.2 q.1 (List.mem_of_getElem? e) q.1 List.mem_cons_self rfl
theorem jn_cases (f : Lf) : (f.1 = 0 ∧ f.2.1 = 0 ∧ f.2.2 = 0) ∨ 0 < f.1 ∨ (f.1 = 0 ∧ 0 < f.2.1) ∨ (f.1 = 0 ∧ f.2.1 = 0 ∧ 0 < f.2.2) := by omega
theorem jnF_0 {f : Lf} (h : 0 < f.1) : jnF f = (f.1 - 1, f.2.1, f.2.2) ∧ jnK f = 0 := by
  unfold jnF jnK
  rw [if_neg (by omega), if_neg (by omega)]; exact ⟨rfl, rfl⟩
theorem jnF_1 {f : Lf} (h : f.1 = 0 ∧ 0 < f.2.1) : jnF f = (f.1, f.2.1 - 1, f.2.2) ∧ jnK f = 1 := by
  unfold jnF jnK
  rw [if_pos h.1, if_neg (by omega), if_pos h.1, if_neg (by omega)]; exact ⟨rfl, rfl⟩
theorem jnF_2 {f : Lf} (h : f.1 = 0 ∧ f.2.1 = 0 ∧ 0 < f.2.2) : jnF f = (f.1, f.2.1, f.2.2 - 1) ∧ jnK f = 2 := by
  unfold jnF jnK
  rw [if_pos h.1, if_pos h.2.1, if_pos h.1, if_pos h.2.1, if_neg (by omega)]; exact ⟨rfl, rfl⟩
theorem fi_new {pa : List (Nat × List Int32)} {qa qb ln sz k : Nat} (h1 : ln < 4) (h2 : 2 ≤ sz) (h3 : sz ≤ 6) (h4 : k ≤ 2) : fiOK (pa ++ [(qb, (pcs k sz).map nI)]) (qa, qb, ln, 0, sz, k) := by
  refine ⟨⟨h1, ?_, h2, h3, h4⟩, pa.length, ?_⟩
  · show 0 < (pcs k sz).length
    unfold pcs
    split <;> simp
  · rw [List.getElem?_append_right (Nat.le_refl _), Nat.sub_self]; rfl
theorem fi_all {pa px : List (Nat × List Int32)} {z : Nat × List Int32} {fl : List (Nat × Nat × FvT)} {q : Nat × Nat × FvT} (h : ∀ q ∈ fl, fiOK (pa ++ px) q) (h1 : fiOK ((pa ++ px) ++ [z]) q) : ∀ x ∈ fl ++ [q], fiOK (pa ++ (px ++ [z])) x := by
  intro x hx
  rw [← List.append_assoc]
  rcases List.mem_append.mp hx with h2 | h2
  · exact fi_more (h x h2)
  · cases List.mem_singleton.mp h2
    exact h1
def rlY (T ln sz n : Nat) (r : Lf × List FvT) : Nat := if r.2.length = 0 then 0 else rlJ T ln sz n r.1 (goL r.2)
theorem rlJ_S (T ln sz n : Nat) (f : Lf) (l : List FvT) : rlJ T ln sz (n + 1) f l = ((jn T ln sz f l).2.length - l.length) + rlY T ln sz n (jn T ln sz f l) := rfl
theorem rlW_0 {T ln sz n : Nat} {f f1 : Lf} {l l1 : List FvT} {v : Nat → Int32} (h : jn T ln sz f l = (f1, l1)) (h0 : l1.length = 0) : rlW T ln sz (n + 1) f l v = (f1, l1, v) := by
  show (if (jn T ln sz f l).2.length = 0 then ((jn T ln sz f l).1, (jn T ln sz f l).2, v) else _) = _
  rw [h, if_pos h0]
theorem rlW_S {T ln sz n : Nat} {f f1 : Lf} {l l1 : List FvT} {v : Nat → Int32} (h : jn T ln sz f l = (f1, l1)) (h0 : ¬ l1.length = 0) : rlW T ln sz (n + 1) f l v = rlW T ln sz n f1 (goL l1) (skG (f_X12_add v (nI (sumF l1))) l1) := by
  show (if (jn T ln sz f l).2.length = 0 then ((jn T ln sz f l).1, (jn T ln sz f l).2, v) else rlW T ln sz n (jn T ln sz f l).1 (goL (jn T ln sz f l).2) (skG (f_X12_add v (nI (sumF (jn T ln sz f l).2))) (jn T ln sz f l).2)) = _
  rw [h, if_neg h0]
theorem jnW_lf {T ln sz : Nat} : ∀ (n : Nat) (f : Lf) (l : List FvT), lfN (jnW T ln sz n f l).1 ≤ lfN f
  | 0, _, _ => Nat.le_refl _
  | n + 1, f, l => by
    unfold jnW
    split
    · exact Nat.le_refl _
    · split
      · exact Nat.le_refl _
      · rename_i h
        refine Nat.le_trans (jnW_lf n _ _) ?_
        have := jnF_N (f := f) (fun z => h (jnK_3.mpr z))
        omega
theorem jn_lf {T ln sz : Nat} {f : Lf} {l : List FvT} : lfN (jn T ln sz f l).1 ≤ lfN f := jnW_lf _ _ _
theorem if01 {c : Prop} [Decidable c] (h : ¬ (if c then (1 : Int32) else 0) = 0) : c := by
  by_cases hc : c
  · exact hc
  · exact absurd (if_neg hc) h
theorem if00 {c : Prop} [Decidable c] (h : (if c then (1 : Int32) else 0) = 0) : ¬ c := by
  intro hc
  rw [if_pos hc] at h
  exact absurd h (by decide)
