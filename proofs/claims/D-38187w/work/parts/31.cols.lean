/-! COLLECTIONS: the elements of a list in one segment; one of them taken out and put back -/
set_option maxRecDepth 100000
def ads {α : Type} (l : List (Nat × α)) : List Nat := l.map (fun q => q.1)
theorem ads_len {α : Type} (l : List (Nat × α)) : (ads l).length = l.length := List.length_map _
theorem ads_get {α : Type} {l : List (Nat × α)} {k y : Nat} (h : (ads l)[k]? = some y) : ∃ q, l[k]? = some q ∧ y = q.1 := by
  unfold ads at h
  rw [List.getElem?_map] at h
  cases hq : l[k]? with
  | none => rw [hq] at h; cases h
  | some q => rw [hq] at h; exact ⟨q, rfl, (Option.some.inj h).symm⟩
theorem ads_set {α : Type} {l : List (Nat × α)} {k : Nat} {q q' : Nat × α} (h : l[k]? = some q) (he : q'.1 = q.1) : ads (l.set k q') = ads l := by
  unfold ads
  rw [List.map_set, he]
  apply List.ext_getElem?
  intro i
  rw [List.getElem?_set]
  split
  · rename_i hik
    subst hik
    rw [List.getElem?_map, h]
    have hl := (List.getElem?_eq_some_iff.mp h).1
    simp [hl]
  · rfl
theorem ads_app {α : Type} (l l' : List (Nat × α)) : ads (l ++ l') = ads l ++ ads l' := List.map_append
abbrev plE (dT : Nat → Nat) (p : Nat × Nat × (Nat → Int32)) : va_W := plS dT p.1 p.2.1 p.2.2
abbrev mpE (dT : Nat → Nat) (p : Nat × Nat × (Nat → Int32)) : va_W := mpS dT p.1 p.2.1 p.2.2
abbrev lnE (p : Nat × (Nat → Int32)) : va_W := lnS p.1 p.2
abbrev mlE (p : Nat × (Nat → Int32)) : va_W := mlS p.1 p.2
abbrev trE (p : Nat × (Nat → Int32)) : va_W := trS p.1 p.2
abbrev mtE (p : Nat × (Nat → Int32)) : va_W := mtS p.1 p.2
abbrev loE (dT : Nat → Nat) (p : Nat × Nat × Nat × (Nat → Int32)) : va_W := loS dT p.1 p.2.1 p.2.2.1 p.2.2.2
abbrev moE (dT : Nat → Nat) (p : Nat × Nat × Nat × (Nat → Int32)) : va_W := moS dT p.1 p.2.1 p.2.2.1 p.2.2.2
abbrev skE (dT : Nat → Nat) (p : Nat × Nat × (Nat → Int32)) : va_W := skS dT p.1 p.2.1 p.2.2
abbrev msE (dT : Nat → Nat) (p : Nat × Nat × (Nat → Int32)) : va_W := msS dT p.1 p.2.1 p.2.2
theorem fm_perm {α : Type} {f : α → va_W} {L : List α} {k : Nat} {q : α} (h : L[k]? = some q) : (L.flatMap f).Perm (f q ++ (L.eraseIdx k).flatMap f) := by
  have hl := (List.getElem?_eq_some_iff.mp h).1
  have e : L.getD k q = q := by rw [List.getD_eq_getElem?_getD, h]; rfl
  have p1 := sg_erase L k q hl
  rw [e] at p1
  exact p1.flatMap_right f
theorem fm_set {α : Type} {f : α → va_W} {L : List α} {k : Nat} {q q' : α} (h : L[k]? = some q) : ((L.set k q').flatMap f).Perm (f q' ++ (L.eraseIdx k).flatMap f) := by
  have hl := (List.getElem?_eq_some_iff.mp h).1
  have h2 : (L.set k q')[k]? = some q' := List.getElem?_set_self hl
  have p := fm_perm (f := f) h2
  rwa [List.eraseIdx_set_eq] at p
theorem Wd.foc {D : va_G} {A : Nat → Prop} {H0 H : Heap} {locs : List Loc} {LL : List va_W} {α : Type} {f : α → va_W} {L : List α} {k : Nat} {q : α} (h : Wd D A H0 H locs (L.flatMap f :: LL)) (hq : L[k]? = some q) : Wd D A H0 H locs (f q :: (L.eraseIdx k).flatMap f :: LL) := by
  refine h.perm ?_
  rw [List.flatten_cons, List.flatten_cons, List.flatten_cons, ← List.append_assoc]
  exact List.Perm.append_right _ (fm_perm hq)
theorem Wd.unf {D : va_G} {A : Nat → Prop} {H0 H : Heap} {locs : List Loc} {LL : List va_W} {α : Type} {f : α → va_W} {L : List α} {k : Nat} {q q' : α} (h : Wd D A H0 H locs (f q' :: (L.eraseIdx k).flatMap f :: LL)) (hq : L[k]? = some q) : Wd D A H0 H locs ((L.set k q').flatMap f :: LL) := by
  refine h.perm ?_
  rw [List.flatten_cons, List.flatten_cons, List.flatten_cons, ← List.append_assoc]
  exact List.Perm.append_right _ (fm_set hq).symm
theorem Wd.push1 {D : va_G} {A : Nat → Prop} {H0 H : Heap} {locs : List Loc} {LL : List va_W} {α : Type} {f : α → va_W} {L : List α} {q : α} (h : Wd D A H0 H locs (L.flatMap f :: f q :: LL)) : Wd D A H0 H locs ((L ++ [q]).flatMap f :: LL) := by
  refine h.eq ?_
  rw [List.flatten_cons, List.flatten_cons, List.flatten_cons, List.flatMap_append, List.append_assoc]
  congr 1
  simp
theorem sg_mem {LL : List va_W} {q : Nat × va_E} (i : Nat) {S : va_W} (h : LL.getD i [] = S) (hm : q ∈ S) : q ∈ LL.flatten := by
  subst h
  rw [List.getD_eq_getElem?_getD] at hm
  cases hi : LL[i]? with
  | none => rw [hi] at hm; exact absurd hm List.not_mem_nil
  | some S => rw [hi] at hm; exact List.mem_flatten.mpr ⟨S, List.mem_of_getElem? hi, hm⟩
theorem fm_mem {α : Type} {f : α → va_W} {L : List α} {k : Nat} {q : α} (h : L[k]? = some q) {x : Nat × va_E} (hx : x ∈ f q) : x ∈ L.flatMap f := List.mem_flatMap.mpr ⟨q, List.mem_of_getElem? h, hx⟩
section XM
variable {p : Program} {l : Launch} {e : Env} {R : Room} {s : State} {m : MethodId} {args : Array Value} {below : List Frame} {meth : Method} {c : Code} {H : Heap} {locs : List Loc} {cells slots : Nat} {Q : State → Prop}
variable {cc : ByteArray} {nL pc : Nat} {ls : Array Slot} {rest st0 : List Value} {D : va_G} {dT g : Nat → Nat} {z0 : Nat} {A : Nat → Prop} {LL LL' : List va_W} {H0 : Heap} {own : String} {a : Nat}
theorem xr_rvM (hK : KK D dT g z0 s s.heap) (hw : Wd D A H0 H locs LL) {ci : Nat} {fs : List Value} (hm : (a, .inr (ci, fs)) ∈ LL.flatten) {C : String} {T : u_T} {N : Nat} (hc : vwCl[ci]? = some (C, T, N)) : ∃ cell : Cell, H[a]? = some cell ∧ cell.vm.isStatics = false ∧ s.vm.findClass C = some cell.cls := by
  obtain ⟨q0, h1⟩ := List.getElem?_of_mem hm
  exact va_recv hK.k hw.1.1 hc h1
theorem xr_castM (hf : CallFix p m c cc nL s args lw_all own) (hK : KK D dT g z0 s s.heap) (hw : Wd D A H0 H locs LL) {ci : Nat} {fs : List Value} (hm : (a, .inr (ci, fs)) ∈ LL.flatten) {C : String} {T : u_T} {N index : Nat} (hc : vwCl[ci]? = some (C, T, N)) (q1 : Cond.classLink own index C ∈ lw_all) (hdg : decode cc pc = .ok (.checkcast index, 3))
    (kk : W p l e R s m args below meth c H locs cells slots Q (F0 m (pc + 3) ls (.ref a :: rest))) : W p l e R s m args below meth c H locs cells slots Q (F0 m pc ls (.ref a :: rest)) := by
  obtain ⟨q0, h1⟩ := List.getElem?_of_mem hm
  obtain ⟨r, g1, cell, g2, g3, g4, -⟩ := hw.1.1 q0 _ h1
  exact va_castS (cC := D.1 ci) hf.1 hf.2.1 hf.2.2.2.1 (hf.2.2.2.2 _ q1) (hK.k.1 ci _ hc).2 ⟨cell, g2, by rw [g4]; rfl, by rw [g3]; exact (hK.k.1 ci _ hc).2.1⟩ hdg kk
end XM
/-! the house's own cell, and its numbers: now, wet, food, wet food, died, money, debt -/
abbrev srS (x : Nat) (L : Nat → Nat) (sc : Nat → Int32) : va_W := [ob x 0 [.ref (L 0), .ref (L 1), .ref (L 2), .ref (L 3), .ref (L 4), .ref (L 5), .int (sc 0), .int (bz (sc 1)), .int (sc 2), .int (sc 3), .int (sc 4), .int (sc 5), .int (sc 6)]]
def sc_pick (sc : Nat → Int32) (got : Int32) : Nat → Int32 := vec [sc 0, sc 1, sc 2 + got, if bz (sc 1) = 0 then sc 3 else sc 3 + got, sc 4, sc 5, sc 6]
def sc_buy (sc : Nat → Int32) (y : Int32) : Nat → Int32 := vec [sc 0, sc 1, sc 2 + y, sc 3, sc 4, sc 5 - f_X1_up y 3, sc 6]
def sc_borrow (sc : Nat → Int32) (y : Int32) : Nat → Int32 := vec [sc 0, sc 1, sc 2, sc 3, sc 4, sc 5 + y, sc 6 + y]
def sc_pay (sc : Nat → Int32) (y : Int32) : Nat → Int32 := vec [sc 0, sc 1, sc 2, sc 3, sc 4, sc 5 - imin y (imin (sc 5) (sc 6)), sc 6 - imin y (imin (sc 5) (sc 6))]
theorem rng_no {α : Type} {l : List (Nat × α)} {i : Int32} {k : Nat} {q : Nat × α} (h : l[k]? = some q ∧ i = nI k) (hs : (ads l).length < 4096) : ¬ (i < 0 ∨ ¬ i < nI (ads l).length) := by
  obtain ⟨h1, rfl⟩ := h
  have hk : k < l.length := (List.getElem?_eq_some_iff.mp h1).1
  rw [ads_len] at hs ⊢
  intro z
  rcases z with z | z
  · exact nI_pos (by omega) z
  · exact z (nI_lt hk (by omega))
theorem Wd.unf0 {D : va_G} {A : Nat → Prop} {H0 H : Heap} {locs : List Loc} {LL : List va_W} {α : Type} {f : α → va_W} {L : List α} {k : Nat} {q : α} (h : Wd D A H0 H locs (f q :: (L.eraseIdx k).flatMap f :: LL)) (hq : L[k]? = some q) : Wd D A H0 H locs (L.flatMap f :: LL) := by
  refine h.perm ?_
  rw [List.flatten_cons, List.flatten_cons, List.flatten_cons, ← List.append_assoc]
  exact List.Perm.append_right _ (fm_perm hq).symm
