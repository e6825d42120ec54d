/-! THE MODEL: its cells, its arrays -/
set_option maxRecDepth 100000
abbrev mxS (x : Nat) (th : Int32) (L : Nat → Nat) (sc : Nat → Int32) : va_W := [ob x 3 [.int th, .ref (L 0), .ref (L 1), .ref (L 2), .ref (L 3), .ref (L 4), .ref (L 5), .int (sc 0), .int (bz (sc 1)), .int (sc 2), .int (sc 3), .int (sc 4), .int (sc 5), .int (sc 6)]]
section XR
variable {p : Program} {l : Launch} {e : Env} {R : Room} {s : State} {m : MethodId} {args : Array Value} {below : List Frame} {meth : Method} {c : Code} {H : Heap} {locs : List Loc} {cells slots : Nat} {Q : State → Prop}
variable {cc : ByteArray} {nL pc : Nat} {ls : Array Slot} {rest st0 : List Value} {D : va_G} {dT g : Nat → Nat} {z0 : Nat} {A : Nat → Prop} {LL LL' : List va_W} {H0 : Heap} {own : String} {a : Nat}
theorem xr_anyS (hK : KK D dT g z0 s s.heap) (hw : Wd D A H0 H locs LL) (i j : Nat) {ci : Nat} {fs : List Value} (he : sg_at LL i j = some (a, .inr (ci, fs))) {C : String} {T : u_T} {N : Nat} (hc : vwCl[ci]? = some (C, T, N)) : va_Any C s H a := by
  obtain ⟨q0, h1, -⟩ := sg_find he
  refine va_rAny hK.k hw.1.1 h1 hc ?_
  intro comp c0 e1 e2
  have hcl := (hK.k.1 ci _ hc).2
  cases hcl.1.symm.trans e1
  cases hcl.1.symm.trans e2
  exact va_assign hcl
/-- a row of ints cast to int[] -/
theorem xr_castI {index n : Nat} {L : List Int32} (hf : CallFix p m c cc nL s args lw_all own) (hK : KK D dT g z0 s s.heap) (hw : Wd D A H0 H locs LL) (i j : Nat) (he : sg_at LL i j = some (a, aI dT L)) (q1 : Cond.classLink own index "[I" ∈ lw_all) (hdg : decode cc pc = .ok (.checkcast index, 3))
    (kk : W p l e R s m args below meth c H locs cells slots Q (F0 m (pc + 3) ls (.ref a :: rest))) : W p l e R s m args below meth c H locs cells slots Q (F0 m pc ls (.ref a :: rest)) := by
  obtain ⟨q0, h1, -⟩ := sg_find he
  exact va_castA hf.1 hf.2.1 hf.2.2.2.1 (hf.2.2.2.2 _ q1) hw.1.1 q0 h1 (va_nm_int (hK.k.2 0 _ rfl).2) hdg kk
end XR
theorem ixp {i : Int32} {k : Nat} (e : i = nI k) (hk : k < 4096) : ¬ i < 0 := by rw [e]; exact nI_pos (by omega)
theorem ixc {i : Int32} {k : Nat} (e : i = nI k) (hk : k < 4096) : i.toNatClampNeg = k := by rw [e]; exact nI_clamp (by omega)
theorem arr_up {xs : List Nat} {k x : Nat} (h : k < xs.length) : va_up (fun i => xs[i]?) k (some x) = fun i => (xs.set k x)[i]? := by
  funext i
  unfold va_up
  rw [List.getElem?_set]
  by_cases hi : i = k
  · subst hi; rw [if_pos rfl, if_pos rfl, if_pos h]
  · rw [if_neg hi, if_neg (fun z => hi z.symm)]
theorem ads_setq {α : Type} {l : List (Nat × α)} {k : Nat} {q : Nat × α} : ads (l.set k q) = (ads l).set k q.1 := by unfold ads; rw [List.map_set]
theorem arr_of {α : Type} {l : List (Nat × α)} {i : Int32} (n : Nat) (hl : l.length = n + 1) (hn : n < 100) (h : ¬ (i < 0 ∨ nI n < i)) : ∃ (k : Nat) (q : Nat × α), l[k]? = some q ∧ i = nI k ∧ k < 4096 := by
  obtain ⟨j, hj, rfl⟩ := ix_few n (by omega) (fun z => h (Or.inl z)) (fun z => h (Or.inr z))
  exact ⟨j, l[j], List.getElem?_eq_getElem (by omega), rfl, by omega⟩
theorem list_of {α : Type} {st : Option (Nat × Nat)} {l : List (Nat × α)} {i : Int32} (hok : alOK st (ads l)) (h : ¬ (i < 0 ∨ ¬ i < nI (ads l).length)) : ∃ (k : Nat) (q : Nat × α), l[k]? = some q ∧ i = nI k ∧ k < 4096 := by
  have hs := al_short hok
  obtain ⟨k, hk, rfl⟩ := ix_of (n := (ads l).length) ⟨fun z => h (Or.inl z), Decidable.not_not.mp (fun z => h (Or.inr z))⟩ (by omega)
  rw [ads_len] at hk hs
  exact ⟨k, l[k], List.getElem?_eq_getElem hk, rfl, by omega⟩
theorem rngM {i : Int32} {n : Nat} (hn : n < 4096) : (i < 0 ∨ ¬ i < nI n) ↔ (i < 0 ∨ nI n - 1 < i) := by
  by_cases h0 : i < 0
  · exact ⟨fun _ => Or.inl h0, fun _ => Or.inl h0⟩
  · obtain ⟨k, hk, rfl⟩ := nI_of h0
    cases n with
    | zero =>
      refine ⟨fun _ => Or.inr ?_, fun _ => Or.inr (nI_nlt (Nat.zero_le _) hk)⟩
      exact Int32.lt_of_lt_of_le (show nI 0 - 1 < (0 : Int32) by decide) (nI_pos' hk)
    | succ n =>
      rw [nI_pred]
      refine ⟨fun z => Or.inr (z.elim (fun z => absurd z h0) (fun z => ?_)), fun z => Or.inr (z.elim (fun z => absurd z h0) (fun z => ?_))⟩
      · exact nI_lt (Nat.lt_of_not_le fun h => z (nI_lt (by omega) (by omega))) hk
      · have := (nI_ltI (by omega) hk).mp z
        exact nI_nlt (by omega) hk
def mt_new : Nat → Int32 := f_X7_init (vec [0, 0, 0, 0, 0, 0, 0, 0, 0, 0, 0])
def ml_new : Nat → Int32 := f_X6_init (vec [0, 0, 0])
/-- a list of objects, one of them another one now -/
theorem Wd.repl {D : va_G} {A : Nat → Prop} {H0 H : Heap} {locs : List Loc} {LL : List va_W} {α : Type} {f : α → va_W} {L : List α} {k : Nat} {q q' : α} (h : Wd D A H0 H locs (f q' :: L.flatMap f :: LL)) (hq : L[k]? = some q) : Wd D A H0 H locs ((L.set k q').flatMap f :: LL) := by
  have h1 : Wd D A H0 H locs (f q' :: f q :: (L.eraseIdx k).flatMap f :: LL) := by
    refine h.perm ?_
    simp only [List.flatten_cons, ← List.append_assoc]
    exact List.Perm.append_right _ (by rw [List.append_assoc]; exact List.Perm.append_left _ (fm_perm hq))
  have h2 : Wd D A H0 H locs (f q :: f q' :: (L.eraseIdx k).flatMap f :: LL) := h1.perm (by
    simp only [List.flatten_cons, ← List.append_assoc]
    exact List.Perm.append_right _ (List.Perm.append_right _ List.perm_append_comm))
  exact h2.tl.unf hq
def mt_emp (na : Nat) (q : Nat × (Nat → Int32)) : Nat × (Nat → Int32) := if q.2 0 = 0 then (na, mt_new) else q
theorem set_same {α : Type} {l : List α} {k : Nat} {q : α} (h : l[k]? = some q) : l.set k q = l := by
  apply List.ext_getElem?
  intro i
  rw [List.getElem?_set]
  split
  · rename_i hi
    subst hi
    rw [if_pos (List.getElem?_eq_some_iff.mp h).1, h]
  · rfl
theorem emp_ne {na k : Nat} {mt : List (Nat × (Nat → Int32))} {q : Nat × (Nat → Int32)} (h : ¬ q.2 0 = 0) (hq : mt[k]? = some q) : mt.set k (mt_emp na q) = mt := by
  unfold mt_emp
  rw [if_neg h, set_same hq]
theorem emp_eq {na : Nat} {q : Nat × (Nat → Int32)} (h : q.2 0 = 0) : mt_emp na q = (na, mt_new) := if_pos h
theorem set_get {α : Type} {l : List α} {k : Nat} {q q' : α} (h : l[k]? = some q) : (l.set k q')[k]? = some q' := List.getElem?_set_self (List.getElem?_eq_some_iff.mp h).1
theorem set_oth {α : Type} {l : List α} {k k2 : Nat} {q' q2 : α} (h : l[k2]? = some q2) (hne : ¬ k = k2) : (l.set k q')[k2]? = some q2 := by rw [List.getElem?_set_ne hne]; exact h
theorem bz_01 (x : Int32) : bz x = 0 ∨ bz x = 1 := by
  unfold bz
  split
  · exact Or.inl rfl
  · exact Or.inr rfl
theorem kne_of {i j : Int32} {k k2 : Nat} (e : i = nI k) (e2 : j = nI k2) (h : ¬ i = j) : ¬ k = k2 := fun z => h (by rw [e, e2, z])
def mo_mount (v : Nat → Int32) (w s : Int32) : Nat → Int32 := vec [v 0, v 1, v 2, (w - s) - 2 * ((w - s) / 10 / 2), (w - s) / 10 / 2, s / 2, (w - s) - 2 * ((w - s) / 10 / 2), (w - s) / 10 / 2, s / 2, v 9, v 10]
def me_taint (v : Nat → Int32) (b : Int32) : Int32 := if bz b = 0 then f_X4_up (10 * v 5) (f_X11_cocoons v).1 else if 3 < f_X4_up (10 * v 5) (f_X11_cocoons v).1 then f_X4_up (10 * v 5) (f_X11_cocoons v).1 / 2 else 0
def me_line (v : Nat → Int32) (b : Int32) : Nat → Int32 := vec [v 1, imin 9 (v 2 + if v 5 = 0 then 1 else 0), me_taint v b]
def ms_worth (v : Nat → Int32) : Int32 := v 0 * (4 - (f_X14_grade (sk_sold v)).1)
def pm_made (v : Nat → Int32) (y : Int32) : Nat → Int32 := vec [y, v 1 * y / v 0, v 2, v 3, v 4, v 5, v 6, 0, 0, 0, v 10]
def pm_its (v : Nat → Int32) (y : Int32) : Nat → Int32 := vec [v 0 - y, v 1 - v 1 * y / v 0, v 2, v 3, v 4, v 5, v 6, v 7, v 8, v 9, v 10]
def pm_to (v : Nat → Int32) (y : Int32) : Nat → Int32 := if v 5 ≤ 0 then pm_made v y else (f_X7_die (pm_made v y) (f_X4_up y 10)).2
def pm_die (v : Nat → Int32) (y : Int32) : Int32 := if v 5 ≤ 0 then 0 else (f_X7_die (pm_made v y) (f_X4_up y 10)).1
def pm_sc (sc v : Nat → Int32) (y : Int32) : Nat → Int32 := vec [sc 0, sc 1, sc 2, sc 3, if v 5 ≤ 0 then sc 4 else sc 4 + (f_X7_die (pm_made v y) (f_X4_up y 10)).1, sc 5, sc 6]
def mt_told (v : Nat → Int32) (w : Int32) : Int32 := [v 0, v 1, v 2, v 3, v 4, v 5, v 6, v 7, v 8, v 9, (f_X7_need v).1, f_X1_one (v 10)].getD w.toNatClampNeg 0
def ms_told (v : Nat → Int32) (w : Int32) : Int32 := if 6 ≤ w then [v 5, v 6, v 7, v 8].getD (w - 6).toNatClampNeg 0 else [v 0, v 1, v 2, v 3, (f_X14_grade v).1, f_X1_one (v 4)].getD w.toNatClampNeg 0
theorem one_f {x : Int32} (h : bz x = 0) : f_X1_one x = 0 := by unfold f_X1_one; first | (rw [if_pos h]; done) | (rw [if_neg (fun z => z h)]; done) | simp [h]
theorem one_t {x : Int32} (h : ¬ bz x = 0) : f_X1_one x = 1 := by unfold f_X1_one; first | (rw [if_neg h]; done) | (rw [if_pos h]; done) | simp [h]
def mm_f (a : Int32 × Int32) (q : Nat × Nat × (Nat → Int32)) : (Int32 × Int32) × (Nat × Nat × (Nat → Int32)) := ((a.1 + q.2.2 0, a.2 + q.2.2 0 * (f_X14_grade q.2.2).1), q)
def mm_val (a : Int32 × Int32) : UInt64 := if a.1 = 0 then FP.dconst0 else FP.ddiv (FP.i2d a.2) (FP.i2d a.1)
