/-! LOOPS over a list: what is done, what remains -/
set_option maxRecDepth 100000
def mapA {S α : Type} (f : S → α → S × α) (s : S) : List α → S × List α
  | [] => (s, [])
  | x :: xs => ((mapA f (f s x).1 xs).1, (f s x).2 :: (mapA f (f s x).1 xs).2)
theorem ads_step {α : Type} {dn rem : List (Nat × α)} {q q' : Nat × α} (h : q'.1 = q.1) : ads (dn ++ q :: rem) = ads ((dn ++ [q']) ++ rem) := by
  unfold ads
  rw [List.map_append, List.map_append, List.map_append, List.map_cons, List.append_assoc, ← h]
  rfl
theorem set_mid {α : Type} {dn rem : List α} {q q' : α} : (dn ++ q :: rem).set dn.length q' = (dn ++ [q']) ++ rem := by
  rw [List.set_append_right _ _ (Nat.le_refl _), Nat.sub_self, List.set_cons_zero, List.append_assoc]; rfl
theorem mid0 {α : Type} {dn rem : List α} {q : α} : dn ++ q :: rem = (dn ++ [q]) ++ rem := by rw [List.append_assoc]; rfl
theorem snoc_len {α : Type} {dn : List α} {q : α} : (dn ++ [q]).length = dn.length + 1 := by simp
theorem mid_get {α : Type} {dn rem : List α} {q : α} : (dn ++ q :: rem)[dn.length]? = some q := by
  rw [List.getElem?_append_right (Nat.le_refl _), Nat.sub_self]; rfl
theorem ads_mid {α : Type} {l dn rem : List (Nat × α)} {q : Nat × α} (h : ads l = ads (dn ++ q :: rem)) : (ads l)[dn.length]? = some q.1 := by
  rw [h]; exact ads_some mid_get
theorem ads_midlen {α : Type} {l dn rem : List (Nat × α)} {q : Nat × α} (h : ads l = ads (dn ++ q :: rem)) : (ads l).length = dn.length + 1 + rem.length := by
  rw [h, ads_len, List.length_append, List.length_cons]; omega
theorem ads_nil {α : Type} {l dn : List (Nat × α)} (h : ads l = ads (dn ++ [])) : dn.length = (ads l).length := by
  rw [h, ads_len, List.append_nil]
theorem mapA_ads {S α : Type} {f : S → Nat × α → S × (Nat × α)} (hf : ∀ s q, (f s q).2.1 = q.1) : ∀ (l : List (Nat × α)) (s : S), ads (mapA f s l).2 = ads l
  | [], _ => rfl
  | x :: xs, s => by
    show (f s x).2.1 :: ads (mapA f (f s x).1 xs).2 = x.1 :: ads xs
    rw [hf, mapA_ads hf xs]
theorem if0 {c : Prop} [Decidable c] (h : c) : (if c then (0 : Int32) else 1) = 0 := if_pos h
theorem if1 {c : Prop} [Decidable c] (h : ¬ c) : ¬ (if c then (0 : Int32) else 1) = 0 := by rw [if_neg h]; decide
/-! counts -/
def cn_f (a : Int32 × Int32 × Int32) (q : Nat × (Nat → Int32)) : (Int32 × Int32 × Int32) × (Nat × (Nat → Int32)) := ((a.1 + q.2 0, a.2.1 + q.2 1, a.2.2 + f_X1_one (q.2 10)), q)
def cn_tr (tr : List (Nat × (Nat → Int32))) : Int32 × Int32 × Int32 := (mapA cn_f (0, 0, 0) tr).1
def cn_all (np nl ns : Nat) (sc : Nat → Int32) (t : Int32 × Int32 × Int32) (w : Int32) : Int32 := [nI np, sc 0, sc 2, sc 3, t.1, t.2.1, sc 4, nI nl, nI ns, sc 5, sc 6, t.2.2].getD w.toNatClampNeg 0
theorem cn_same : ∀ (l : List (Nat × (Nat → Int32))) (a : Int32 × Int32 × Int32), (mapA cn_f a l).2 = l
  | [], _ => rfl
  | x :: xs, a => by
    show x :: (mapA cn_f _ xs).2 = x :: xs
    rw [cn_same xs]
theorem mapA_step {S α : Type} {f : S → α → S × α} {s s' : S} {x x' : α} {xs dn : List α} {r : S × List α} (h : f s x = (s', x')) (hI : r = ((mapA f s (x :: xs)).1, dn ++ (mapA f s (x :: xs)).2)) : r = ((mapA f s' xs).1, (dn ++ [x']) ++ (mapA f s' xs).2) := by
  rw [hI]
  show ((mapA f (f s x).1 xs).1, dn ++ (f s x).2 :: (mapA f (f s x).1 xs).2) = _
  rw [h, List.append_assoc]
  rfl
theorem mapA_end {S α : Type} {f : S → α → S × α} {s : S} {dn : List α} {r : S × List α} (hI : r = ((mapA f s []).1, dn ++ (mapA f s []).2)) : dn ++ [] = r.2 ∧ s = r.1 := by
  rw [hI]; exact ⟨rfl, rfl⟩
/-! a day -/
def ln_hardy (ln : List (Nat × (Nat → Int32))) (i : Int32) : Int32 := match ln[i.toNatClampNeg]? with
  | some q => q.2 1
  | none => 0
theorem ln_hardy_of {ln : List (Nat × (Nat → Int32))} {i : Int32} {k : Nat} {q : Nat × (Nat → Int32)} (h : ln[k]? = some q) (hi : i = nI k) (hk : k < 4096) : ln_hardy ln i = q.2 1 := by
  unfold ln_hardy
  rw [hi, nI_clamp (by omega), h]
def pd_f (x : Int32) (_ : Unit) (q : Nat × Nat × (Nat → Int32)) : Unit × (Nat × Nat × (Nat → Int32)) := ((), (q.1, q.2.1, f_X8_pass q.2.2 x))
def ld_f (_ : Unit) (q : Nat × Nat × Nat × (Nat → Int32)) : Unit × (Nat × Nat × Nat × (Nat → Int32)) := ((), (q.1, q.2.1, q.2.2.1, f_X10_pass q.2.2.2))
def td_f (ln : List (Nat × (Nat → Int32))) (a : Int32) (q : Nat × (Nat → Int32)) : Int32 × (Nat × (Nat → Int32)) := if q.2 0 ≤ 0 then (a, q) else if bz (q.2 10) = 0 then (a + (f_X3_pass q.2 (ln_hardy ln (q.2 2))).1, (q.1, (f_X3_pass q.2 (ln_hardy ln (q.2 2))).2)) else (a, q)
def sc_day (sc : Nat → Int32) (b m : Int32) : Nat → Int32 := vec [sc 0 + 1, b, sc 2, sc 3, sc 4 + m, sc 5, if (sc 0 + 1) - (sc 0 + 1) / 10 * 10 = 0 then imin 9999 (sc 6 + f_X1_up (sc 6) 10) else sc 6]
