/-! THE BEST TARGET -/
set_option maxRecDepth 100000
/-- what comes of one target -/
def btS (ln sz steps : Nat) (lf : Lf) (l : List FvT) (T : Nat) : Nat → Int32 := (rlW T ln sz steps lf l f_X12_init).2.2
def btW (ln sz steps : Nat) (lf : Lf) (l : List FvT) : Nat → Nat → Int32 → Int32 → Int32
  | 0, _, b, _ => b
  | n + 1, T, b, g => if btS ln sz steps lf l T 0 = 0 then btW ln sz steps lf l n (T + 1) b g else if 1 < (f_X12_grade (btS ln sz steps lf l T)).1 then btW ln sz steps lf l n (T + 1) b g else if btS ln sz steps lf l T 0 < g then btW ln sz steps lf l n (T + 1) b g else btW ln sz steps lf l n (T + 1) (nI T) (btS ln sz steps lf l T 0)
def btV (ln sz steps : Nat) (lf : Lf) (l : List FvT) : Int32 := btW ln sz steps lf l 40 1 (-1) 0
def btR (ln sz steps : Nat) (lf : Lf) (l : List FvT) : Nat → Nat → Nat
  | 0, _ => 0
  | n + 1, T => (12 + l.length + 5 * steps + 5 * rlJ T ln sz steps lf l) + btR ln sz steps lf l n (T + 1)
def btRS (ln sz steps : Nat) (lf : Lf) (l : List FvT) : Nat → Nat → Nat
  | 0, _ => 0
  | n + 1, T => (212 + 3 * l.length + 55 * steps + 19 * rlJ T ln sz steps lf l) + btRS ln sz steps lf l n (T + 1)
def btC (ln sz steps : Nat) (lf : Lf) (l : List FvT) : Nat := btR ln sz steps lf l 40 1
def btCS (ln sz steps : Nat) (lf : Lf) (l : List FvT) : Nat := btRS ln sz steps lf l 40 1
theorem btW_0 {ln sz steps n T : Nat} {lf : Lf} {l : List FvT} {b g : Int32} {v : Nat → Int32} (hv : btS ln sz steps lf l T = v) (h : v 0 = 0) : btW ln sz steps lf l (n + 1) T b g = btW ln sz steps lf l n (T + 1) b g := by
  subst hv; exact if_pos h
theorem btW_1 {ln sz steps n T : Nat} {lf : Lf} {l : List FvT} {b g : Int32} {v : Nat → Int32} (hv : btS ln sz steps lf l T = v) (h : ¬ v 0 = 0) (h1 : 1 < (f_X12_grade v).1) : btW ln sz steps lf l (n + 1) T b g = btW ln sz steps lf l n (T + 1) b g := by
  subst hv; exact (if_neg h).trans (if_pos h1)
theorem btW_2 {ln sz steps n T : Nat} {lf : Lf} {l : List FvT} {b g : Int32} {v : Nat → Int32} (hv : btS ln sz steps lf l T = v) (h : ¬ v 0 = 0) (h1 : ¬ 1 < (f_X12_grade v).1) (h2 : v 0 < g) : btW ln sz steps lf l (n + 1) T b g = btW ln sz steps lf l n (T + 1) b g := by
  subst hv; exact (if_neg h).trans ((if_neg h1).trans (if_pos h2))
theorem btW_3 {ln sz steps n T : Nat} {lf : Lf} {l : List FvT} {b g : Int32} {v : Nat → Int32} (hv : btS ln sz steps lf l T = v) (h : ¬ v 0 = 0) (h1 : ¬ 1 < (f_X12_grade v).1) (h2 : ¬ v 0 < g) : btW ln sz steps lf l (n + 1) T b g = btW ln sz steps lf l n (T + 1) (nI T) (v 0) := by
  subst hv; exact (if_neg h).trans ((if_neg h1).trans (if_neg h2))
theorem Wd.nil {D : va_G} {A : Nat → Prop} {H0 H : Heap} {locs : List Loc} {LL : List va_W} (h : Wd D A H0 H locs LL) : Wd D A H0 H locs ([] :: LL) := h.eq rfl
theorem Wd.cutR {D : va_G} {A : Nat → Prop} {H0 H : Heap} {locs : List Loc} {LL : List va_W} {α : Type} {f : α → va_W} {L L2 : List α} (h : Wd D A H0 H locs ((L ++ L2).flatMap f :: LL)) : Wd D A H0 H locs (L.flatMap f :: LL) := by
  have h2 : Wd D A H0 H locs (L2.flatMap f :: L.flatMap f :: LL) := by
    refine h.perm ?_
    rw [List.flatMap_append, List.flatten_cons, List.flatten_cons, List.flatten_cons, ← List.append_assoc]
    exact List.Perm.append_right _ List.perm_append_comm
  exact h2.tl
/-- a lot's row by numbers -/
def loN (v : Nat → Int32) (ln sz : Nat) (lf : Lf) : Prop := ln < 4 ∧ 2 ≤ sz ∧ sz ≤ 6 ∧ lfN lf < 2 ^ 20 ∧ v 0 = nI ln ∧ v 1 = nI sz ∧ v 6 = nI lf.1 ∧ v 7 = nI lf.2.1 ∧ v 8 = nI lf.2.2
def loOK (v : Nat → Int32) : Prop := ∃ (ln sz : Nat) (lf : Lf), loN v ln sz lf
def lo_rl (v : Nat → Int32) (lf : Lf) : Nat → Int32 := vec [v 0, v 1, v 2, v 3, v 4, v 5, nI lf.1, nI lf.2.1, nI lf.2.2, v 9, v 10]
theorem nI_upto {y : Int32} (hi : Nat) (h1 : hi < 2 ^ 31) (h : ¬ y < 1 ∧ ¬ nI hi < y) : ∃ T : Nat, T ≤ hi ∧ y = nI T := ix_few hi h1 (fun q => h.1 (Int32.lt_trans q (by decide))) h.2
theorem al_gs_bd {st : Option (Nat × Nat)} {xs : List Nat} (hok : alOK st xs) (hl : xs.length < 12) : al_gc st xs ≤ 1 ∧ al_gs st xs ≤ 18 := by
  rcases st with _ | ⟨e, c⟩
  · exact ⟨(show 1 ≤ 1 by decide), (show 10 ≤ 18 by decide)⟩
  · unfold al_gc al_gs
    dsimp only
    split
    · rename_i h
      exact ⟨Nat.le_refl _, by omega⟩
    · exact ⟨by decide, by decide⟩
theorem nn_eq {a b : Int32} (h : ¬ ¬ a = b) : a = b := Decidable.not_not.mp h
/-- the piece at a place of a basin -/
def pi_val (l : List FvT) (w : Int32) : Int32 := match l[w.toNatClampNeg]? with
  | some f => nI (pcv f)
  | none => -1
theorem pi_some {fl : List (Nat × Nat × FvT)} {k : Nat} {q : Nat × Nat × FvT} (hk : k < 2 ^ 31) (h : fl[k]? = some q) : pi_val (vals fl) (nI k) = nI (pcv q.2.2) := by
  unfold pi_val
  rw [nI_clamp hk, vals, List.getElem?_map, h]; rfl
theorem pi_none {st : Option (Nat × Nat)} {fl : List (Nat × Nat × FvT)} {w : Int32} (hok : alOK st (ads fl)) (h0 : ¬ w < 0) (h : nI (ads fl).length ≤ w) : pi_val (vals fl) w = -1 := by
  obtain ⟨k, hk, rfl⟩ := nI_of h0
  unfold pi_val
  have h3 := al_short hok
  have h1 : fl.length ≤ k := by
    rcases Nat.lt_or_ge k fl.length with h2 | h2
    · exact absurd h (by rw [ads_len] at h3 ⊢; exact nI_ge h2 (by omega))
    · exact h2
  rw [nI_clamp hk, vals, List.getElem?_map, List.getElem?_eq_none h1]; rfl
theorem fun_lt {a b : Int32} (h : ¬ b ≤ a) : a < b := Int32.not_le.mp h
theorem bas_cases {st : Option (Nat × Nat)} {fl : List (Nat × Nat × FvT)} (h : alOK st (ads fl)) : (st = none ∧ fl = []) ∨ ∃ d cap, st = some (d, cap) ∧ (ads fl).length ≤ cap ∧ cap < 4096 := by
  rcases st with _ | ⟨d, cap⟩
  · have h0 : ads fl = [] := h
    exact Or.inl ⟨rfl, List.map_eq_nil_iff.mp h0⟩
  · exact Or.inr ⟨d, cap, rfl, h.1, h.2.2⟩
def sc0 : Nat → Int32 := vec [0, 0, 0, 0, 0, 20, 0]
def tr_new : Nat → Int32 := f_X3_init (vec [0, 0, 0, 0, 0, 0, 0, 0, 0, 0, 0])
/-! the checksum -/
def dgA (d v : Int64) : Int64 := d * 31 + v
def dgl (d : Int64) (l : List Int32) : Int64 := l.foldl (fun d v => dgA d v.toInt64) d
def dp_f (d : Int64) (q : Nat × Nat × (Nat → Int32)) : Int64 × (Nat × Nat × (Nat → Int32)) := (dgl d [pl_told q.2.2 0, pl_told q.2.2 1, pl_told q.2.2 2, pl_told q.2.2 3, pl_told q.2.2 4, pl_told q.2.2 5], q)
def dn_f (d : Int64) (q : Nat × (Nat → Int32)) : Int64 × (Nat × (Nat → Int32)) := (dgl d [ln_told q.2 0, ln_told q.2 1, ln_told q.2 2], q)
def dt_f (ln : TrT) (d : Int64) (q : Nat × (Nat → Int32)) : Int64 × (Nat × (Nat → Int32)) := (dgl d [tr_told q.2 0, tr_told q.2 1, tr_told q.2 2, tr_told q.2 3, tr_told q.2 4, tr_told q.2 5, tr_told q.2 6, tr_told q.2 7, tr_told q.2 8, tr_told q.2 9, tr_told q.2 10, tr_told q.2 11, rbV ln 30 q.2], q)
def dk_f (d : Int64) (q : Nat × Nat × (Nat → Int32)) : Int64 × (Nat × Nat × (Nat → Int32)) := (dgl d [sk_told q.2.2 0, sk_told q.2.2 1, sk_told q.2.2 2, sk_told q.2.2 3, sk_told q.2.2 4, sk_told q.2.2 5, sk_told q.2.2 6, sk_told q.2.2 7, sk_told q.2.2 8, sk_told q.2.2 9], q)
/-- the best target of a lot by its row -/
def loF (v : Nat → Int32) : Lf := ((v 6).toNatClampNeg, (v 7).toNatClampNeg, (v 8).toNatClampNeg)
def btQ (v : Nat → Int32) (steps : Nat) (l : List FvT) : Int32 := btV (v 0).toNatClampNeg (v 1).toNatClampNeg steps (loF v) l
def btQC (v : Nat → Int32) (steps : Nat) (l : List FvT) : Nat := btC (v 0).toNatClampNeg (v 1).toNatClampNeg steps (loF v) l
def btQS (v : Nat → Int32) (steps : Nat) (l : List FvT) : Nat := btCS (v 0).toNatClampNeg (v 1).toNatClampNeg steps (loF v) l
theorem loN_eq {v : Nat → Int32} {ln sz : Nat} {lf : Lf} (h : loN v ln sz lf) : (v 0).toNatClampNeg = ln ∧ (v 1).toNatClampNeg = sz ∧ loF v = lf := by
  obtain ⟨h1, h2, h3, h4, e0, e1, e6, e7, e8⟩ := h
  unfold lfN at h4
  unfold loF
  rw [e0, e1, e6, e7, e8, nI_clamp (by omega), nI_clamp (by omega), nI_clamp (by omega), nI_clamp (by omega), nI_clamp (by omega)]
  exact ⟨rfl, rfl, rfl⟩
theorem btQ_eq {v : Nat → Int32} {ln sz steps : Nat} {lf : Lf} {l : List FvT} (h : loN v ln sz lf) : btQ v steps l = btV ln sz steps lf l ∧ btQC v steps l = btC ln sz steps lf l ∧ btQS v steps l = btCS ln sz steps lf l := by
  obtain ⟨h1, h2, h3⟩ := loN_eq h
  unfold btQ btQC btQS
  rw [h1, h2, h3]
  exact ⟨rfl, rfl, rfl⟩
def dlL (d : Int64) (v : Nat → Int32) : Int64 := dgl d [lo_told v 0, lo_told v 1, lo_told v 2, lo_told v 3, lo_told v 4, lo_told v 5, lo_told v 6, lo_told v 7, lo_told v 8]
def dl_f (l0 : List FvT) (d : Int64) (q : Nat × Nat × Nat × (Nat → Int32)) : Int64 × (Nat × Nat × Nat × (Nat → Int32)) := (if q.2.2.2 9 = 1 then dgA (dlL d q.2.2.2) (btQ q.2.2.2 8 l0).toInt64 else dlL d q.2.2.2, q)
def dlC (l0 : List FvT) : LoT → Nat
  | [] => 0
  | q :: r => 9 + (if q.2.2.2 9 = 1 then btQC q.2.2.2 8 l0 else 0) + dlC l0 r
def dlS (l0 : List FvT) : LoT → Nat
  | [] => 0
  | q :: r => 81 + (if q.2.2.2 9 = 1 then btQS q.2.2.2 8 l0 else 0) + dlS l0 r
def dgB (d : Int64) (l0 l1 : List FvT) : Int64 := dgl d [pi_val l0 0, pi_val l0 1, pi_val l0 2, pi_val l1 0, pi_val l1 1, pi_val l1 2]
def dgV (np nl ns : Nat) (sc : Nat → Int32) (pl : PlT) (ln tr : TrT) (lo : LoT) (l0 l1 : List FvT) (sk : List (Nat × Nat × (Nat → Int32))) : Int64 :=
  (mapA dk_f (dgB (mapA (dl_f l0) (mapA (dt_f ln) (mapA dn_f (mapA dp_f (dgl 5415 [cn_all np nl ns sc (cn_tr tr) 0, cn_all np nl ns sc (cn_tr tr) 1, cn_all np nl ns sc (cn_tr tr) 2, cn_all np nl ns sc (cn_tr tr) 3, cn_all np nl ns sc (cn_tr tr) 4, cn_all np nl ns sc (cn_tr tr) 5, cn_all np nl ns sc (cn_tr tr) 6, cn_all np nl ns sc (cn_tr tr) 7, cn_all np nl ns sc (cn_tr tr) 8, cn_all np nl ns sc (cn_tr tr) 9, cn_all np nl ns sc (cn_tr tr) 10, cn_all np nl ns sc (cn_tr tr) 11]) pl).1 ln).1 tr).1 lo).1 l0 l1) sk).1
theorem mapA_same {S α : Type} {f : S → α → S × α} (h : ∀ s x, (f s x).2 = x) : ∀ (l : List α) (s : S), (mapA f s l).2 = l
  | [], _ => rfl
  | x :: xs, s => by
    show (f s x).2 :: (mapA f (f s x).1 xs).2 = x :: xs
    rw [h, mapA_same h xs]
