/-! THE MODEL's days -/
set_option maxRecDepth 100000
abbrev MpT : Type := List (Nat × Nat × (Nat → Int32))
abbrev MtT : Type := List (Nat × (Nat → Int32))
abbrev MoT : Type := List (Nat × Nat × Nat × (Nat → Int32))
def rows (mt : MtT) : List (Nat → Int32) := mt.map (fun q => q.2)
theorem rows_app (a b : MtT) : rows (a ++ b) = rows a ++ rows b := List.map_append
theorem rows_len (a : MtT) : (rows a).length = a.length := List.length_map _
def mpd_f (y : Int32) (_ : Unit) (q : Nat × Nat × (Nat → Int32)) : Unit × (Nat × Nat × (Nat → Int32)) := ((), (q.1, q.2.1, f_X9_day q.2.2 y))
def mld_f (_ : Unit) (q : Nat × Nat × Nat × (Nat → Int32)) : Unit × (Nat × Nat × Nat × (Nat → Int32)) := ((), (q.1, q.2.1, q.2.2.1, f_X11_day q.2.2.2))
/-- a tray's day and its row behind it -/
def mtd_f (ml : MtT) (a : Int32) (v : Nat → Int32) : Int32 × (Nat → Int32) := if v 0 ≤ 0 then (a, v) else if bz (v 10) = 0 then (a + (f_X7_day v (ln_hardy ml (v 2))).1, if (f_X7_day v (ln_hardy ml (v 2))).2 0 = 0 then mt_new else (f_X7_day v (ln_hardy ml (v 2))).2) else (a, v)
def mLn (ml : MtT) (v : Nat → Int32) : Prop := ¬ v 0 ≤ 0 → ∃ (k0 : Nat) (q0 : Nat × (Nat → Int32)), ml[k0]? = some q0 ∧ v 2 = nI k0 ∧ k0 < 4096
theorem emp_row {na : Nat} {q : Nat × (Nat → Int32)} : (mt_emp na q).2 = if q.2 0 = 0 then mt_new else q.2 := by
  unfold mt_emp
  split <;> rfl
def msc_day (sc : Nat → Int32) (d : Int32) : Nat → Int32 := vec [sc 0 + 1, sc 1, sc 2, sc 3, d, sc 5, if (sc 0 + 1) - (sc 0 + 1) / 10 * 10 = 0 then imin 9999 (sc 6 + f_X4_up (sc 6) 10) else sc 6]
abbrev MdS : Type := (Nat → Int32) × MpT × List (Nat → Int32) × MoT
def mdS (y : Int32) (ml : MtT) (z : MdS) : MdS := (msc_day z.1 (mapA (mtd_f ml) (z.1 4) z.2.2.1).1, (mapA (mpd_f y) () z.2.1).2, (mapA (mtd_f ml) (z.1 4) z.2.2.1).2, (mapA mld_f () z.2.2.2).2)
def mdN (y : Int32) (ml : MtT) : Nat → MdS → MdS
  | 0, z => z
  | n + 1, z => mdN y ml n (mdS y ml z)
theorem mpd_ads {y : Int32} {mp : MpT} : ads (mapA (mpd_f y) () mp).2 = ads mp := mapA_ads (fun _ _ => rfl) _ _
theorem mld_ads {mo : MoT} : ads (mapA mld_f () mo).2 = ads mo := mapA_ads (fun _ _ => rfl) _ _
theorem mt_new0 : mt_new 0 = 0 := by decide +kernel
/-! what a tray's line is, day by day -/
theorem lk_die {v : Nat → Int32} {x : Int32} : (f_X7_die v x).2 2 = v 2 := rfl
theorem lk_ate {v : Nat → Int32} : (f_X7_ate v).2 2 = v 2 := by
  unfold f_X7_ate
  try dsimp only
  repeat' split
  all_goals first | rfl | exact lk_die
theorem lk_moulted {v : Nat → Int32} : (f_X7_moulted v).2 2 = v 2 := by
  unfold f_X7_moulted
  try dsimp only
  repeat' split
  all_goals rfl
theorem lk_day {v : Nat → Int32} {x : Int32} : (f_X7_day v x).2 2 = v 2 := by
  unfold f_X7_day
  try dsimp only
  have h1 := @lk_ate v
  have h2 := @lk_moulted v
  generalize f_X7_ate v = r1 at h1 ⊢
  generalize f_X7_moulted v = r2 at h2 ⊢
  repeat' split
  all_goals first | exact h1 | exact h2 | exact h1 ▸ lk_die | exact h2 ▸ lk_die
theorem mLn_f {ml : MtT} {a : Int32} {v : Nat → Int32} (h : mLn ml v) : mLn ml (mtd_f ml a v).2 := by
  unfold mtd_f
  split
  · exact h
  · rename_i h0
    split
    · show mLn ml (if (f_X7_day v (ln_hardy ml (v 2))).2 0 = 0 then mt_new else (f_X7_day v (ln_hardy ml (v 2))).2)
      split
      · intro h2
        exact absurd (show mt_new 0 ≤ 0 by rw [mt_new0]; decide) h2
      · intro _
        rw [lk_day]
        exact h h0
    · exact h
theorem mLn_day {ml : MtT} : ∀ {l : List (Nat → Int32)} {a : Int32}, (∀ v ∈ l, mLn ml v) → ∀ v ∈ (mapA (mtd_f ml) a l).2, mLn ml v
  | [], _, h => h
  | v :: l, a, h => by
    intro z hz
    rcases List.mem_cons.mp hz with rfl | hz
    · exact mLn_f (h v List.mem_cons_self)
    · exact mLn_day (l := l) (a := (mtd_f ml a v).1) (fun x hx => h x (List.mem_cons_of_mem _ hx)) z hz
theorem mapA_len {S α : Type} {f : S → α → S × α} : ∀ (l : List α) (s : S), (mapA f s l).2.length = l.length
  | [], _ => rfl
  | x :: xs, s => by
    show (mapA f (f s x).1 xs).2.length + 1 = xs.length + 1
    rw [mapA_len]
/-! a tray that is fed, day by day -/
def mr_fed (v : Nat → Int32) : Nat → Int32 := if v 5 = 0 then vec [v 0, v 1, v 2, v 3, v 4, v 5, v 6, 0, imax (v 8) (f_X7_need v).1, v 9, v 10] else v
def mr_day (ml : MtT) (v : Nat → Int32) : Nat → Int32 := (f_X7_day (mr_fed v) (ln_hardy ml (v 2))).2
def mrW (ml : MtT) : Nat → Nat → (Nat → Int32) → Option Int32
  | 0, _, _ => none
  | n + 1, d, v => if bz (v 10) = 0 then (if mr_day ml v 0 = 0 then some (-1) else mrW ml n (d + 1) (mr_day ml v)) else some (nI d)
def mr_wet (v : Nat → Int32) : Nat → Int32 := vec [v 0, v 1, v 2, v 3, v 4, v 5, v 6, v 7, v 8, 0, v 10]
def mrV (ml : MtT) (N : Nat) (v : Nat → Int32) : Int32 := if v 0 = 0 then -1 else (mrW ml N 0 (mr_wet v)).getD 0
theorem mrW_r {ml : MtT} {n d : Nat} {v : Nat → Int32} {z : Int32} (h : ¬ bz (v 10) = 0) (hz : mrW ml n d v = some z) : z = nI d := by
  cases n with
  | zero => cases hz
  | succ n =>
    have e : mrW ml (n + 1) d v = some (nI d) := if_neg h
    exact (Option.some.inj (e.symm.trans hz)).symm
theorem mrW_s {ml : MtT} {n d : Nat} {v : Nat → Int32} {z : Int32} (h : bz (v 10) = 0) (hz : mrW ml (n + 1) d v = some z) : (mr_day ml v 0 = 0 → z = -1) ∧ (¬ mr_day ml v 0 = 0 → mrW ml n (d + 1) (mr_day ml v) = some z) := by
  have e : mrW ml (n + 1) d v = if mr_day ml v 0 = 0 then some (-1) else mrW ml n (d + 1) (mr_day ml v) := if_pos h
  rw [e] at hz
  refine ⟨fun h1 => ?_, fun h1 => ?_⟩
  · rw [if_pos h1] at hz
    exact (Option.some.inj hz).symm
  · rwa [if_neg h1] at hz
theorem mr_line {ml : MtT} {v : Nat → Int32} : mr_day ml v 2 = v 2 := by
  unfold mr_day
  rw [lk_day]
  unfold mr_fed
  split <;> rfl
