/-! DAYS, one after the other; what would be with a tray -/
set_option maxRecDepth 100000
abbrev PlT : Type := List (Nat × Nat × (Nat → Int32))
abbrev TrT : Type := List (Nat × (Nat → Int32))
abbrev LoT : Type := List (Nat × Nat × Nat × (Nat → Int32))
abbrev DyS : Type := (Nat → Int32) × PlT × TrT × LoT × Int32
def dyS (y b : Int32) (ln : TrT) (z : DyS) : DyS := (sc_day z.1 b (mapA (td_f ln) 0 z.2.2.1).1, (mapA (pd_f y) () z.2.1).2, (mapA (td_f ln) 0 z.2.2.1).2, (mapA ld_f () z.2.2.2.1).2, z.2.2.2.2 + (mapA (td_f ln) 0 z.2.2.1).1)
def dyN (y b : Int32) (ln : TrT) : Nat → DyS → DyS
  | 0, z => z
  | n + 1, z => dyN y b ln n (dyS y b ln z)
theorem pd_ads {y : Int32} {pl : PlT} : ads (mapA (pd_f y) () pl).2 = ads pl := mapA_ads (fun _ _ => rfl) _ _
theorem ld_ads {lo : LoT} : ads (mapA ld_f () lo).2 = ads lo := mapA_ads (fun _ _ => rfl) _ _
theorem td_ads {ln tr : TrT} {a : Int32} : ads (mapA (td_f ln) a tr).2 = ads tr := mapA_ads (fun s q => by
  unfold td_f
  split
  · rfl
  · split <;> rfl) _ _
/-- every tray with worms has a line that is there -/
def hLn (ln tr : TrT) : Prop := ∀ q ∈ tr, ¬ q.2 0 ≤ 0 → ∃ (k0 : Nat) (q0 : Nat × (Nat → Int32)), ln[k0]? = some q0 ∧ q.2 2 = nI k0
theorem hLn_f {ln : TrT} {a : Int32} {q : Nat × (Nat → Int32)} (h : ¬ q.2 0 ≤ 0 → ∃ (k0 : Nat) (q0 : Nat × (Nat → Int32)), ln[k0]? = some q0 ∧ q.2 2 = nI k0) : ¬ (td_f ln a q).2.2 0 ≤ 0 → ∃ (k0 : Nat) (q0 : Nat × (Nat → Int32)), ln[k0]? = some q0 ∧ (td_f ln a q).2.2 2 = nI k0 := by
  unfold td_f
  split
  · exact h
  · rename_i h0
    split
    · intro h2
      obtain ⟨k0, q0, h3, h4⟩ := h h0
      refine ⟨k0, q0, h3, ?_⟩
      rcases lk_pass (v := q.2) (x := ln_hardy ln (q.2 2)) h4 with h5 | h5
      · exact h5
      · exact absurd (show (f_X3_pass q.2 (ln_hardy ln (q.2 2))).2 0 ≤ 0 by rw [h5]; decide) h2
    · exact h
theorem hLn_day {ln : TrT} : ∀ {tr : TrT} {a : Int32}, hLn ln tr → hLn ln (mapA (td_f ln) a tr).2
  | [], _, h => h
  | q :: tr, a, h => by
    intro z hz
    rcases List.mem_cons.mp hz with rfl | hz
    · exact hLn_f (h q List.mem_cons_self)
    · exact hLn_day (tr := tr) (a := (td_f ln a q).1) (fun x hx => h x (List.mem_cons_of_mem _ hx)) z hz
/-! a tray that is fed, day by day -/
def rb_fed (v : Nat → Int32) : Nat → Int32 := vec [v 0, v 1, v 2, v 3, v 4, v 5, v 6, if v 5 = 0 then 0 else v 7, (f_X3_need v).1, 0, v 10]
def rb_day (ln : TrT) (v : Nat → Int32) : Nat → Int32 := (f_X3_pass (rb_fed v) (ln_hardy ln (v 2))).2
def rbW (ln : TrT) : Nat → Nat → (Nat → Int32) → Option Int32
  | 0, _, _ => none
  | n + 1, d, v => if v 0 ≤ 0 then some (-1) else if bz (rb_day ln v 10) = 0 then rbW ln n (d + 1) (rb_day ln v) else some (nI d)
theorem rbW_0 {ln : TrT} {d : Nat} {v : Nat → Int32} : ∀ {n : Nat} {z : Int32}, v 0 ≤ 0 → rbW ln n d v = some z → z = -1
  | 0, _, _, h => by cases h
  | n + 1, z, h0, h => by
    have e : rbW ln (n + 1) d v = some (-1) := if_pos h0
    exact (Option.some.inj (e.symm.trans h)).symm
theorem rbW_s {ln : TrT} {n d : Nat} {v : Nat → Int32} {z : Int32} (h0 : ¬ v 0 ≤ 0) (h : rbW ln (n + 1) d v = some z) : (bz (rb_day ln v 10) = 0 → rbW ln n (d + 1) (rb_day ln v) = some z) ∧ (¬ bz (rb_day ln v 10) = 0 → z = nI d) := by
  have e : rbW ln (n + 1) d v = if bz (rb_day ln v 10) = 0 then rbW ln n (d + 1) (rb_day ln v) else some (nI d) := if_neg h0
  rw [e] at h
  refine ⟨fun h1 => ?_, fun h1 => ?_⟩
  · rwa [if_pos h1] at h
  · rw [if_neg h1] at h
    exact (Option.some.inj h).symm
theorem rb_line {ln : TrT} {v : Nat → Int32} (h : ¬ v 0 ≤ 0 → ∃ (k0 : Nat) (q0 : Nat × (Nat → Int32)), ln[k0]? = some q0 ∧ v 2 = nI k0) (h0 : ¬ v 0 ≤ 0) : ¬ rb_day ln v 0 ≤ 0 → ∃ (k0 : Nat) (q0 : Nat × (Nat → Int32)), ln[k0]? = some q0 ∧ rb_day ln v 2 = nI k0 := by
  intro h2
  obtain ⟨k0, q0, h3, h4⟩ := h h0
  refine ⟨k0, q0, h3, ?_⟩
  rcases lk_pass (v := rb_fed v) (x := ln_hardy ln (v 2)) (show rb_fed v 2 = nI k0 from h4) with h5 | h5
  · exact h5
  · exact absurd (show rb_day ln v 0 ≤ 0 by unfold rb_day; rw [h5]; decide) h2
def cn11 (v : Nat → Int32) : Nat → Int32 := vec [v 0, v 1, v 2, v 3, v 4, v 5, v 6, v 7, v 8, v 9, v 10]
theorem rb_day_cn {ln : TrT} {v : Nat → Int32} : rb_day ln (cn11 v) = rb_day ln v := rfl
theorem rbW_cn {ln : TrT} {n d : Nat} {v : Nat → Int32} : rbW ln n d (cn11 v) = rbW ln n d v := by
  cases n with
  | zero => rfl
  | succ n =>
    show (if cn11 v 0 ≤ 0 then some (-1) else if bz (rb_day ln (cn11 v) 10) = 0 then rbW ln n (d + 1) (rb_day ln (cn11 v)) else some (nI d)) = _
    rw [rb_day_cn]; rfl
def rbV (ln : TrT) (N : Nat) (v : Nat → Int32) : Int32 := if bz (v 10) = 0 then (rbW ln N 1 v).getD 0 else 0
theorem some_getD {o : Option Int32} (h : o.isSome = true) : o = some (o.getD 0) := by
  cases o with
  | none => cases h
  | some x => rfl
