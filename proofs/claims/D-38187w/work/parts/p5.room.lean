/-! THE ROOM: what a lot costs in calls -/
set_option maxRecDepth 100000
def sumB {α : Type} (f : α → Nat) (l : List α) : Nat := (l.map f).sum
theorem sumB_cons {α : Type} (f : α → Nat) (x : α) (l : List α) : sumB f (x :: l) = f x + sumB f l := by unfold sumB; rw [List.map_cons, List.sum_cons]
theorem sumB_app {α : Type} (f : α → Nat) (a b : List α) : sumB f (a ++ b) = sumB f a + sumB f b := by unfold sumB; rw [List.map_append, List.sum_append]
theorem sumB_1 {α : Type} (f : α → Nat) (x : α) : sumB f [x] = f x := by rw [sumB_cons]; rfl
theorem sumB_set {α : Type} {f : α → Nat} : ∀ {l : List α} {k : Nat} {q q' : α}, l[k]? = some q → sumB f (l.set k q') + f q = sumB f l + f q'
  | [], _, _, _, h => by cases h
  | x :: l, 0, q, q', h => by
    cases h
    show sumB f (q' :: l) + f x = _
    rw [sumB_cons, sumB_cons]; omega
  | x :: l, k + 1, q, q', h => by
    have ih := sumB_set (f := f) (l := l) (k := k) (q := q) (q' := q') h
    show sumB f (x :: l.set k q') + f q = _
    rw [sumB_cons, sumB_cons]; omega
theorem sumB_mem {α : Type} {f : α → Nat} : ∀ {l : List α} {x : α}, x ∈ l → f x ≤ sumB f l
  | y :: l, x, h => by
    rw [sumB_cons]
    rcases List.mem_cons.mp h with rfl | h
    · exact Nat.le_add_right _ _
    · have := sumB_mem (f := f) h; omega
abbrev Row : Type := Nat → Int32
def tF (v : Row) : Nat := cN (v 0) * tCost v + 4 * cN (v 8)
def tG (v : Row) : Nat := if bz (v 10) = 0 ∧ 0 < cN (v 8) then 1 else 0
def tR (v : Row) : Nat := if bz (v 10) = 0 then 0 else 1
def tB (v : Row) : Nat := if cN (v 0) = 0 then 0 else 1
def lWt (v : Row) : Nat := cN (v 3) + 2 * cN (v 4) + 2 * cN (v 5)
def lSt (v : Row) : Nat := if v 9 = 1 then 1 else 0
def RM (F : Nat) (rt rl : List Row) (nP nF nB nM nS nO : Nat) : Prop :=
  4 * F + sumB tF rt + 55 * sumB lWt rl ≤ 1200 * nO ∧ (∀ v ∈ rt, tProg v ≤ nP) ∧ (0 < rl.length → 17 ≤ nP) ∧
  (sumB tR rt + rl.length = 0 → ∀ v ∈ rt, tProg v + sumB tG rt ≤ nF) ∧ (0 < sumB tR rt + rl.length → 16 + (sumB tR rt + rl.length) + sumB tG rt ≤ nF) ∧
  sumB tB rt + rl.length ≤ nB ∧ rl.length ≤ nM ∧ sumB lSt rl ≤ nS
theorem RM.mono {F nP nF nB nM nS nO nP' nF' nB' nM' nS' nO' : Nat} {rt rl : List Row} (h : RM F rt rl nP nF nB nM nS nO) (h1 : nP ≤ nP') (h2 : nF ≤ nF') (h3 : nB ≤ nB') (h4 : nM ≤ nM') (h5 : nS ≤ nS') (h6 : nO ≤ nO') : RM F rt rl nP' nF' nB' nM' nS' nO' := by
  obtain ⟨a1, a2, a3, a4, a5, a6, a7, a8⟩ := h
  exact ⟨Nat.le_trans a1 (Nat.mul_le_mul_left _ h6), fun v hv => Nat.le_trans (a2 v hv) h1, fun z => Nat.le_trans (a3 z) h1, fun z v hv => Nat.le_trans (a4 z v hv) h2, fun z => Nat.le_trans (a5 z) h2, Nat.le_trans a6 h3, Nat.le_trans a7 h4, Nat.le_trans a8 h5⟩
theorem RM.less {F F' nP nF nB nM nS nO : Nat} {rt rl : List Row} (h : RM F rt rl nP nF nB nM nS nO) (hF : F' ≤ F) : RM F' rt rl nP nF nB nM nS nO := by
  obtain ⟨a1, a2⟩ := h
  exact ⟨by omega, a2⟩
/-! a tray's numbers -/
theorem c_nI {n : Nat} (h : n < 2 ^ 31) : cN (nI n) = n := nI_clamp h
theorem new_F : tF tr_new = 0 ∧ tG tr_new = 0 ∧ tR tr_new = 0 ∧ tB tr_new = 0 ∧ tProg tr_new = 0 := by decide +kernel
theorem lv_F {v : Row} {W S I E M G : Nat} (h : trL v W S I E M G) : tF v = W * tCost v + 4 * G ∧ tB v = 1 ∧ (bz (v 10) = 0 → tG v = (if 0 < G then 1 else 0) ∧ tR v = 0 ∧ tProg v ≤ 16) ∧ (¬ bz (v 10) = 0 → tG v = 0 ∧ tR v = 1 ∧ tProg v = 17) := by
  have h9 := h
  obtain ⟨h0, h1, h3, h4, h5, h8, b1, b2, b3, b4, b5, b6, b7, b8, b9, b10⟩ := h
  unfold tF tB tG tR
  rw [h0, h8, c_nI (by omega), c_nI (by omega)]
  refine ⟨rfl, if_neg (by omega), fun hr => ⟨?_, if_pos hr, ?_⟩, fun hr => ⟨if_neg (fun z => hr z.1), if_neg hr, (tp_r hr).1⟩⟩
  · by_cases hG : 0 < G
    · rw [if_pos hG, if_pos ⟨hr, hG⟩]
    · rw [if_neg hG, if_neg (fun z => hG z.2)]
  · rw [(tp_n h9 hr).1]
    by_cases hM : M = 0
    · rw [if_pos hM]; omega
    · rw [if_neg hM]; omega
/-- a tray's day by these numbers -/
theorem td_R {ln : TrT} {q : Nat × Row} {a : Int32} (h : trI q.2) : tF (td_f ln a q).2.2 ≤ tF q.2 ∧ tG (td_f ln a q).2.2 = 0 ∧ tB (td_f ln a q).2.2 ≤ tB q.2 ∧ tR q.2 ≤ tR (td_f ln a q).2.2 ∧ tR (td_f ln a q).2.2 ≤ tR q.2 + tG q.2 ∧ tProg (td_f ln a q).2.2 ≤ tProg q.2 + tG q.2 ∧ (tR q.2 < tR (td_f ln a q).2.2 → 16 ≤ tProg q.2) := by
  unfold td_f
  rcases h with h | ⟨W, S, I, E, M, G, t, k, hk, h2⟩
  · obtain ⟨n1, n2, n3, n4, n5⟩ := new_F
    have e : q.2 0 ≤ 0 := by rw [h]; exact new_le
    rw [if_pos e]
    dsimp only
    rw [h, n1, n2, n3, n4, n5]
    omega
  · have hpos := lv_pos t
    obtain ⟨g1, g2, g3, g4⟩ := lv_F t
    rw [if_neg hpos.1]
    by_cases hr : bz (q.2 10) = 0
    · rw [if_pos hr]
      obtain ⟨g5, g6, g7⟩ := g3 hr
      obtain ⟨d, w, w', e1, e2, hc⟩ := tr_day (x := ln_hardy ln (q.2 2)) t hr
      rw [e1]
      dsimp only
      rcases hc with ⟨c1, c2⟩ | ⟨c1, c2, c3, c9, W', S', I', E', M', hW, t', p1, p2, p3, p5⟩
      · obtain ⟨n1, n2, n3, n4, n5⟩ := new_F
        rw [c1, n1, n2, n3, n4, n5]
        omega
      · subst c1
        obtain ⟨f1, f2, f3, f4⟩ := lv_F t'
        have hG : tG q.2 = 1 ∨ (tG q.2 = 0 ∧ G = 0) := by
          rw [g5]
          by_cases z : 0 < G
          · exact Or.inl (if_pos z)
          · exact Or.inr ⟨if_neg z, by omega⟩
        by_cases hr' : bz (w' 10) = 0
        · obtain ⟨f5, f6, f7⟩ := f3 hr'
          rw [if_neg (Nat.lt_irrefl 0)] at f5
          rw [f1, f2, f5, f6, g1, g2, g6]
          omega
        · obtain ⟨f5, f6, f7⟩ := f4 hr'
          rw [f1, f2, f5, f6, f7, g1, g2, g6]
          rw [f7] at p1 p2
          omega
    · rw [if_neg hr]
      obtain ⟨g5, g6, g7⟩ := g4 hr
      dsimp only
      omega
/-- all the trays' day by these numbers -/
theorem td_Rs {ln : TrT} : ∀ {tr : TrT} {a : Int32}, (∀ q ∈ tr, trI q.2) → sumB tF (rows (mapA (td_f ln) a tr).2) ≤ sumB tF (rows tr) ∧ sumB tG (rows (mapA (td_f ln) a tr).2) = 0 ∧ sumB tB (rows (mapA (td_f ln) a tr).2) ≤ sumB tB (rows tr) ∧ sumB tR (rows tr) ≤ sumB tR (rows (mapA (td_f ln) a tr).2) ∧ sumB tR (rows (mapA (td_f ln) a tr).2) ≤ sumB tR (rows tr) + sumB tG (rows tr) ∧ (∀ P, (∀ v ∈ rows tr, tProg v + tG v ≤ P) → ∀ v ∈ rows (mapA (td_f ln) a tr).2, tProg v ≤ P) ∧ (sumB tR (rows tr) < sumB tR (rows (mapA (td_f ln) a tr).2) → ∃ v ∈ rows tr, 16 ≤ tProg v)
  | [], _, _ => ⟨Nat.le_refl _, rfl, Nat.le_refl _, Nat.le_refl _, Nat.le_refl _, fun _ _ _ h => absurd h List.not_mem_nil, fun h => absurd h (Nat.lt_irrefl _)⟩
  | q :: tr, a, h => by
    obtain ⟨a1, a2, a3, a4, a5, a6, a7⟩ := td_R (ln := ln) (a := a) (h q List.mem_cons_self)
    obtain ⟨b1, b2, b3, b4, b5, b6, b7⟩ := td_Rs (ln := ln) (tr := tr) (a := (td_f ln a q).1) (fun x hx => h x (List.mem_cons_of_mem _ hx))
    have e1 : rows (mapA (td_f ln) a (q :: tr)).2 = (td_f ln a q).2.2 :: rows (mapA (td_f ln) (td_f ln a q).1 tr).2 := rfl
    have e2 : rows (q :: tr) = q.2 :: rows tr := rfl
    rw [e1, e2]
    simp only [sumB_cons]
    refine ⟨by omega, by omega, by omega, by omega, by omega, ?_, ?_⟩
    · intro P hP v hv
      rcases List.mem_cons.mp hv with rfl | hv
      · exact Nat.le_trans a6 (hP _ List.mem_cons_self)
      · exact b6 P (fun x hx => hP x (List.mem_cons_of_mem _ hx)) v hv
    · intro hlt
      by_cases z : tR q.2 < tR (td_f ln a q).2.2
      · exact ⟨_, List.mem_cons_self, a7 z⟩
      · obtain ⟨v, hv, h16⟩ := b7 (by omega)
        exact ⟨v, List.mem_cons_of_mem _ hv, h16⟩
theorem ld_R : ∀ {lo : LoT}, (row3 (mapA ld_f () lo).2).length = (row3 lo).length ∧ sumB lWt (row3 (mapA ld_f () lo).2) = sumB lWt (row3 lo) ∧ sumB lSt (row3 (mapA ld_f () lo).2) = sumB lSt (row3 lo)
  | [] => ⟨rfl, rfl, rfl⟩
  | q :: lo => by
    obtain ⟨b1, b2, b3⟩ := ld_R (lo := lo)
    have e1 : row3 (mapA ld_f () (q :: lo)).2 = f_X10_pass q.2.2.2 :: row3 (mapA ld_f () lo).2 := rfl
    have e2 : row3 (q :: lo) = q.2.2.2 :: row3 lo := rfl
    have c1 : lWt (f_X10_pass q.2.2.2) = lWt q.2.2.2 ∧ lSt (f_X10_pass q.2.2.2) = lSt q.2.2.2 := by
      unfold f_X10_pass
      split
      · rename_i h0
        have n1 : ¬ q.2.2.2 9 = 1 := by rw [h0]; decide
        split
        · refine ⟨rfl, ?_⟩
          unfold lSt
          rw [if_neg n1]; rfl
        · exact ⟨rfl, rfl⟩
      · exact ⟨rfl, rfl⟩
    rw [e1, e2]
    simp only [sumB_cons, List.length_cons]
    omega
theorem RM_day {F nP nF nB nM nS nO : Nat} {ln tr : TrT} {lo : LoT} (h : RM F (rows tr) (row3 lo) nP nF nB nM nS nO) (ht : ∀ q ∈ tr, trI q.2) : RM F (rows (mapA (td_f ln) 0 tr).2) (row3 (mapA ld_f () lo).2) (nP + (if sumB tG (rows tr) = 0 then 0 else 1)) nF nB nM nS nO ∧ sumB tG (rows (mapA (td_f ln) 0 tr).2) = 0 := by
  obtain ⟨a1, a2, a3, a4, a5, a6, a7, a8⟩ := h
  obtain ⟨b1, b2, b3, b4, b5, b6, b7⟩ := td_Rs (ln := ln) (a := 0) ht
  obtain ⟨c1, c2, c3⟩ := ld_R (lo := lo)
  refine ⟨⟨?_, ?_, ?_, ?_, ?_, ?_, ?_, ?_⟩, b2⟩
  · rw [c2]; omega
  · refine b6 _ fun v hv => ?_
    have h1 := a2 v hv
    have h2 := sumB_mem (f := tG) hv
    have h3 : tG v ≤ 1 := by unfold tG; split <;> decide
    split <;> omega
  · rw [c1]; intro z; exact Nat.le_trans (a3 z) (Nat.le_add_right _ _)
  · rw [c1, b2]
    intro z
    refine b6 _ fun v hv => ?_
    have h1 := a4 (by omega) v hv
    have h2 := sumB_mem (f := tG) hv
    omega
  · rw [c1, b2]
    intro z
    by_cases z2 : 0 < sumB tR (rows tr) + (row3 lo).length
    · have := a5 z2; omega
    · obtain ⟨v, hv, h16⟩ := b7 (by omega)
      have := a4 (by omega) v hv
      omega
  · rw [c1]; omega
  · rw [c1]; exact a7
  · rw [c3]; exact a8
theorem RM_days {F nF nB nM nS nO : Nat} {y b : Int32} {ln : TrT} : ∀ (n nP : Nat) (z : DyS), RM F (rows z.2.2.1) (row3 z.2.2.2.1) nP nF nB nM nS nO → (∀ q ∈ z.2.2.1, trI q.2) → RM F (rows (dyN y b ln n z).2.2.1) (row3 (dyN y b ln n z).2.2.2.1) (nP + (if sumB tG (rows z.2.2.1) = 0 then 0 else 1)) nF nB nM nS nO
  | 0, nP, z, h, _ => h.mono (Nat.le_add_right _ _) (Nat.le_refl _) (Nat.le_refl _) (Nat.le_refl _) (Nat.le_refl _) (Nat.le_refl _)
  | n + 1, nP, z, h, ht => by
    obtain ⟨h1, h2⟩ := RM_day (ln := ln) h ht
    have ih := RM_days (y := y) (b := b) (ln := ln) n _ (dyS y b ln z) h1 (by
      obtain ⟨-, -, -, -, e4⟩ := td_all (ln := ln) (ml := ln) (fun _ => rfl) (a := 0) (b := 0) ht
      exact e4)
    have e : sumB tG (rows (dyS y b ln z).2.2.1) = 0 := h2
    rw [if_pos e, Nat.add_zero] at ih
    exact ih
theorem RM_pass {F nP nF nB nM nS nO : Nat} {y b : Int32} {ln : TrT} {n : Nat} {z : DyS} (h : RM F (rows z.2.2.1) (row3 z.2.2.2.1) nP nF nB nM nS nO) (ht : ∀ q ∈ z.2.2.1, trI q.2) : RM F (rows (dyN y b ln n z).2.2.1) (row3 (dyN y b ln n z).2.2.2.1) (nP + 1) nF nB nM nS nO :=
  (RM_days n nP z h ht).mono (by split <;> omega) (Nat.le_refl _) (Nat.le_refl _) (Nat.le_refl _) (Nat.le_refl _) (Nat.le_refl _)
/-! the other calls -/
theorem mem_set {α : Type} {l : List α} {k : Nat} {q' x : α} (h : x ∈ l.set k q') : x ∈ l ∨ x = q' := List.mem_or_eq_of_mem_set h
theorem RM_food {F F' nP nF nB nM nS nO : Nat} {rt rl : List Row} (h : RM F rt rl nP nF nB nM nS nO) (hF : F' ≤ F + 300) : RM F' rt rl nP nF nB nM nS (nO + 1) := by
  obtain ⟨a1, a2⟩ := h
  exact ⟨by omega, a2⟩
/-- one tray is another one, that is no more ripe, no further, no dearer -/
theorem RM_set {F F' nP nF nB nM nS nO : Nat} {rt rl : List Row} {k : Nat} {v w : Row} (h : RM F rt rl nP nF nB nM nS nO) (hv : rt[k]? = some v) (e1 : 4 * F' + tF w ≤ 4 * F + tF v) (e2 : tG w ≤ tG v) (e3 : tR w = tR v) (e4 : tB w ≤ tB v) (e5 : tProg w ≤ tProg v) : RM F' (rt.set k w) rl nP nF nB nM nS nO := by
  obtain ⟨a1, a2, a3, a4, a5, a6, a7, a8⟩ := h
  have s1 := sumB_set (f := tF) (q' := w) hv
  have s2 := sumB_set (f := tG) (q' := w) hv
  have s3 := sumB_set (f := tR) (q' := w) hv
  have s4 := sumB_set (f := tB) (q' := w) hv
  have hm := List.mem_of_getElem? hv
  refine ⟨by omega, ?_, a3, ?_, ?_, by omega, a7, a8⟩
  · intro x hx
    rcases mem_set hx with hx | rfl
    · exact a2 x hx
    · exact Nat.le_trans e5 (a2 v hm)
  · intro z x hx
    rcases mem_set hx with hx | rfl
    · have := a4 (by omega) x hx; omega
    · have := a4 (by omega) v hm; omega
  · intro z
    have := a5 (by omega); omega
/-- feeding -/
theorem RM_feed {F F' nP nF nB nM nS nO : Nat} {rt rl : List Row} {k : Nat} {v w : Row} (h : RM F rt rl nP nF nB nM nS nO) (hv : rt[k]? = some v) (e1 : 4 * F' + tF w ≤ 4 * F + tF v) (e2 : tG w ≤ 1) (e3 : tR w = tR v) (e4 : tB w ≤ tB v) (e5 : tProg w ≤ tProg v) : RM F' (rt.set k w) rl nP (nF + 1) nB nM nS nO := by
  obtain ⟨a1, a2, a3, a4, a5, a6, a7, a8⟩ := h
  have s1 := sumB_set (f := tF) (q' := w) hv
  have s2 := sumB_set (f := tG) (q' := w) hv
  have s3 := sumB_set (f := tR) (q' := w) hv
  have s4 := sumB_set (f := tB) (q' := w) hv
  have hm := List.mem_of_getElem? hv
  refine ⟨by omega, ?_, a3, ?_, ?_, by omega, a7, a8⟩
  · intro x hx
    rcases mem_set hx with hx | rfl
    · exact a2 x hx
    · exact Nat.le_trans e5 (a2 v hm)
  · intro z x hx
    rcases mem_set hx with hx | rfl
    · have := a4 (by omega) x hx; omega
    · have := a4 (by omega) v hm; omega
  · intro z
    have := a5 (by omega); omega
/-- a void tray gets worms -/
theorem RM_birth {F nP nF nB nM nS nO : Nat} {rt rl : List Row} {k : Nat} {v w : Row} (h : RM F rt rl nP nF nB nM nS nO) (hv : rt[k]? = some v) (e1 : tF w = 0) (e2 : tG w = 0) (e3 : tR w = 0) (e4 : tB w ≤ 1) (e5 : tProg w = 0) (e6 : tR v = 0) : RM F (rt.set k w) rl nP nF (nB + 1) nM nS nO := by
  obtain ⟨a1, a2, a3, a4, a5, a6, a7, a8⟩ := h
  have s1 := sumB_set (f := tF) (q' := w) hv
  have s2 := sumB_set (f := tG) (q' := w) hv
  have s3 := sumB_set (f := tR) (q' := w) hv
  have s4 := sumB_set (f := tB) (q' := w) hv
  have hm := List.mem_of_getElem? hv
  refine ⟨by omega, ?_, a3, ?_, ?_, by omega, a7, a8⟩
  · intro x hx
    rcases mem_set hx with hx | rfl
    · exact a2 x hx
    · omega
  · intro z x hx
    rcases mem_set hx with hx | rfl
    · have := a4 (by omega) x hx; omega
    · have := a4 (by omega) v hm; omega
  · intro z
    have := a5 (by omega); omega
/-- a tray is parted -/
theorem RM_part {F nP nF nB nM nS nO : Nat} {rt rl : List Row} {k k2 : Nat} {v w u x : Row} (h : RM F rt rl nP nF nB nM nS nO) (hne : ¬ k = k2) (hv : rt[k]? = some v) (hu : rt[k2]? = some u) (e1 : tF w + tF x ≤ tF v) (e2 : tG w ≤ tG v) (e3 : tR w = tR v) (e4 : tB w ≤ tB v) (e5 : tProg w ≤ tProg v) (f2 : tG x = 0) (f3 : tR x = 0) (f4 : tB x ≤ 1) (f5 : tProg x ≤ tProg v) (g1 : tR u = 0) : RM F ((rt.set k w).set k2 x) rl nP nF (nB + 1) nM nS nO := by
  obtain ⟨a1, a2, a3, a4, a5, a6, a7, a8⟩ := h
  have hu' : (rt.set k w)[k2]? = some u := by rw [List.getElem?_set_ne hne]; exact hu
  have s1 := sumB_set (f := tF) (q' := w) hv
  have s2 := sumB_set (f := tG) (q' := w) hv
  have s3 := sumB_set (f := tR) (q' := w) hv
  have s4 := sumB_set (f := tB) (q' := w) hv
  have r1 := sumB_set (f := tF) (q' := x) hu'
  have r2 := sumB_set (f := tG) (q' := x) hu'
  have r3 := sumB_set (f := tR) (q' := x) hu'
  have r4 := sumB_set (f := tB) (q' := x) hu'
  have hm := List.mem_of_getElem? hv
  refine ⟨by omega, ?_, a3, ?_, ?_, by omega, a7, a8⟩
  · intro y hy
    rcases mem_set hy with hy | rfl
    · rcases mem_set hy with hy | rfl
      · exact a2 y hy
      · exact Nat.le_trans e5 (a2 v hm)
    · exact Nat.le_trans f5 (a2 v hm)
  · intro z y hy
    have hz : sumB tR rt + rl.length = 0 := by omega
    rcases mem_set hy with hy | rfl
    · rcases mem_set hy with hy | rfl
      · have := a4 hz y hy; omega
      · have := a4 hz v hm; omega
    · have := a4 hz v hm; omega
  · intro z
    have := a5 (by omega); omega
/-- a ripe tray is mounted -/
theorem RM_mount {F nP nF nB nM nS nO : Nat} {rt rl : List Row} {k : Nat} {v w q : Row} (h : RM F rt rl nP nF nB nM nS nO) (hv : rt[k]? = some v) (e1 : tF w = 0) (e2 : tG w = 0) (e3 : tR w = 0) (e4 : tB w = 0) (e5 : tProg w = 0) (e6 : tR v = 1) (e7 : tB v = 1) (e8 : tProg v = 17) (e9 : 55 * lWt q ≤ tF v) (e10 : lSt q = 0) : RM F (rt.set k w) (rl ++ [q]) nP nF nB (nM + 1) nS nO := by
  obtain ⟨a1, a2, a3, a4, a5, a6, a7, a8⟩ := h
  have s1 := sumB_set (f := tF) (q' := w) hv
  have s2 := sumB_set (f := tG) (q' := w) hv
  have s3 := sumB_set (f := tR) (q' := w) hv
  have s4 := sumB_set (f := tB) (q' := w) hv
  have hm := List.mem_of_getElem? hv
  have hl : (rl ++ [q]).length = rl.length + 1 := by simp
  refine ⟨?_, ?_, ?_, ?_, ?_, ?_, ?_, ?_⟩
  · rw [sumB_app, sumB_1]; omega
  · intro x hx
    rcases mem_set hx with hx | rfl
    · exact a2 x hx
    · omega
  · intro _
    have := a2 v hm; omega
  · rw [hl]; intro z; omega
  · rw [hl]; intro z
    have := a5 (by omega); omega
  · rw [hl]; omega
  · rw [hl]; omega
  · rw [sumB_app, sumB_1, e10]; exact a8
/-- a lot is another one -/
theorem RM_lot {F nP nF nB nM nS nO : Nat} {rt rl : List Row} {k : Nat} {v w : Row} (h : RM F rt rl nP nF nB nM nS nO) (hv : rl[k]? = some v) (e1 : lWt w ≤ lWt v) : RM F rt (rl.set k w) nP nF nB nM (nS + 1) nO := by
  obtain ⟨a1, a2, a3, a4, a5, a6, a7, a8⟩ := h
  have s1 := sumB_set (f := lWt) (q' := w) hv
  have s2 := sumB_set (f := lSt) (q' := w) hv
  have hS : lSt w ≤ 1 := by unfold lSt; split <;> decide
  have hl : (rl.set k w).length = rl.length := List.length_set
  exact ⟨by omega, a2, by rw [hl]; exact a3, by rw [hl]; exact a4, by rw [hl]; exact a5, by rw [hl]; exact a6, by rw [hl]; exact a7, by omega⟩
theorem RM_lot0 {F nP nF nB nM nS nO : Nat} {rt rl : List Row} {k : Nat} {v w : Row} (h : RM F rt rl nP nF nB nM nS nO) (hv : rl[k]? = some v) (e1 : lWt w ≤ lWt v) (e2 : lSt w ≤ lSt v) : RM F rt (rl.set k w) nP nF nB nM nS nO := by
  obtain ⟨a1, a2, a3, a4, a5, a6, a7, a8⟩ := h
  have s1 := sumB_set (f := lWt) (q' := w) hv
  have s2 := sumB_set (f := lSt) (q' := w) hv
  have hl : (rl.set k w).length = rl.length := List.length_set
  exact ⟨by omega, a2, by rw [hl]; exact a3, by rw [hl]; exact a4, by rw [hl]; exact a5, by rw [hl]; exact a6, by rw [hl]; exact a7, by omega⟩
/-! ## the cells of all the calls -/
/-- what a dear call costs at the most; f: calls for food, L: lots that are stifled, K: lots -/
def DD (f L K : Nat) : Nat := if K = 0 then 2000 else max (14500 + 1746 * f) (2000 + 5808 * L + 1746 * f)
def CB (n nP nX f L K : Nat) : Nat := 200 + 30 * n + 470 * nP + nX * DD f L K
theorem DD_mono {f L K f' L' K' : Nat} (h1 : f ≤ f') (h2 : L ≤ L') (h3 : K ≤ K') : DD f L K ≤ DD f' L' K' := by
  unfold DD
  by_cases z : K = 0
  · rw [if_pos z]
    by_cases z' : K' = 0
    · rw [if_pos z']; exact Nat.le_refl _
    · rw [if_neg z']; omega
  · rw [if_neg z, if_neg (by omega)]; omega
theorem CB_mono {n nP nX f L K n' nP' nX' f' L' K' : Nat} (h1 : n ≤ n') (h2 : nP ≤ nP') (h3 : nX ≤ nX') (h4 : f ≤ f') (h5 : L ≤ L') (h6 : K ≤ K') : CB n nP nX f L K ≤ CB n' nP' nX' f' L' K' := by
  unfold CB
  have := Nat.mul_le_mul h3 (DD_mono h4 h5 h6)
  omega
theorem CB_X {n nP nX f L K : Nat} : CB n nP (nX + 1) f L K = CB n nP nX f L K + DD f L K := by
  unfold CB
  rw [Nat.add_mul nX 1, Nat.one_mul]; omega
theorem CB_P {n nP nX f L K : Nat} : CB n (nP + 1) nX f L K = CB n nP nX f L K + 470 := by
  unfold CB; omega
theorem CB_n {n nP nX f L K : Nat} : CB (n + 1) nP nX f L K = CB n nP nX f L K + 30 := by
  unfold CB; omega
theorem CB_tab : ∀ L, L < 8 → ∀ f, f < 29 → (31 - 3 * max 1 L - L - f) * (max (14500 + 1746 * f) (2000 + 5808 * L + 1746 * f)) ≤ 588000 := by decide +kernel
/-- sixty-four calls have room -/
theorem CB_bd {F nP nF nB nM nS nO nX : Nat} {rt rl : List Row} (h : RM F rt rl nP nF nB nM nS nO) (hn : nP + nF + nB + nM + nS + nO + nX ≤ 64) : CB (nP + nF + nB + nM + nS + nO + nX) nP nX nO (sumB lSt rl) rl.length ≤ 601152 := by
  obtain ⟨a1, a2, a3, a4, a5, a6, a7, a8⟩ := h
  unfold CB DD
  by_cases z : rl.length = 0
  · rw [if_pos z]; omega
  · rw [if_neg z]
    have h1 := a3 (by omega)
    have h2 := a5 (by omega)
    have hLK : sumB lSt rl ≤ rl.length := by
      clear a1 a2 a3 a4 a5 a6 a7 a8 z h1 h2
      induction rl with
      | nil => exact Nat.le_refl _
      | cons v rl ih =>
        rw [sumB_cons, List.length_cons]
        have : lSt v ≤ 1 := by unfold lSt; split <;> decide
        omega
    generalize sumB lSt rl = L at *
    have hX : nX + (nP - 17) ≤ 31 - 3 * max 1 L - L - nO := by omega
    have hL : L < 8 := by omega
    have hf : nO < 29 ∨ nX = 0 := by omega
    rcases hf with hf | hf
    · have ht := CB_tab L hL nO hf
      generalize hD : max (14500 + 1746 * nO) (2000 + 5808 * L + 1746 * nO) = D at ht ⊢
      have hD2 : 14500 ≤ D := by omega
      have hm : (nX + (nP - 17)) * D ≤ 588000 := Nat.le_trans (Nat.mul_le_mul_right _ hX) ht
      rw [Nat.add_mul] at hm
      have hp : (nP - 17) * 14500 ≤ (nP - 17) * D := Nat.mul_le_mul_left _ hD2
      omega
    · rw [hf, Nat.zero_mul]; omega
