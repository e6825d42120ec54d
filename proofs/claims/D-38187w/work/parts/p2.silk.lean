/-! HOW MUCH IS JOINED: silk by weights; what the dearest call costs -/
set_option maxRecDepth 100000
/-- a piece as if the size were 2; what is left of a filament then -/
def vp (f : FvT) : Nat := (pcs f.2.2.2 2).getD f.2.1 0
def rmn (f : FvT) : Nat := ((pcs f.2.2.2 2).drop f.2.1).sum
def vpS (l : List FvT) : Nat := (l.map vp).sum
def rmS (l : List FvT) : Nat := (l.map rmn).sum
theorem vpS_app (a b : List FvT) : vpS (a ++ b) = vpS a + vpS b := by unfold vpS; rw [List.map_append, List.sum_append]
theorem rmS_app (a b : List FvT) : rmS (a ++ b) = rmS a + rmS b := by unfold rmS; rw [List.map_append, List.sum_append]
theorem okF_ka {f : FvT} (h : okF f) : ((f.2.2.2 = 0 ∧ f.2.1 < 5) ∨ (f.2.2.2 = 1 ∧ f.2.1 < 4) ∨ (f.2.2.2 = 2 ∧ f.2.1 < 3)) := by
  obtain ⟨ln, a, s, k⟩ := f
  obtain ⟨h1, h2, h3, h4, h5⟩ := h
  dsimp only at h1 h2 h3 h4 h5 ⊢
  have hk : k = 0 ∨ k = 1 ∨ k = 2 := by omega
  rcases hk with rfl | rfl | rfl
  · exact Or.inl ⟨rfl, h2⟩
  · exact Or.inr (Or.inl ⟨rfl, h2⟩)
  · exact Or.inr (Or.inr ⟨rfl, h2⟩)
theorem vp_le {f : FvT} (h : okF f) : vp f ≤ pcv f := by
  obtain ⟨ln, a, s, k⟩ := f
  have hka := okF_ka h
  obtain ⟨h1, h2, h3, h4, h5⟩ := h
  dsimp only at h1 h2 h3 h4 h5 hka
  rcases hka with ⟨rfl, ha⟩ | ⟨rfl, ha⟩ | ⟨rfl, ha⟩
  · have : a = 0 ∨ a = 1 ∨ a = 2 ∨ a = 3 ∨ a = 4 := by omega
    rcases s_cases h3 h4 with rfl | rfl | rfl | rfl | rfl <;> rcases this with rfl | rfl | rfl | rfl | rfl <;> exact Nat.le_of_ble_eq_true rfl
  · have : a = 0 ∨ a = 1 ∨ a = 2 ∨ a = 3 := by omega
    rcases s_cases h3 h4 with rfl | rfl | rfl | rfl | rfl <;> rcases this with rfl | rfl | rfl | rfl <;> exact Nat.le_of_ble_eq_true rfl
  · have : a = 0 ∨ a = 1 ∨ a = 2 := by omega
    rcases s_cases h3 h4 with rfl | rfl | rfl | rfl | rfl <;> rcases this with rfl | rfl | rfl <;> exact Nat.le_of_ble_eq_true rfl
theorem go_1 {f : FvT} (h : okF f) : rmS (goL [f]) + vp f = rmn f ∧ rmS (goL [f]) ≤ 3 * vp f ∧ vpS (goL [f]) ≤ vp f := by
  obtain ⟨ln, a, s, k⟩ := f
  have hka := okF_ka h
  dsimp only at hka
  rcases hka with ⟨rfl, ha⟩ | ⟨rfl, ha⟩ | ⟨rfl, ha⟩
  · have : a = 0 ∨ a = 1 ∨ a = 2 ∨ a = 3 ∨ a = 4 := by omega
    rcases this with rfl | rfl | rfl | rfl | rfl
    · rw [goL_on (by show ¬ 0 + 1 = 5; decide)]; exact ⟨rfl, Nat.le_of_ble_eq_true rfl, Nat.le_of_ble_eq_true rfl⟩
    · rw [goL_on (by show ¬ 1 + 1 = 5; decide)]; exact ⟨rfl, Nat.le_of_ble_eq_true rfl, Nat.le_of_ble_eq_true rfl⟩
    · rw [goL_on (by show ¬ 2 + 1 = 5; decide)]; exact ⟨rfl, Nat.le_of_ble_eq_true rfl, Nat.le_of_ble_eq_true rfl⟩
    · rw [goL_on (by show ¬ 3 + 1 = 5; decide)]; exact ⟨rfl, Nat.le_of_ble_eq_true rfl, Nat.le_of_ble_eq_true rfl⟩
    · rw [goL_gone (by rfl)]; exact ⟨rfl, Nat.le_of_ble_eq_true rfl, Nat.le_of_ble_eq_true rfl⟩
  · have : a = 0 ∨ a = 1 ∨ a = 2 ∨ a = 3 := by omega
    rcases this with rfl | rfl | rfl | rfl
    · rw [goL_on (by show ¬ 0 + 1 = 4; decide)]; exact ⟨rfl, Nat.le_of_ble_eq_true rfl, Nat.le_of_ble_eq_true rfl⟩
    · rw [goL_on (by show ¬ 1 + 1 = 4; decide)]; exact ⟨rfl, Nat.le_of_ble_eq_true rfl, Nat.le_of_ble_eq_true rfl⟩
    · rw [goL_on (by show ¬ 2 + 1 = 4; decide)]; exact ⟨rfl, Nat.le_of_ble_eq_true rfl, Nat.le_of_ble_eq_true rfl⟩
    · rw [goL_gone (by rfl)]; exact ⟨rfl, Nat.le_of_ble_eq_true rfl, Nat.le_of_ble_eq_true rfl⟩
  · have : a = 0 ∨ a = 1 ∨ a = 2 := by omega
    rcases this with rfl | rfl | rfl
    · rw [goL_on (by show ¬ 0 + 1 = 3; decide)]; exact ⟨rfl, Nat.le_of_ble_eq_true rfl, Nat.le_of_ble_eq_true rfl⟩
    · rw [goL_on (by show ¬ 1 + 1 = 3; decide)]; exact ⟨rfl, Nat.le_of_ble_eq_true rfl, Nat.le_of_ble_eq_true rfl⟩
    · rw [goL_gone (by rfl)]; exact ⟨rfl, Nat.le_of_ble_eq_true rfl, Nat.le_of_ble_eq_true rfl⟩
theorem go_all : ∀ {l : List FvT}, (∀ f ∈ l, okF f) → rmS (goL l) + vpS l = rmS l ∧ rmS (goL l) ≤ 3 * vpS l ∧ vpS (goL l) ≤ vpS l
  | [], _ => ⟨rfl, Nat.le_refl _, Nat.le_refl _⟩
  | f :: l, h => by
    have h1 := go_1 (h f List.mem_cons_self)
    have h2 := go_all (l := l) (fun x hx => h x (List.mem_cons_of_mem _ hx))
    rw [show f :: l = [f] ++ l from rfl, goL_app, rmS_app, rmS_app, vpS_app, vpS_app]
    have e1 : vpS [f] = vp f := by unfold vpS; simp
    have e2 : rmS [f] = rmn f := by unfold rmS; simp
    rw [e1, e2]
    omega
theorem vpS_le : ∀ {l : List FvT}, (∀ f ∈ l, okF f) → vpS l ≤ sumF l
  | [], _ => Nat.le_refl _
  | f :: l, h => by
    have h1 := vp_le (h f List.mem_cons_self)
    have h2 := vpS_le (l := l) (fun x hx => h x (List.mem_cons_of_mem _ hx))
    show (f :: l |>.map vp).sum ≤ ((f :: l).map pcv).sum
    rw [List.map_cons, List.map_cons, List.sum_cons, List.sum_cons]
    unfold vpS sumF at h2
    omega
def wt (f : Lf) : Nat := 9 * f.1 + 8 * f.2.1 + 3 * f.2.2
def lfLe (a b : Lf) : Prop := a.1 ≤ b.1 ∧ a.2.1 ≤ b.2.1 ∧ a.2.2 ≤ b.2.2
theorem lfLe_rf (a : Lf) : lfLe a a := ⟨Nat.le_refl _, Nat.le_refl _, Nat.le_refl _⟩
theorem lfLe_tr {a b c : Lf} (h : lfLe a b) (h2 : lfLe b c) : lfLe a c := ⟨Nat.le_trans h.1 h2.1, Nat.le_trans h.2.1 h2.2.1, Nat.le_trans h.2.2 h2.2.2⟩
theorem jnF_le (f : Lf) : lfLe (jnF f) f := by
  unfold jnF
  split
  · split
    · exact ⟨Nat.le_refl _, Nat.le_refl _, Nat.sub_le _ _⟩
    · exact ⟨Nat.le_refl _, Nat.sub_le _ _, Nat.le_refl _⟩
  · exact ⟨Nat.sub_le _ _, Nat.le_refl _, Nat.le_refl _⟩
theorem jnF_wt {f : Lf} {ln sz : Nat} (h : jnK f ≠ 3) : wt f = wt (jnF f) + rmn (ln, 0, sz, jnK f) ∧ vp (ln, 0, sz, jnK f) ≤ 3 ∧ jnK f ≤ 2 := by
  unfold jnK at h ⊢
  unfold jnF wt
  by_cases h1 : f.1 = 0
  · rw [if_pos h1] at h ⊢
    rw [if_pos h1]
    by_cases h2 : f.2.1 = 0
    · rw [if_pos h2] at h ⊢
      rw [if_pos h2]
      by_cases h3 : f.2.2 = 0
      · rw [if_pos h3] at h; exact absurd rfl h
      · rw [if_neg h3]
        refine ⟨?_, Nat.le_of_ble_eq_true rfl, by decide⟩
        show 9 * f.1 + 8 * f.2.1 + 3 * f.2.2 = 9 * f.1 + 8 * f.2.1 + 3 * (f.2.2 - 1) + 3
        omega
    · rw [if_neg h2]
      rw [if_neg h2]
      refine ⟨?_, by show 2 ≤ 3; decide, by decide⟩
      show 9 * f.1 + 8 * f.2.1 + 3 * f.2.2 = 9 * f.1 + 8 * (f.2.1 - 1) + 3 * f.2.2 + 8
      omega
  · rw [if_neg h1]
    rw [if_neg h1]
    refine ⟨?_, by show 3 ≤ 3; decide, by decide⟩
    show 9 * f.1 + 8 * f.2.1 + 3 * f.2.2 = 9 * (f.1 - 1) + 8 * f.2.1 + 3 * f.2.2 + 9
    omega
/-- what a round of joining does -/
theorem jnW_wt {T ln sz : Nat} (hln : ln < 4) (h2 : 2 ≤ sz) (h6 : sz ≤ 6) : ∀ (n : Nat) (f : Lf) (o m : List FvT), (∀ x ∈ o ++ m, okF x) → vpS m ≤ T + 2 → ∃ m', jnW T ln sz n f (o ++ m) = ((jnW T ln sz n f (o ++ m)).1, o ++ m') ∧ (∀ x ∈ o ++ m', okF x) ∧ vpS m' ≤ T + 2 ∧ wt f + rmS m = wt (jnW T ln sz n f (o ++ m)).1 + rmS m' ∧ lfLe (jnW T ln sz n f (o ++ m)).1 f ∧ lfN f + m.length = lfN (jnW T ln sz n f (o ++ m)).1 + m'.length
  | 0, f, o, m, h, hv => ⟨m, rfl, h, hv, rfl, lfLe_rf _, rfl⟩
  | n + 1, f, o, m, h, hv => by
    unfold jnW
    by_cases c1 : T ≤ sumF (o ++ m)
    · rw [if_pos c1]; exact ⟨m, rfl, h, hv, rfl, lfLe_rf _, rfl⟩
    · rw [if_neg c1]
      by_cases c2 : jnK f = 3
      · rw [if_pos c2]; exact ⟨m, rfl, h, hv, rfl, lfLe_rf _, rfl⟩
      · rw [if_neg c2, List.append_assoc]
        obtain ⟨w1, w2, w3⟩ := jnF_wt (ln := ln) (sz := sz) c2
        have hn : okF (ln, 0, sz, jnK f) := okF_new hln h2 h6 w3
        have hall : ∀ x ∈ o ++ (m ++ [(ln, 0, sz, jnK f)]), okF x := by
          intro x hx
          rw [← List.append_assoc] at hx
          exact okF_all h hn x hx
        have e1 : vpS [(ln, 0, sz, jnK f)] = vp (ln, 0, sz, jnK f) := by unfold vpS; simp
        have e2 : rmS [(ln, 0, sz, jnK f)] = rmn (ln, 0, sz, jnK f) := by unfold rmS; simp
        have hv2 : vpS (m ++ [(ln, 0, sz, jnK f)]) ≤ T + 2 := by
          rw [vpS_app, e1]
          have hs := vpS_le h
          rw [vpS_app] at hs
          omega
        obtain ⟨m', g1, g2, g3, g4, g5, g6⟩ := jnW_wt hln h2 h6 n (jnF f) o (m ++ [(ln, 0, sz, jnK f)]) hall hv2
        refine ⟨m', g1, g2, g3, ?_, lfLe_tr g5 (jnF_le f), ?_⟩
        · rw [rmS_app, e2] at g4
          omega
        · have hN := jnF_N (f := f) (fun z => c2 (jnK_3.mpr z))
          rw [List.length_append] at g6
          have e3 : [(ln, 0, sz, jnK f)].length = 1 := rfl
          omega
/-- all the steps: what was joined weighs little -/
theorem rlW_wt {T ln sz : Nat} (hln : ln < 4) (h2 : 2 ≤ sz) (h6 : sz ≤ 6) : ∀ (n : Nat) (f : Lf) (o m : List FvT) (v : Nat → Int32), (∀ x ∈ o ++ m, okF x) → vpS m ≤ T + 2 → rmS m ≤ 3 * (T + 2) → ∃ f', lfLe f' f ∧ wt f + rmS m ≤ wt f' + n * (T + 2) + 3 * (T + 2) ∧ rlJ T ln sz n f (o ++ m) = lfN f - lfN f' ∧ (rlW T ln sz n f (o ++ m) v).1 = f'
  | 0, f, o, m, v, h, hv, hr => ⟨f, lfLe_rf _, by omega, (Nat.sub_self _).symm, rfl⟩
  | n + 1, f, o, m, v, h, hv, hr => by
    obtain ⟨m', g1, g2, g3, g4, g5, g6⟩ := jnW_wt (T := T) hln h2 h6 (lfN f) f o m h hv
    have hj : jn T ln sz f (o ++ m) = ((jn T ln sz f (o ++ m)).1, o ++ m') := g1
    have g4' : wt f + rmS m = wt (jn T ln sz f (o ++ m)).1 + rmS m' := g4
    have g5' : lfLe (jn T ln sz f (o ++ m)).1 f := g5
    have g6' : lfN f + m.length = lfN (jn T ln sz f (o ++ m)).1 + m'.length := g6
    have hle : (o ++ m).length ≤ (o ++ m').length := by
      have := @jn_len T ln sz f (o ++ m)
      rw [hj] at this
      exact this
    rw [List.length_append, List.length_append] at hle
    have hlf : lfN (jn T ln sz f (o ++ m)).1 ≤ lfN f := jn_lf
    generalize (jn T ln sz f (o ++ m)).1 = f1 at hj g4' g5' g6' hlf
    have gm := go_all (l := m') (fun x hx => g2 x (List.mem_append_right _ hx))
    rw [rlJ_S, hj]
    unfold rlY
    dsimp only
    by_cases c0 : (o ++ m').length = 0
    · rw [if_pos c0, rlW_0 hj c0]
      have hz : m' = [] := List.eq_nil_of_length_eq_zero (by rw [List.length_append] at c0; omega)
      subst hz
      refine ⟨f1, g5', ?_, ?_, rfl⟩
      · rw [g4']
        have : rmS [] = 0 := rfl
        omega
      · rw [List.length_append, List.length_append]
        have : ([] : List FvT).length = 0 := rfl
        omega
    · rw [if_neg c0, rlW_S hj c0, goL_app]
      have hok : ∀ x ∈ goL o ++ goL m', okF x := by
        intro x hx
        rw [← goL_app] at hx
        exact goL_ok g2 x hx
      obtain ⟨f', k1, k2, k3, k4⟩ := rlW_wt hln h2 h6 n f1 (goL o) (goL m') (skG (f_X12_add v (nI (sumF (o ++ m')))) (o ++ m')) hok (Nat.le_trans gm.2.2 g3) (Nat.le_trans gm.2.1 (by omega))
      refine ⟨f', lfLe_tr k1 g5', ?_, ?_, k4⟩
      · rw [Nat.add_mul n 1, Nat.one_mul]
        omega
      · rw [k3, List.length_append, List.length_append]
        have : lfN f' ≤ lfN f1 := by unfold lfN; obtain ⟨a1, a2, a3⟩ := k1; omega
        omega
/-- joins of one trial: two bounds -/
theorem rlJ_bd {T ln sz n : Nat} {lf : Lf} {l : List FvT} (hln : ln < 4) (h2 : 2 ≤ sz) (h6 : sz ≤ 6) (hl : ∀ x ∈ l, okF x) : 9 * rlJ T ln sz n lf l ≤ (n + 3) * (T + 2) + lf.2.1 + 6 * lf.2.2 ∧ rlJ T ln sz n lf l ≤ lf.1 + lf.2.1 + lf.2.2 := by
  obtain ⟨f', k1, k2, k3, -⟩ := rlW_wt (T := T) hln h2 h6 n lf l [] f_X12_init (by rw [List.append_nil]; exact hl) (Nat.zero_le _) (Nat.zero_le _)
  rw [List.append_nil] at k3
  rw [k3]
  obtain ⟨a1, a2, a3⟩ := k1
  have : rmS [] = 0 := rfl
  rw [this] at k2
  have e : (n + 3) * (T + 2) = n * (T + 2) + 3 * (T + 2) := Nat.add_mul _ _ _
  unfold wt at k2
  unfold lfN
  rw [e]
  omega
def sJ (ln sz n : Nat) (lf : Lf) (l : List FvT) : Nat → Nat → Nat
  | 0, _ => 0
  | k + 1, T => rlJ T ln sz n lf l + sJ ln sz n lf l k (T + 1)
def sT (n : Nat) : Nat → Nat → Nat
  | 0, _ => 0
  | k + 1, T => (n + 3) * (T + 2) + sT n k (T + 1)
theorem sJ_add {ln sz n : Nat} {lf : Lf} {l : List FvT} : ∀ (a b T : Nat), sJ ln sz n lf l (a + b) T = sJ ln sz n lf l a T + sJ ln sz n lf l b (T + a)
  | 0, b, T => by rw [Nat.zero_add, Nat.add_zero]; exact (Nat.zero_add _).symm
  | a + 1, b, T => by
    rw [show a + 1 + b = (a + b) + 1 by omega]
    show rlJ T ln sz n lf l + sJ ln sz n lf l (a + b) (T + 1) = rlJ T ln sz n lf l + sJ ln sz n lf l a (T + 1) + _
    rw [sJ_add a b (T + 1), show T + 1 + a = T + (a + 1) by omega, Nat.add_assoc]
theorem sJ_A {ln sz n : Nat} {lf : Lf} {l : List FvT} (hln : ln < 4) (h2 : 2 ≤ sz) (h6 : sz ≤ 6) (hl : ∀ x ∈ l, okF x) : ∀ (k T : Nat), 9 * sJ ln sz n lf l k T ≤ sT n k T + k * (lf.2.1 + 6 * lf.2.2)
  | 0, _ => Nat.zero_le _
  | k + 1, T => by
    have h1 := (rlJ_bd (T := T) (n := n) (lf := lf) hln h2 h6 hl).1
    have ih := sJ_A (n := n) (lf := lf) hln h2 h6 hl k (T + 1)
    show 9 * (rlJ T ln sz n lf l + sJ ln sz n lf l k (T + 1)) ≤ (n + 3) * (T + 2) + sT n k (T + 1) + (k + 1) * (lf.2.1 + 6 * lf.2.2)
    rw [Nat.add_mul k 1, Nat.one_mul]
    omega
theorem sJ_B {ln sz n : Nat} {lf : Lf} {l : List FvT} (hln : ln < 4) (h2 : 2 ≤ sz) (h6 : sz ≤ 6) (hl : ∀ x ∈ l, okF x) : ∀ (k T : Nat), sJ ln sz n lf l k T ≤ k * (lf.1 + lf.2.1 + lf.2.2)
  | 0, _ => Nat.zero_le _
  | k + 1, T => by
    have h1 := (rlJ_bd (T := T) (n := n) (lf := lf) hln h2 h6 hl).2
    have ih := sJ_B (n := n) (lf := lf) hln h2 h6 hl k (T + 1)
    show rlJ T ln sz n lf l + sJ ln sz n lf l k (T + 1) ≤ _
    rw [Nat.add_mul k 1, Nat.one_mul]
    omega
def tS : Nat → Nat → Nat
  | 0, _ => 0
  | k + 1, T => (T + 2) + tS k (T + 1)
theorem sT_g (n : Nat) : ∀ k T : Nat, sT n k T = (n + 3) * tS k T
  | 0, _ => rfl
  | k + 1, T => by
    show (n + 3) * (T + 2) + sT n k (T + 1) = (n + 3) * ((T + 2) + tS k (T + 1))
    exact (congrArg (fun z => (n + 3) * (T + 2) + z) (sT_g n k (T + 1))).trans (Nat.mul_add _ _ _).symm
theorem sT_24 (n : Nat) : sT n 24 1 = (n + 3) * 348 := sT_g n 24 1
/-- joins of all the targets -/
theorem sJ_bd {ln sz n g d s : Nat} {lf : Lf} {l : List FvT} (hln : ln < 4) (h2 : 2 ≤ sz) (h6 : sz ≤ 6) (hl : ∀ x ∈ l, okF x) (hlf : lfLe lf (g, d, s)) : 9 * sJ ln sz n lf l 40 1 ≤ (n + 3) * 348 + 144 * (g + 2 * d + 2 * s) := by
  have e := sJ_add (ln := ln) (sz := sz) (n := n) (lf := lf) (l := l) 24 16 1
  have hA := sJ_A (n := n) (lf := lf) hln h2 h6 hl 24 1
  have hB := sJ_B (n := n) (lf := lf) hln h2 h6 hl 16 (1 + 24)
  rw [sT_24] at hA
  have e2 : sJ ln sz n lf l 40 1 = sJ ln sz n lf l (24 + 16) 1 := rfl
  obtain ⟨a1, a2, a3⟩ := hlf
  dsimp only at a1 a2 a3
  rw [e2, e]
  omega
theorem btR_J {ln sz n : Nat} {lf : Lf} {l : List FvT} : ∀ (k T : Nat), btR ln sz n lf l k T = k * (12 + l.length + 5 * n) + 5 * sJ ln sz n lf l k T ∧ btRS ln sz n lf l k T = k * (212 + 3 * l.length + 55 * n) + 19 * sJ ln sz n lf l k T
  | 0, _ => ⟨by rw [Nat.zero_mul]; rfl, by rw [Nat.zero_mul]; rfl⟩
  | k + 1, T => by
    have ih := btR_J (ln := ln) (sz := sz) (n := n) (lf := lf) (l := l) k (T + 1)
    refine ⟨?_, ?_⟩
    · show (12 + l.length + 5 * n + 5 * rlJ T ln sz n lf l) + btR ln sz n lf l k (T + 1) = (k + 1) * (12 + l.length + 5 * n) + 5 * (rlJ T ln sz n lf l + sJ ln sz n lf l k (T + 1))
      rw [ih.1, Nat.add_mul k 1, Nat.one_mul]; omega
    · show (212 + 3 * l.length + 55 * n + 19 * rlJ T ln sz n lf l) + btRS ln sz n lf l k (T + 1) = (k + 1) * (212 + 3 * l.length + 55 * n) + 19 * (rlJ T ln sz n lf l + sJ ln sz n lf l k (T + 1))
      rw [ih.2, Nat.add_mul k 1, Nat.one_mul]; omega
/-- what a best target costs -/
theorem btC_bd {ln sz n N g d s : Nat} {lf : Lf} {l : List FvT} (hln : ln < 4) (h2 : 2 ≤ sz) (h6 : sz ≤ 6) (hl : ∀ x ∈ l, okF x) (hlf : lfLe lf (g, d, s)) (hlen : l.length ≤ 40) (hn : n ≤ N) : 9 * btC ln sz n lf l ≤ 360 * (52 + 5 * N) + 5 * ((N + 3) * 348 + 144 * (g + 2 * d + 2 * s)) ∧ 9 * btCS ln sz n lf l ≤ 360 * (332 + 55 * N) + 19 * ((N + 3) * 348 + 144 * (g + 2 * d + 2 * s)) := by
  have hJ := sJ_bd (n := n) hln h2 h6 hl hlf
  have hb := btR_J (ln := ln) (sz := sz) (n := n) (lf := lf) (l := l) 40 1
  unfold btC btCS
  rw [hb.1, hb.2]
  omega
/-- a reeling's joins -/
theorem rlJ_N {T ln sz n : Nat} {lf : Lf} {l : List FvT} (hln : ln < 4) (h2 : 2 ≤ sz) (h6 : sz ≤ 6) (hl : ∀ x ∈ l, okF x) : rlJ T ln sz n lf l ≤ lfN lf := (rlJ_bd hln h2 h6 hl).2
theorem rlW_le {T ln sz n : Nat} {lf : Lf} {l : List FvT} {v : Nat → Int32} (hln : ln < 4) (h2 : 2 ≤ sz) (h6 : sz ≤ 6) (hl : ∀ x ∈ l, okF x) : lfLe (rlW T ln sz n lf l v).1 lf := by
  obtain ⟨f', k1, -, -, k4⟩ := rlW_wt (T := T) hln h2 h6 n lf l [] v (by rw [List.append_nil]; exact hl) (Nat.zero_le _) (Nat.zero_le _)
  rw [List.append_nil] at k4
  rw [k4]; exact k1
