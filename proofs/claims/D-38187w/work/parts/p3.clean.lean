/-! MORE OF THE TRAYS: cleaning, parting; plots; what would be -/
set_option maxRecDepth 100000
theorem tr_clean {v : Nat → Int32} {W S I E M G : Nat} (h : trL v W S I E M G) : ∃ d w w', f_X3_clean v = (d, w) ∧ f_X7_clean v = (d, w') ∧ ((w = tr_new ∧ w' 0 = 0) ∨ (w' = w ∧ ¬ w 0 = 0 ∧ w 2 = v 2 ∧ w 10 = v 10 ∧ ∃ W' S', W' ≤ W ∧ trL w W' S' I E M G)) := by
  obtain ⟨h0, h1, h3, h4, h5, h8, b1, b2, b3, b4, b5, b6, b7, b8, b9, b10⟩ := h
  unfold f_X3_clean f_X7_clean
  by_cases c5 : v 5 ≤ 0
  · rw [if_pos c5, if_pos c5]
    refine ⟨_, _, _, rfl, rfl, Or.inr ⟨rfl, ?_, rfl, rfl, W, S, Nat.le_refl _, h0, h1, h3, h4, h5, h8, b1, b2, b3, b4, b5, b6, b7, b8, b9, b10⟩⟩
    show ¬ v 0 = 0
    rw [h0]; exact nI_ne0 (by omega) (by omega)
  · rw [if_neg c5, if_neg c5]
    have e10 : (10 : Int32) = nI 10 := by decide
    have eu : f_X1_up (v 0) 10 = nI ((W + 10 - 1) / 10) := by rw [h0, e10, up_n (by omega) (by decide) (by decide)]
    have el := lose_n (v := vec [v 0, v 1, v 2, v 3, v 4, v 5, v 6, 0, v 8, v 9, v 10]) (W := W) (S := S) (q := (W + 10 - 1) / 10) h0 h1 (by omega) b2 (by omega)
    have ed := die_n (v := vec [v 0, v 1, v 2, v 3, v 4, v 5, v 6, 0, v 8, v 9, v 10]) (W := W) (S := S) (q := (W + 10 - 1) / 10) h0 h1 (by omega) b2 (by omega)
    rw [up_4, eu]
    dsimp only
    rw [el, ed]
    by_cases hz : W = (W + 10 - 1) / 10
    · rw [if_pos hz]
      refine ⟨_, _, _, rfl, rfl, Or.inl ⟨rfl, ?_⟩⟩
      show nI (W - (W + 10 - 1) / 10) = 0
      rw [← hz, Nat.sub_self, nI_0]
    · rw [if_neg hz]
      exact ⟨_, _, _, rfl, rfl, Or.inr ⟨rfl, nI_ne0 (by omega) (by omega), rfl, rfl, W - (W + 10 - 1) / 10, S - (W + 10 - 1) / 10, Nat.sub_le _ _, rfl, rfl, h3, h4, h5, h8, by omega, by omega, by omega, b4, b5, b6, b7, b8, b9, b10⟩⟩
theorem part_bd {S Y W : Nat} (hS : S ≤ W) (hY : Y < W) : S - S * Y / W ≤ W - Y ∧ S * Y / W ≤ Y ∧ S * Y / W ≤ S := by
  have h1 : (S + Y - W) * W ≤ S * Y := by
    rcases Nat.lt_or_ge (S + Y) W with h | h
    · rw [Nat.sub_eq_zero_of_le (by omega), Nat.zero_mul]; exact Nat.zero_le _
    · obtain ⟨a, rfl⟩ : ∃ a, W = S + a := ⟨W - S, by omega⟩
      obtain ⟨c, rfl⟩ : ∃ c, Y = a + c := ⟨Y - a, by omega⟩
      obtain ⟨b, rfl⟩ : ∃ b, S = b + c := ⟨S - c, by omega⟩
      rw [show b + c + (a + c) - (b + c + a) = c by omega]
      have e := Nat.mul_comm b c
      simp only [Nat.mul_add, Nat.add_mul]
      omega
  have h2 : S + Y - W ≤ S * Y / W := (Nat.le_div_iff_mul_le (by omega)).mpr h1
  have h3 : S * Y / W ≤ Y := Nat.div_le_of_le_mul (Nat.mul_le_mul_right _ hS)
  have h4 : S * Y / W ≤ S := Nat.div_le_of_le_mul (by rw [Nat.mul_comm W S]; exact Nat.mul_le_mul_left _ (Nat.le_of_lt hY))
  generalize S * Y / W = q at h2 h3 h4 ⊢
  omega
theorem tr_part {v w sc : Nat → Int32} {W S I E M G Y : Nat} (h : trL v W S I E M G) (hY1 : 1 ≤ Y) (hY : Y < W) : (f_X3_part v w (nI Y)).1 = v 1 * nI Y / v 0 ∧ (f_X3_part v w (nI Y)).2.1 = pm_its v (nI Y) ∧ pt_sc sc v w (nI Y) = pm_sc sc v (nI Y) ∧ (∃ S', trL (pm_its v (nI Y)) (W - Y) S' I E M G) ∧ ((pt_to v w (nI Y) = tr_new ∧ pm_to v (nI Y) 0 = 0) ∨ (pm_to v (nI Y) = pt_to v w (nI Y) ∧ ¬ pm_to v (nI Y) 0 = 0 ∧ pt_to v w (nI Y) 2 = v 2 ∧ pt_to v w (nI Y) 10 = v 10 ∧ ∃ W' S', W' ≤ Y ∧ trL (pt_to v w (nI Y)) W' S' I E M 0)) := by
  obtain ⟨h0, h1, h3, h4, h5, h8, b1, b2, b3, b4, b5, b6, b7, b8, b9, b10⟩ := h
  obtain ⟨p1, p2, p3⟩ := part_bd b3 hY
  have hsy : S * Y ≤ 200 * 200 := Nat.mul_le_mul (by omega) (by omega)
  have eS : v 1 * nI Y / v 0 = nI (S * Y / W) := by rw [h1, h0, pk_mul, pk_div (by omega) (by omega) (by omega)]
  refine ⟨rfl, rfl, ?_, ⟨S - S * Y / W, ?_⟩, ?_⟩
  · show vec [sc 0, sc 1, sc 2, sc 3, (if v 5 ≤ 0 then sc 4 else sc 4 + (f_X3_lose (pm_made v (nI Y)) (f_X1_up (nI Y) 10)).1), sc 5, sc 6] = vec [sc 0, sc 1, sc 2, sc 3, (if v 5 ≤ 0 then sc 4 else sc 4 + (f_X7_die (pm_made v (nI Y)) (f_X1_up (nI Y) 10)).1), sc 5, sc 6]
    have e10 : (10 : Int32) = nI 10 := by decide
    rw [e10, up_n (by omega) (by decide) (by decide), lose_n (W := Y) (S := S * Y / W) rfl eS (by omega) (by omega) (by omega), die_n (W := Y) (S := S * Y / W) rfl eS (by omega) (by omega) (by omega)]
  · refine ⟨?_, ?_, h3, h4, h5, h8, by omega, by omega, p1, b4, b5, b6, b7, b8, b9, b10⟩
    · show v 0 - nI Y = nI (W - Y)
      rw [h0, pk_sub (by omega)]
    · show v 1 - v 1 * nI Y / v 0 = nI (S - S * Y / W)
      rw [eS, h1, pk_sub p3]
  · have ep : pt_to v w (nI Y) = if v 5 ≤ 0 then pm_made v (nI Y) else (f_X3_lose (pm_made v (nI Y)) (f_X1_up (nI Y) 10)).2 := rfl
    have em : pm_to v (nI Y) = if v 5 ≤ 0 then pm_made v (nI Y) else (f_X7_die (pm_made v (nI Y)) (f_X1_up (nI Y) 10)).2 := rfl
    by_cases c5 : v 5 ≤ 0
    · rw [if_pos c5] at ep em
      rw [ep, em]
      exact Or.inr ⟨rfl, nI_ne0 (by omega) (by omega), rfl, rfl, Y, S * Y / W, Nat.le_refl _, rfl, eS, h3, h4, h5, nI_0.symm, by omega, by omega, p2, b4, b5, b6, b7, b8, b9, by decide⟩
    · rw [if_neg c5] at ep em
      have e10 : (10 : Int32) = nI 10 := by decide
      rw [e10, up_n (by omega) (by decide) (by decide), lose_n (W := Y) (S := S * Y / W) rfl eS (by omega) (by omega) (by omega)] at ep
      rw [e10, up_n (by omega) (by decide) (by decide), die_n (W := Y) (S := S * Y / W) rfl eS (by omega) (by omega) (by omega)] at em
      dsimp only at ep em
      by_cases hz : Y = (Y + 10 - 1) / 10
      · rw [if_pos hz] at ep
        refine Or.inl ⟨ep, ?_⟩
        rw [em]
        show nI (Y - (Y + 10 - 1) / 10) = 0
        rw [← hz, Nat.sub_self, nI_0]
      · rw [if_neg hz] at ep
        rw [ep, em]
        exact Or.inr ⟨rfl, nI_ne0 (by omega) (by omega), rfl, rfl, Y - (Y + 10 - 1) / 10, S * Y / W - (Y + 10 - 1) / 10, Nat.sub_le _ _, rfl, rfl, h3, h4, h5, nI_0.symm, by omega, by omega, by omega, b4, b5, b6, b7, b8, b9, by decide⟩
theorem pick_eq (v : Nat → Int32) (x : Int32) : f_X8_pick v x = f_X9_pick v x := by
  have e : ∀ a : Int32, a * 2 = 2 * a := fun a => Int32.mul_comm a 2
  unfold f_X8_pick f_X9_pick
  simp only [e, Int32.mul_one]
/-- a plot, by numbers -/
def plN (v : Nat → Int32) : Prop := ∃ A a b c d : Nat, v 0 = nI A ∧ A ≤ 9 ∧ v 2 = nI a ∧ v 3 = nI b ∧ v 4 = nI c ∧ v 5 = nI d ∧ a ≤ 99 ∧ b ≤ 99 ∧ c ≤ 99 ∧ d ≤ 99
theorem plN_init {y : Int32} (h : ¬ (y < 1 ∨ 9 < y)) : plN (f_X8_init y) := by
  obtain ⟨A, hA, rfl⟩ := nI_upto 9 (by decide) ⟨fun z => h (Or.inl z), fun z => h (Or.inr z)⟩
  exact ⟨A, 0, 0, 0, 0, rfl, hA, nI_0.symm, nI_0.symm, nI_0.symm, nI_0.symm, by decide, by decide, by decide, by decide⟩
theorem plN_prune {v : Nat → Int32} (h : plN v) : plN (f_X8_prune v).2 := by
  obtain ⟨A, a, b, c, d, h0, hA, h2, h3, h4, h5, b2, b3, b4, b5⟩ := h
  exact ⟨A, 0, 0, 0, 0, h0, hA, nI_0.symm, nI_0.symm, nI_0.symm, nI_0.symm, by decide, by decide, by decide, by decide⟩
theorem plN_pass {v : Nat → Int32} {y : Int32} (h : plN v) (hy : ¬ (y < 0 ∨ 5 < y)) : plN (f_X8_pass v y) := by
  obtain ⟨A, a, b, c, d, h0, hA, h2, h3, h4, h5, b2, b3, b4, b5⟩ := h
  obtain ⟨x, hx, rfl⟩ := ix_few 5 (by decide) (fun z => hy (Or.inl z)) (fun z => hy (Or.inr z))
  have hb : A * x ≤ 9 * 5 := Nat.mul_le_mul hA hx
  have e99 : (99 : Int32) = nI 99 := by decide
  unfold f_X8_pass
  split
  · refine ⟨A, A * x, a, b, min 99 (d + c), h0, hA, ?_, h2, h3, ?_, by omega, b2, b3, by omega⟩
    · show v 0 * nI x = nI (A * x)
      rw [h0, pk_mul]
    · show imin 99 (v 5 + v 4) = nI (min 99 (d + c))
      rw [h5, h4, nI_add, e99, nI_min (by decide) (by omega)]
  · exact ⟨A, a, b, c, d, h0, hA, h2, h3, h4, h5, b2, b3, b4, b5⟩
theorem plN_pick {v : Nat → Int32} {y : Int32} (h : plN v) (hy : ¬ y < 1 ∧ ¬ 99 < y) : plN (f_X8_pick v y).2 ∧ ∃ F, F ≤ 198 ∧ (f_X8_pick v y).1 = nI F := by
  obtain ⟨A, a, b, c, d, h0, hA, h2, h3, h4, h5, b2, b3, b4, b5⟩ := h
  obtain ⟨x, hx, rfl⟩ := nI_upto 99 (by decide) hy
  have e2 : (2 : Int32) = nI 2 := by decide
  have t1 : imin (nI x) (v 4) = nI (min x c) := by rw [h4, nI_min (by omega) (by omega)]
  have t1' : nI x - nI (min x c) = nI (x - min x c) := pk_sub (Nat.min_le_left _ _)
  have t2 : imin (nI (x - min x c)) (v 3) = nI (min (x - min x c) b) := by rw [h3, nI_min (by omega) (by omega)]
  have t2' : nI (x - min x c) - nI (min (x - min x c) b) = nI (x - min x c - min (x - min x c) b) := pk_sub (Nat.min_le_left _ _)
  generalize e1 : min x c = m1 at t1 t1' t2 t2'
  generalize e2' : x - m1 = x1 at t1' t2 t2'
  generalize e3 : min x1 b = m2 at t2 t2'
  generalize e4 : x1 - m2 = x2 at t2'
  have t3 : imin (nI x2) (v 5) = nI (min x2 d) := by rw [h5, nI_min (by omega) (by omega)]
  have t3' : nI x2 - nI (min x2 d) = nI (x2 - min x2 d) := pk_sub (Nat.min_le_left _ _)
  generalize e5 : min x2 d = m3 at t3 t3'
  generalize e6 : x2 - m3 = x3 at t3'
  have t4 : imin (nI x3) (v 2) = nI (min x3 a) := by rw [h2, nI_min (by omega) (by omega)]
  generalize e7 : min x3 a = m4 at t4
  have ez : (0 : Int32) = nI 0 := nI_0.symm
  unfold f_X8_pick
  simp only [t1, t1', t2, t2', t3, t3', t4, Int32.mul_one]
  refine ⟨⟨A, a - m4, b - m2, c - m1, d - m3, h0, hA, ?_, ?_, ?_, ?_, by omega, by omega, by omega, by omega⟩, m1 * 2 + m2 * 2 + m3 + m4, by omega, ?_⟩
  · show v 2 - nI m4 = _
    rw [h2, pk_sub (by omega)]
  · show v 3 - nI m2 = _
    rw [h3, pk_sub (by omega)]
  · show v 4 - nI m1 = _
    rw [h4, pk_sub (by omega)]
  · show v 5 - nI m3 = _
    rw [h5, pk_sub (by omega)]
  · rw [ez, e2, pk_mul, pk_mul, nI_add, nI_add, nI_add, nI_add, Nat.zero_add]
/-! ## what would be: the days till a tray is ripe -/
theorem day_8 {v v' u u' : Nat → Int32} {d x : Int32} (hg : (if v 5 ≤ 0 then f_X7_ate v else f_X7_moulted v) = (d, u)) (hg' : (if v' 5 ≤ 0 then f_X7_ate v' else f_X7_moulted v') = (d, u')) (ha : ∀ i, i < 11 → i ≠ 8 → u i = u' i) : f_X7_day v x = f_X7_day v' x ∨ ((f_X7_day v x).2 0 = 0 ∧ (f_X7_day v' x).2 0 = 0) := by
  have e0 := ha 0 (by decide) (by decide); have e1 := ha 1 (by decide) (by decide); have e2 := ha 2 (by decide) (by decide); have e3 := ha 3 (by decide) (by decide); have e4 := ha 4 (by decide) (by decide); have e5 := ha 5 (by decide) (by decide); have e6 := ha 6 (by decide) (by decide); have e7 := ha 7 (by decide) (by decide); have e9 := ha 9 (by decide) (by decide); have e10 := ha 10 (by decide) (by decide)
  by_cases h0 : u 0 = 0
  · right
    rw [day_0 hg h0, day_0 hg' (e0 ▸ h0)]
    exact ⟨h0, e0.symm.trans h0⟩
  · left
    rw [day_b hg h0, day_b hg' (fun z => h0 (e0.trans z))]
    unfold dyD dyM f_X7_die
    rw [e0, e1, e2, e3, e4, e5, e6, e7, e9, e10]
    rfl
/-- two trays alike but for what they were given -/
def alk (v w : Nat → Int32) : Prop := ∀ i, i < 11 → i ≠ 8 → v i = w i
theorem ate_fed {v : Nat → Int32} (hn : ¬ v 8 < f_X1_up (v 0 * v 3) 4) : f_X7_ate v = if v 3 = 5 then (if 5 ≤ (v 4 + 1) then (0, (vec [v 0, v 1, v 2, v 3, 0, v 5, 0, (v 7 + 1), v 8, v 9, 1])) else (0, (vec [v 0, v 1, v 2, v 3, (v 4 + 1), v 5, 0, (v 7 + 1), v 8, v 9, v 10]))) else (if 3 ≤ (v 4 + 1) then (0, (vec [v 0, v 1, v 2, v 3, 0, 2, 0, (v 7 + 1), v 8, v 9, v 10])) else (0, (vec [v 0, v 1, v 2, v 3, (v 4 + 1), v 5, 0, (v 7 + 1), v 8, v 9, v 10]))) := by
  unfold f_X7_ate f_X7_need
  dsimp only
  rw [up_4, if_neg hn]
theorem alk_vec {a0 a1 a2 a3 a4 a5 a6 a7 a8 b8 a9 a10 : Int32} : alk (vec [a0, a1, a2, a3, a4, a5, a6, a7, a8, a9, a10]) (vec [a0, a1, a2, a3, a4, a5, a6, a7, b8, a9, a10]) := by
  intro i h11 hi
  match i with
  | 0 => rfl
  | 1 => rfl
  | 2 => rfl
  | 3 => rfl
  | 4 => rfl
  | 5 => rfl
  | 6 => rfl
  | 7 => rfl
  | 8 => exact absurd rfl hi
  | 9 => rfl
  | 10 => rfl
  | i + 11 => omega
theorem gro_alk {v w : Nat → Int32} (ha : alk v w) (hv : ¬ 0 < v 5 → ¬ v 8 < f_X1_up (v 0 * v 3) 4) (hw : ¬ 0 < v 5 → ¬ w 8 < f_X1_up (v 0 * v 3) 4) : ∃ d u u', (if v 5 ≤ 0 then f_X7_ate v else f_X7_moulted v) = (d, u) ∧ (if w 5 ≤ 0 then f_X7_ate w else f_X7_moulted w) = (d, u') ∧ alk u u' := by
  have e0 := ha 0 (by decide) (by decide); have e1 := ha 1 (by decide) (by decide); have e2 := ha 2 (by decide) (by decide); have e3 := ha 3 (by decide) (by decide); have e4 := ha 4 (by decide) (by decide); have e5 := ha 5 (by decide) (by decide); have e6 := ha 6 (by decide) (by decide); have e7 := ha 7 (by decide) (by decide); have e9 := ha 9 (by decide) (by decide); have e10 := ha 10 (by decide) (by decide)
  by_cases c5 : v 5 ≤ 0
  · have c5' : w 5 ≤ 0 := e5 ▸ c5
    rw [if_pos c5, if_pos c5', ate_fed (hv (Int32.not_lt.mpr c5)), ate_fed (by rw [← e0, ← e3]; exact hw (Int32.not_lt.mpr c5))]
    rw [← e0, ← e1, ← e2, ← e3, ← e4, ← e5, ← e7, ← e9, ← e10]
    split
    · split <;> exact ⟨_, _, _, rfl, rfl, alk_vec⟩
    · split <;> exact ⟨_, _, _, rfl, rfl, alk_vec⟩
  · have c5' : ¬ w 5 ≤ 0 := e5 ▸ c5
    rw [if_neg c5, if_neg c5']
    unfold f_X7_moulted
    rw [← e0, ← e1, ← e2, ← e3, ← e4, ← e5, ← e6, ← e7, ← e9, ← e10]
    split <;> exact ⟨_, _, _, rfl, rfl, alk_vec⟩
theorem day_alk {v w : Nat → Int32} {x : Int32} (ha : alk v w) (hv : ¬ 0 < v 5 → ¬ v 8 < f_X1_up (v 0 * v 3) 4) (hw : ¬ 0 < v 5 → ¬ w 8 < f_X1_up (v 0 * v 3) 4) : f_X7_day v x = f_X7_day w x ∨ ((f_X7_day v x).2 0 = 0 ∧ (f_X7_day w x).2 0 = 0) := by
  obtain ⟨d, u, u', e1, e2, h⟩ := gro_alk ha hv hw
  exact day_8 e1 e2 h
