/-! THE TRAYS' LAW: both sides' trays do the same -/
set_option maxRecDepth 100000
/-- a tray with worms, by numbers -/
def trL (v : Nat → Int32) (W S I E M G : Nat) : Prop := v 0 = nI W ∧ v 1 = nI S ∧ v 3 = nI I ∧ v 4 = nI E ∧ v 5 = nI M ∧ v 8 = nI G ∧ 1 ≤ W ∧ W ≤ 200 ∧ S ≤ W ∧ 1 ≤ I ∧ I ≤ 5 ∧ E ≤ 4 ∧ (E < 3 ∨ I = 5) ∧ M ≤ 2 ∧ (M = 0 ∨ (I ≤ 4 ∧ E = 0)) ∧ G < 2 ^ 20
def cN (x : Int32) : Nat := x.toNatClampNeg
/-- how often it ate; what that cost a worm, in quarters -/
def tProg (v : Nat → Int32) : Nat := if bz (v 10) = 0 then 3 * (cN (v 3) - 1) + cN (v 4) + (if v 5 = 0 then 0 else 3) else 17
def tCost (v : Nat → Int32) : Nat := if bz (v 10) = 0 then 3 * (cN (v 3) * (cN (v 3) - 1) / 2) + cN (v 4) * cN (v 3) + (if v 5 = 0 then 0 else 3 * cN (v 3)) else 55
/-- how many days of food it wants to be ripe -/
def tMes (v : Nat → Int32) : Nat := if bz (v 10) = 0 then (17 - (3 * (cN (v 3) - 1) + cN (v 4) + (if v 5 = 0 then 0 else 3))) + (if v 5 = 0 then 2 * (5 - cN (v 3)) else cN (v 5) + 2 * (4 - cN (v 3))) else 0
theorem five5 : (5 : Int32) = nI 5 := by decide
theorem up_n {a b : Nat} (ha : a < 2 ^ 20) (h0 : 0 < b) (hb : b < 1000) : f_X1_up (nI a) (nI b) = nI ((a + b - 1) / b) := by
  unfold f_X1_up
  have e1 : (1 : Int32) = nI 1 := by decide
  rw [nI_add, e1, pk_sub (by omega), pk_div (by omega) h0 (by omega)]
theorem up_4 (x y : Int32) : f_X4_up x y = f_X1_up x y := rfl
theorem lose_n {v : Nat → Int32} {W S q : Nat} (h0 : v 0 = nI W) (h1 : v 1 = nI S) (hq : q ≤ W) (hW : W ≤ 200) (hS : S ≤ 200) : f_X3_lose v (nI q) = (nI q, if W = q then tr_new else vec [nI (W - q), nI (S - q), v 2, v 3, v 4, v 5, v 6, v 7, v 8, v 9, v 10]) := by
  have e : imax 0 (nI S - nI q) = nI (S - q) := by
    by_cases h : q ≤ S
    · rw [pk_sub h, ← nI_0, nI_max (by omega) (by omega), Nat.zero_max]
    · have h2 := pk_sneg (a := S) (b := q) (by omega) (by omega)
      unfold imax
      rw [if_neg (Int32.lt_asymm h2), Nat.sub_eq_zero_of_le (by omega), nI_0]
  unfold f_X3_lose
  rw [h0, h1, pk_sub hq, e]
  by_cases hz : W = q
  · subst hz
    rw [if_pos rfl, if_pos (show nI (W - W) = 0 by rw [Nat.sub_self, nI_0])]
    rfl
  · rw [if_neg hz, if_neg (nI_ne0 (by omega) (by omega))]
theorem die_n {v : Nat → Int32} {W S q : Nat} (h0 : v 0 = nI W) (h1 : v 1 = nI S) (hq : q ≤ W) (hW : W ≤ 200) (hS : S ≤ 200) : f_X7_die v (nI q) = (nI q, vec [nI (W - q), nI (S - q), v 2, v 3, v 4, v 5, v 6, v 7, v 8, v 9, v 10]) := by
  unfold f_X7_die
  rw [h0, h1, nI_min (by omega) (by omega), Nat.min_eq_left hq, pk_sub hq, nI_min (by omega) (by omega), pk_sub (Nat.min_le_left _ _), show S - min S q = S - q by omega]
theorem imm {W S : Nat} (hS : S ≤ W) (hW : W ≤ 200) (m : Int32) : ∃ K, K ≤ W - S ∧ imax 0 (imin (nI W - nI S) m) = nI K ∧ imin (nI W - nI S) (imax 0 m) = nI K := by
  rw [pk_sub hS]
  by_cases hm : m < 0
  · have h1 : m < nI (W - S) := Int32.lt_of_lt_of_le hm (nI_pos' (by omega))
    refine ⟨0, Nat.zero_le _, ?_, ?_⟩
    · unfold imin
      rw [if_pos h1]
      unfold imax
      rw [if_neg (Int32.lt_asymm hm), nI_0]
    · unfold imax
      rw [if_neg (Int32.lt_asymm hm), ← nI_0, nI_min (by omega) (by omega), Nat.min_zero]
  · obtain ⟨j, hj, rfl⟩ := nI_of hm
    refine ⟨min (W - S) j, Nat.min_le_left _ _, ?_, ?_⟩
    · rw [nI_min (by omega) hj, ← nI_0, nI_max (by omega) (by omega), Nat.zero_max]
    · rw [← nI_0, nI_max (by omega) hj, Nat.zero_max, nI_min (by omega) hj]
theorem tail_s {u : Nat → Int32} {W S : Nat} (h0 : u 0 = nI W) (h1 : u 1 = nI S) (hW : 1 ≤ W) (hW2 : W ≤ 200) (hS : S ≤ W) (m : Int32) : ∃ K, K ≤ W - S ∧
    f_X3_lose (vec [u 0, (u 1 + (imax 0 (imin (u 0 - u 1) m))), u 2, u 3, u 4, u 5, u 6, u 7, 0, 0, u 10]) ((u 1 + (imax 0 (imin (u 0 - u 1) m))) / 5) = (nI ((S + K) / 5), vec [nI (W - (S + K) / 5), nI ((S + K) - (S + K) / 5), u 2, u 3, u 4, u 5, u 6, u 7, 0, 0, u 10]) ∧
    f_X7_die (vec [u 0, (u 1 + (imin (u 0 - u 1) (imax 0 m))), u 2, u 3, u 4, u 5, u 6, u 7, u 8, u 9, u 10]) ((u 1 + (imin (u 0 - u 1) (imax 0 m))) / 5) = (nI ((S + K) / 5), vec [nI (W - (S + K) / 5), nI ((S + K) - (S + K) / 5), u 2, u 3, u 4, u 5, u 6, u 7, u 8, u 9, u 10]) := by
  obtain ⟨K, hK, e1, e2⟩ := imm hS hW2 m
  refine ⟨K, hK, ?_, ?_⟩
  · rw [h0, h1, e1, nI_add, five5, pk_div (by omega) (by decide) (by decide)]
    refine (lose_n (W := W) (S := S + K) rfl rfl (by omega) hW2 (by omega)).trans ?_
    exact congrArg (fun z => (nI ((S + K) / 5), z)) (if_neg (by omega))
  · rw [h0, h1, e2, nI_add, five5, pk_div (by omega) (by decide) (by decide)]
    exact die_n (W := W) (S := S + K) rfl rfl (by omega) hW2 (by omega)
theorem lt2le1 {x : Int32} : x < 2 ↔ x ≤ 1 := by
  rw [Int32.lt_iff_toInt_lt, Int32.le_iff_toInt_le]
  have e2 : (2 : Int32).toInt = 2 := by decide
  have e1 : (1 : Int32).toInt = 1 := by decide
  rw [e2, e1]
  omega
/-- moulting -/
theorem grow_m {v : Nat → Int32} {W S I E M G : Nat} (h : trL v W S I E M G) (hM : 0 < M) : ∃ u, f_X3_grow v = (0, u) ∧ f_X7_moulted v = (0, u) ∧ u 2 = v 2 ∧ u 10 = v 10 ∧ trL u W S (if M = 1 then I + 1 else I) E (M - 1) G := by
  obtain ⟨h0, h1, h3, h4, h5, h8, b1, b2, b3, b4, b5, b6, b7, b8, b9, b10⟩ := h
  have c5 : ¬ v 5 ≤ 0 := by rw [h5]; exact nI_nle hM (by omega)
  have e1 : (1 : Int32) = nI 1 := by decide
  have e5 : v 5 - 1 = nI (M - 1) := by rw [h5, e1, pk_sub hM]
  have bI := b9.resolve_left (by omega)
  unfold f_X3_grow f_X7_moulted
  rw [if_neg c5, e5]
  by_cases hM1 : M = 1
  · subst hM1
    have e0 : nI (1 - 1) = 0 := nI_0
    rw [if_pos e0, if_pos e0, if_pos rfl]
    dsimp only
    rw [one_1]
    refine ⟨_, rfl, rfl, rfl, rfl, h0, h1, ?_, h4, rfl, h8, b1, b2, b3, by omega, by omega, b6, by omega, by omega, by omega, b10⟩
    show v 3 + 1 = nI (I + 1)
    rw [h3, nI_1]
  · have e0 : ¬ nI (M - 1) = 0 := nI_ne0 (by omega) (by omega)
    rw [if_neg e0, if_neg e0, if_neg hM1]
    dsimp only
    rw [one_0, Int32.add_zero]
    exact ⟨_, rfl, rfl, rfl, rfl, h0, h1, h3, h4, rfl, h8, b1, b2, b3, by omega, by omega, b6, by omega, by omega, by omega, b10⟩
theorem wi_bd {W I : Nat} (h1 : W ≤ 200) (h2 : I ≤ 5) : W * I ≤ 1000 := Nat.mul_le_mul h1 h2
theorem need_n {v : Nat → Int32} {W I : Nat} (h0 : v 0 = nI W) (h3 : v 3 = nI I) (b2 : W ≤ 200) (b5 : I ≤ 5) : f_X1_up (v 0 * v 3) 4 = nI ((W * I + 3) / 4) := by
  have e4 : (4 : Int32) = nI 4 := by decide
  have hb := wi_bd b2 b5
  rw [h0, h3, pk_mul, e4, up_n (by omega) (by decide) (by decide)]
  rfl
/-- eating -/
theorem grow_e {v : Nat → Int32} {W S I E G : Nat} (h : trL v W S I E 0 G) (hg : (W * I + 3) / 4 ≤ G) : ∃ u, f_X3_grow v = (0, u) ∧ f_X7_ate v = (0, u) ∧ u 2 = v 2 ∧ ((u 10 = v 10 ∧ trL u W S I (E + 1) 0 G) ∨ (u 10 = v 10 ∧ E = 2 ∧ I ≤ 4 ∧ trL u W S I 0 2 G) ∨ (u 10 = 1 ∧ E = 4 ∧ I = 5 ∧ trL u W S 5 0 0 G)) := by
  obtain ⟨h0, h1, h3, h4, h5, h8, b1, b2, b3, b4, b5, b6, b7, b8, b9, b10⟩ := h
  have c5 : v 5 ≤ 0 := by rw [h5, nI_0]; decide
  have hb := wi_bd b2 b5
  have hn : ¬ v 8 < f_X1_up (v 0 * v 3) 4 := by
    rw [need_n h0 h3 b2 b5, h8]
    exact nI_nlt hg (by omega)
  have c0 : ¬ v 0 = 0 := by rw [h0]; exact nI_ne0 (by omega) (by omega)
  unfold f_X3_grow f_X7_ate f_X3_need f_X7_need
  have e4 : v 4 + 1 = nI (E + 1) := by rw [h4, nI_1]
  by_cases hI : I = 5
  · have c3 : v 3 = 5 := by rw [h3, hI]; decide
    by_cases hE : E = 4
    · have c4 : (5 : Int32) ≤ v 4 + 1 := by rw [e4, hE]; decide
      simp only [up_4, eq_true c5, eq_false hn, eq_false c0, eq_true c3, eq_true c4, if_true, if_false]
      exact ⟨_, rfl, rfl, rfl, Or.inr (Or.inr ⟨rfl, hE, hI, h0, h1, c3.trans five5, rfl, h5, h8, b1, b2, b3, by omega, by omega, by omega, by omega, by omega, by omega, b10⟩)⟩
    · have c4 : ¬ (5 : Int32) ≤ v 4 + 1 := by rw [e4, five5]; exact nI_ge (by omega) (by omega)
      simp only [up_4, eq_true c5, eq_false hn, eq_false c0, eq_true c3, eq_false c4, if_true, if_false]
      exact ⟨_, rfl, rfl, rfl, Or.inl ⟨rfl, h0, h1, h3, e4, h5, h8, b1, b2, b3, by omega, by omega, by omega, by omega, by omega, by omega, b10⟩⟩
  · have c3 : ¬ v 3 = 5 := by rw [h3, five5]; exact fun z => hI ((nI_eq (by omega) (by omega)).mp z)
    have e3 : (3 : Int32) = nI 3 := by decide
    by_cases hE : E = 2
    · have c4 : (3 : Int32) ≤ v 4 + 1 := by rw [e4, hE]; decide
      simp only [up_4, eq_true c5, eq_false hn, eq_false c0, eq_false c3, eq_true c4, if_true, if_false]
      exact ⟨_, rfl, rfl, rfl, Or.inr (Or.inl ⟨rfl, hE, by omega, h0, h1, h3, rfl, rfl, h8, b1, b2, b3, by omega, by omega, by omega, by omega, by omega, by omega, b10⟩)⟩
    · have c4 : ¬ (3 : Int32) ≤ v 4 + 1 := by rw [e4, e3]; exact nI_ge (by omega) (by omega)
      simp only [up_4, eq_true c5, eq_false hn, eq_false c0, eq_false c3, eq_false c4, if_true, if_false]
      exact ⟨_, rfl, rfl, rfl, Or.inl ⟨rfl, h0, h1, h3, e4, h5, h8, b1, b2, b3, by omega, by omega, by omega, by omega, by omega, by omega, b10⟩⟩
/-- hungry -/
theorem grow_h {v : Nat → Int32} {W S I E G : Nat} (h : trL v W S I E 0 G) (hg : ¬ (W * I + 3) / 4 ≤ G) : ∃ d u u', f_X3_grow v = (d, u) ∧ f_X7_ate v = (d, u') ∧ ((u = tr_new ∧ u' 0 = 0) ∨ (u' = u ∧ u 2 = v 2 ∧ u 10 = v 10 ∧ ∃ W' S', W' ≤ W ∧ trL u W' S' I E 0 G)) := by
  obtain ⟨h0, h1, h3, h4, h5, h8, b1, b2, b3, b4, b5, b6, b7, b8, b9, b10⟩ := h
  have c5 : v 5 ≤ 0 := by rw [h5, nI_0]; decide
  have hb := wi_bd b2 b5
  have hn : v 8 < f_X1_up (v 0 * v 3) 4 := by
    rw [need_n h0 h3 b2 b5, h8]
    exact nI_lt (by omega) (by omega)
  have c0 : ¬ v 0 = 0 := by rw [h0]; exact nI_ne0 (by omega) (by omega)
  have cE : (¬ v 3 = 5 ∧ ¬ (3 : Int32) ≤ v 4) ∨ (v 3 = 5 ∧ ¬ (5 : Int32) ≤ v 4) := by
    by_cases hI : I = 5
    · refine Or.inr ⟨by rw [h3, hI]; decide, ?_⟩
      rw [h4, five5]; exact nI_ge (by omega) (by omega)
    · refine Or.inl ⟨?_, ?_⟩
      · rw [h3, five5]; exact fun z => hI ((nI_eq (by omega) (by omega)).mp z)
      · have e3 : (3 : Int32) = nI 3 := by decide
        rw [h4, e3]; exact nI_ge (by omega) (by omega)
  unfold f_X3_grow f_X7_ate f_X3_need f_X7_need
  by_cases c6 : v 6 + 1 < 2
  · have c6' : v 6 + 1 ≤ 1 := lt2le1.mp c6
    rcases cE with ⟨c3, c4⟩ | ⟨c3, c4⟩
    · simp only [up_4, eq_true c5, eq_true hn, eq_false c0, eq_true c6, eq_true c6', eq_false c3, eq_false c4, if_true, if_false]
      exact ⟨_, _, _, rfl, rfl, Or.inr ⟨rfl, rfl, rfl, W, S, Nat.le_refl _, h0, h1, h3, h4, h5, h8, b1, b2, b3, b4, b5, b6, b7, b8, b9, b10⟩⟩
    · simp only [up_4, eq_true c5, eq_true hn, eq_false c0, eq_true c6, eq_true c6', eq_true c3, eq_false c4, if_true, if_false]
      exact ⟨_, _, _, rfl, rfl, Or.inr ⟨rfl, rfl, rfl, W, S, Nat.le_refl _, h0, h1, h3, h4, h5, h8, b1, b2, b3, b4, b5, b6, b7, b8, b9, b10⟩⟩
  · have c6' : ¬ v 6 + 1 ≤ 1 := fun z => c6 (lt2le1.mpr z)
    have e10 : (10 : Int32) = nI 10 := by decide
    have eu : f_X1_up (v 0) 10 = nI ((W + 10 - 1) / 10) := by rw [h0, e10, up_n (by omega) (by decide) (by decide)]
    have el := lose_n (v := vec [v 0, v 1, v 2, v 3, v 4, v 5, (v 6 + 1), v 7, v 8, v 9, v 10]) (W := W) (S := S) (q := (W + 10 - 1) / 10) h0 h1 (by omega) b2 (by omega)
    have ed := die_n (v := vec [v 0, v 1, v 2, v 3, v 4, v 5, (v 6 + 1), v 7, v 8, v 9, v 10]) (W := W) (S := S) (q := (W + 10 - 1) / 10) h0 h1 (by omega) b2 (by omega)
    simp only [up_4, eq_true c5, eq_true hn, eq_false c6, eq_false c6', if_true, if_false, eu]
    rw [el, ed]
    by_cases hz : W = (W + 10 - 1) / 10
    · rw [if_pos hz]
      have z0 : tr_new 0 = 0 := by decide +kernel
      simp only [eq_true z0, if_true]
      have w0 : nI (W - (W + 10 - 1) / 10) = 0 := by rw [← hz, Nat.sub_self, nI_0]
      refine ⟨nI ((W + 10 - 1) / 10), tr_new, vec [nI (W - (W + 10 - 1) / 10), nI (S - (W + 10 - 1) / 10), v 2, v 3, v 4, v 5, v 6 + 1, v 7, v 8, v 9, v 10], rfl, ?_, Or.inl ⟨rfl, w0⟩⟩
      rcases cE with ⟨c3, c4⟩ | ⟨c3, c4⟩
      · exact (if_neg c3).trans (if_neg c4)
      · exact (if_pos c3).trans (if_neg c4)
    · rw [if_neg hz]
      have w0 : ¬ nI (W - (W + 10 - 1) / 10) = 0 := nI_ne0 (by omega) (by omega)
      rcases cE with ⟨c3, c4⟩ | ⟨c3, c4⟩
      · refine ⟨nI ((W + 10 - 1) / 10), vec [nI (W - (W + 10 - 1) / 10), nI (S - (W + 10 - 1) / 10), v 2, v 3, v 4, v 5, v 6 + 1, v 7, v 8, v 9, v 10], vec [nI (W - (W + 10 - 1) / 10), nI (S - (W + 10 - 1) / 10), v 2, v 3, v 4, v 5, v 6 + 1, v 7, v 8, v 9, v 10], ?_, ?_, Or.inr ⟨rfl, rfl, rfl, W - (W + 10 - 1) / 10, S - (W + 10 - 1) / 10, Nat.sub_le _ _, rfl, rfl, h3, h4, h5, h8, by omega, by omega, by omega, b4, b5, b6, b7, b8, b9, b10⟩⟩
        · exact (if_neg w0).trans ((if_neg c3).trans (if_neg c4))
        · exact (if_neg c3).trans (if_neg c4)
      · refine ⟨nI ((W + 10 - 1) / 10), vec [nI (W - (W + 10 - 1) / 10), nI (S - (W + 10 - 1) / 10), v 2, v 3, v 4, v 5, v 6 + 1, v 7, v 8, v 9, v 10], vec [nI (W - (W + 10 - 1) / 10), nI (S - (W + 10 - 1) / 10), v 2, v 3, v 4, v 5, v 6 + 1, v 7, v 8, v 9, v 10], ?_, ?_, Or.inr ⟨rfl, rfl, rfl, W - (W + 10 - 1) / 10, S - (W + 10 - 1) / 10, Nat.sub_le _ _, rfl, rfl, h3, h4, h5, h8, by omega, by omega, by omega, b4, b5, b6, b7, b8, b9, b10⟩⟩
        · exact (if_neg w0).trans ((if_pos c3).trans (if_neg c4))
        · exact (if_pos c3).trans (if_neg c4)
theorem z00 : (0 : Int32) + 0 = 0 := by decide
theorem z01 : (0 : Int32) + 1 = 1 := by decide
theorem z10 : (1 : Int32) + 0 = 1 := by decide
theorem z11 : (1 : Int32) + 1 = 2 := by decide
theorem mq (a b c q : Int32) : a + b + c - q = a + (b + c - q) := by
  simp only [Int32.sub_eq_add_neg, Int32.add_assoc]
/-- how many more are sick, before it's held to what is there -/
def dyM (u : Nat → Int32) (x : Int32) : Int32 := (if u 0 * u 3 ≤ 200 then u 1 / 4 else u 1 / 2) + ((if u 9 ≤ 0 then 0 else 1) + (if u 7 < 4 then 0 else 1) - x / 3)
def dyL (u : Nat → Int32) (x : Int32) : Int32 × (Nat → Int32) := f_X3_lose (vec [u 0, (u 1 + (imax 0 (imin (u 0 - u 1) (dyM u x)))), u 2, u 3, u 4, u 5, u 6, u 7, 0, 0, u 10]) ((u 1 + (imax 0 (imin (u 0 - u 1) (dyM u x)))) / 5)
def dyD (u : Nat → Int32) (x : Int32) : Int32 × (Nat → Int32) := f_X7_die (vec [u 0, (u 1 + (imin (u 0 - u 1) (imax 0 (dyM u x)))), u 2, u 3, u 4, u 5, u 6, u 7, u 8, u 9, u 10]) ((u 1 + (imin (u 0 - u 1) (imax 0 (dyM u x)))) / 5)
theorem pass_b {v u : Nat → Int32} {d x : Int32} (hg : f_X3_grow v = (d, u)) (h0 : ¬ u 0 = 0) : f_X3_pass v x = (d + (dyL u x).1, (dyL u x).2) := by
  unfold f_X3_pass
  rw [hg]
  dsimp only
  rw [if_neg h0]
  unfold dyL dyM
  by_cases c1 : u 0 * u 3 ≤ 200 <;> by_cases c2 : u 9 ≤ 0 <;> by_cases c3 : u 7 < 4 <;> simp only [c1, c2, c3, if_true, if_false, one_0, one_1, mq]
theorem pass_0 {v u : Nat → Int32} {d x : Int32} (hg : f_X3_grow v = (d, u)) (h0 : u 0 = 0) : f_X3_pass v x = (d, u) := by
  unfold f_X3_pass
  rw [hg]
  dsimp only
  rw [if_pos h0]
theorem day_b {v u : Nat → Int32} {d x : Int32} (hg : (if v 5 ≤ 0 then f_X7_ate v else f_X7_moulted v) = (d, u)) (h0 : ¬ u 0 = 0) : f_X7_day v x = (d + (dyD u x).1, vec [(dyD u x).2 0, (dyD u x).2 1, (dyD u x).2 2, (dyD u x).2 3, (dyD u x).2 4, (dyD u x).2 5, (dyD u x).2 6, (dyD u x).2 7, 0, 0, (dyD u x).2 10]) := by
  unfold f_X7_day
  by_cases c5 : v 5 ≤ 0
  · rw [if_pos c5] at hg
    rw [if_pos c5, hg]
    dsimp only
    rw [if_neg h0]
    unfold dyD dyM
    by_cases c1 : u 0 * u 3 ≤ 200 <;> by_cases c2 : u 9 ≤ 0 <;> by_cases c3 : u 7 < 4 <;> simp only [c1, c2, c3, if_true, if_false, z00, z01, z10, z11]
  · rw [if_neg c5] at hg
    rw [if_neg c5, hg]
    dsimp only
    rw [if_neg h0]
    unfold dyD dyM
    by_cases c1 : u 0 * u 3 ≤ 200 <;> by_cases c2 : u 9 ≤ 0 <;> by_cases c3 : u 7 < 4 <;> simp only [c1, c2, c3, if_true, if_false, z00, z01, z10, z11]
theorem day_0 {v u : Nat → Int32} {d x : Int32} (hg : (if v 5 ≤ 0 then f_X7_ate v else f_X7_moulted v) = (d, u)) (h0 : u 0 = 0) : f_X7_day v x = (d, u) := by
  unfold f_X7_day
  by_cases c5 : v 5 ≤ 0
  · rw [if_pos c5] at hg
    rw [if_pos c5, hg]
    dsimp only
    rw [if_pos h0]
  · rw [if_neg c5] at hg
    rw [if_neg c5, hg]
    dsimp only
    rw [if_pos h0]
theorem tp_n {v : Nat → Int32} {W S I E M G : Nat} (h : trL v W S I E M G) (hr : bz (v 10) = 0) : tProg v = 3 * (I - 1) + E + (if M = 0 then 0 else 3) ∧ tCost v = 3 * (I * (I - 1) / 2) + E * I + (if M = 0 then 0 else 3 * I) ∧ tMes v = (17 - (3 * (I - 1) + E + (if M = 0 then 0 else 3))) + (if M = 0 then 2 * (5 - I) else M + 2 * (4 - I)) := by
  obtain ⟨h0, h1, h3, h4, h5, h8, b1, b2, b3, b4, b5, b6, b7, b8, b9, b10⟩ := h
  unfold tProg tCost tMes cN
  rw [if_pos hr, if_pos hr, if_pos hr, h3, h4, h5, nI_clamp (by omega), nI_clamp (by omega), nI_clamp (by omega)]
  by_cases hM : M = 0
  · have e : nI M = 0 := by rw [hM, nI_0]
    simp only [if_pos e, if_pos hM]
    refine ⟨?_, ?_, ?_⟩ <;> trivial
  · have e : ¬ nI M = 0 := nI_ne0 (by omega) (by omega)
    simp only [if_neg e, if_neg hM]
    refine ⟨?_, ?_, ?_⟩ <;> trivial
theorem tp_r {v : Nat → Int32} (hr : ¬ bz (v 10) = 0) : tProg v = 17 ∧ tCost v = 55 ∧ tMes v = 0 := by
  unfold tProg tCost tMes
  rw [if_neg hr, if_neg hr, if_neg hr]
  exact ⟨rfl, rfl, rfl⟩
theorem bz1 : ¬ bz 1 = 0 := by decide
theorem tr_grow {v : Nat → Int32} {W S I E M G : Nat} (h : trL v W S I E M G) (hr : bz (v 10) = 0) : ∃ d u u', f_X3_grow v = (d, u) ∧ (if v 5 ≤ 0 then f_X7_ate v else f_X7_moulted v) = (d, u') ∧ ((u = tr_new ∧ u' 0 = 0) ∨ (u' = u ∧ u 2 = v 2 ∧ ∃ W' S' I' E' M' c, W' ≤ W ∧ trL u W' S' I' E' M' G ∧ tProg u ≤ tProg v + 1 ∧ (tProg u = tProg v + 1 → 0 < G) ∧ tCost u = tCost v + c ∧ W * c ≤ 4 * G ∧ ((0 < M ∨ (W * I + 3) / 4 ≤ G) → tMes u + 1 = tMes v))) := by
  have h2 := h
  obtain ⟨h0, h1, h3, h4, h5, h8, b1, b2, b3, b4, b5, b6, b7, b8, b9, b10⟩ := h2
  have hv := tp_n h hr
  by_cases hM : M = 0
  · subst hM
    have c5 : v 5 ≤ 0 := by rw [h5, nI_0]; decide
    rw [if_pos c5]
    simp only [if_true] at hv
    obtain ⟨hv1, hv2, hv3⟩ := hv
    by_cases hg : (W * I + 3) / 4 ≤ G
    · obtain ⟨u, e1, e2, e3, hc⟩ := grow_e h hg
      have hwi : 1 ≤ W * I := Nat.mul_le_mul b1 b4
      refine ⟨0, u, u, e1, e2, Or.inr ⟨rfl, e3, ?_⟩⟩
      rcases hc with ⟨r, t⟩ | ⟨r, hE, hI, t⟩ | ⟨r, hE, hI, t⟩
      · have hu := tp_n t (by rw [r]; exact hr)
        simp only [if_true] at hu
        obtain ⟨hu1, hu2, hu3⟩ := hu
        have ht := t
        obtain ⟨-, -, -, -, -, -, -, -, -, -, -, k6, k7, -⟩ := ht
        refine ⟨W, S, I, E + 1, 0, I, Nat.le_refl _, t, by omega, fun _ => by omega, ?_, by omega, fun _ => by omega⟩
        rw [hu2, hv2, Nat.add_mul E 1 I, Nat.one_mul]; omega
      · have hu := tp_n t (by rw [r]; exact hr)
        simp only [show ¬ ((2 : Nat) = 0) from by decide, if_false] at hu
        obtain ⟨hu1, hu2, hu3⟩ := hu
        subst hE
        refine ⟨W, S, I, 0, 2, I, Nat.le_refl _, t, by omega, fun _ => by omega, ?_, by omega, fun _ => by omega⟩
        rw [hu2, hv2]; omega
      · have hu := tp_r (v := u) (by rw [r]; exact bz1)
        obtain ⟨hu1, hu2, hu3⟩ := hu
        subst hE; subst hI
        refine ⟨W, S, 5, 0, 0, 5, Nat.le_refl _, t, by omega, fun _ => by omega, ?_, by omega, fun _ => by omega⟩
        rw [hu2, hv2]
    · obtain ⟨d, u, u', e1, e2, hc⟩ := grow_h h hg
      refine ⟨d, u, u', e1, e2, ?_⟩
      rcases hc with hc | ⟨r0, r1, r2, W', S', hW, t⟩
      · exact Or.inl hc
      · have hu := tp_n t (by rw [r2]; exact hr)
        simp only [if_true] at hu
        obtain ⟨hu1, hu2, hu3⟩ := hu
        exact Or.inr ⟨r0, r1, W', S', I, E, 0, 0, hW, t, by omega, fun z => by omega, by rw [hu2, hv2], by omega, fun z => by omega⟩
  · have c5 : ¬ v 5 ≤ 0 := by rw [h5]; exact nI_nle (by omega) (by omega)
    rw [if_neg c5]
    obtain ⟨u, e1, e2, e3, r, t⟩ := grow_m h (by omega)
    have hu := tp_n t (by rw [r]; exact hr)
    have bI := b9.resolve_left hM
    simp only [if_neg hM] at hv
    obtain ⟨hv1, hv2, hv3⟩ := hv
    refine ⟨0, u, u, e1, e2, Or.inr ⟨rfl, e3, _, _, _, _, _, 0, Nat.le_refl _, t, ?_⟩⟩
    obtain ⟨bI1, bI2⟩ := bI
    subst bI2
    have hI : I = 1 ∨ I = 2 ∨ I = 3 ∨ I = 4 := by omega
    have hM1 : M = 1 ∨ M = 2 := by omega
    rcases hM1 with rfl | rfl <;> rcases hI with rfl | rfl | rfl | rfl <;> (rw [hu.1, hu.2.1, hu.2.2, hv1, hv2, hv3]; exact ⟨by decide, fun z => absurd z (by decide), rfl, by omega, fun _ => rfl⟩)
/-- a tray's day, on both sides -/
theorem tr_day {v : Nat → Int32} {x : Int32} {W S I E M G : Nat} (h : trL v W S I E M G) (hr : bz (v 10) = 0) : ∃ d w w', f_X3_pass v x = (d, w) ∧ f_X7_day v x = (d, w') ∧ ((w = tr_new ∧ w' 0 = 0) ∨ (w' = w ∧ ¬ w 0 = 0 ∧ w 2 = v 2 ∧ w 9 = 0 ∧ ∃ W' S' I' E' M', W' ≤ W ∧ trL w W' S' I' E' M' 0 ∧ tProg w ≤ tProg v + 1 ∧ (tProg w = tProg v + 1 → 0 < G) ∧ W' * tCost w ≤ W * tCost v + 4 * G ∧ ((0 < M ∨ (W * I + 3) / 4 ≤ G) → tMes w + 1 = tMes v))) := by
  obtain ⟨d, u, u', e1, e2, hc⟩ := tr_grow h hr
  rcases hc with ⟨r1, r2⟩ | ⟨r1, r2, W', S', I', E', M', c, hW, t, p1, p2, p3, p4, p5⟩
  · exact ⟨d, u, u', pass_0 e1 (by rw [r1]; decide +kernel), day_0 e2 r2, Or.inl ⟨r1, r2⟩⟩
  · subst r1
    have t2 := t
    obtain ⟨h0, h1, h3, h4, h5, h8, b1, b2, b3, b4, b5, b6, b7, b8, b9, b10⟩ := t2
    have w0 : ¬ u' 0 = 0 := by rw [h0]; exact nI_ne0 (by omega) (by omega)
    obtain ⟨K, hK, g1, g2⟩ := tail_s h0 h1 b1 b2 b3 (dyM u' x)
    have f1 := pass_b (x := x) e1 w0
    have f2 := day_b (x := x) e2 w0
    unfold dyL at f1
    unfold dyD at f2
    rw [g1] at f1
    rw [g2] at f2
    refine ⟨_, _, _, f1, f2, Or.inr ⟨rfl, ?_, r2, rfl, W' - (S' + K) / 5, (S' + K) - (S' + K) / 5, I', E', M', by omega, ?_, p1, p2, ?_, p5⟩⟩
    · show ¬ nI (W' - (S' + K) / 5) = 0
      exact nI_ne0 (by omega) (by omega)
    · exact ⟨rfl, rfl, h3, h4, h5, rfl, by omega, by omega, by omega, b4, b5, b6, b7, b8, b9, by decide⟩
    · show (W' - (S' + K) / 5) * tCost u' ≤ W * tCost v + 4 * G
      rw [p3, Nat.mul_add]
      have m1 : (W' - (S' + K) / 5) * tCost v ≤ W * tCost v := Nat.mul_le_mul_right _ (by omega)
      have m2 : (W' - (S' + K) / 5) * c ≤ W * c := Nat.mul_le_mul_right _ (by omega)
      omega
