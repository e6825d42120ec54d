/-! THE LAW: what the calls do to what holds -/
set_option maxRecDepth 100000
theorem rows_len2 {l l' : TrT} (h : rows l = rows l') : l.length = l'.length := map_len (f := fun q : Nat × Row => q.2) (f' := fun q : Nat × Row => q.2) h
theorem row2_len {l l' : PlT} (h : row2 l = row2 l') : l.length = l'.length := map_len (f := fun q : Nat × Nat × Row => q.2.2) (f' := fun q : Nat × Nat × Row => q.2.2) h
theorem row3_len {l l' : LoT} (h : row3 l = row3 l') : l.length = l'.length := map_len (f := fun q : Nat × Nat × Nat × Row => q.2.2.2) (f' := fun q : Nat × Nat × Nat × Row => q.2.2.2) h
theorem same1 {l l' : TrT} {k k' : Nat} {i : Int32} {q q' : Nat × Row} (h : rows l = rows l') (hl : l.length ≤ 4096) (a : l[k]? = some q) (b : i = nI k) (a' : l'[k']? = some q') (b' : i = nI k') : k = k' ∧ q.2 = q'.2 := by
  have e : k = k' := nI_inj b b' (get_lt a) (by rw [rows_len2 h]; exact get_lt a') hl
  exact ⟨e, map_same (f := fun q : Nat × Row => q.2) (f' := fun q : Nat × Row => q.2) h e a a'⟩
theorem same2 {l l' : PlT} {k k' : Nat} {i : Int32} {q q' : Nat × Nat × Row} (h : row2 l = row2 l') (hl : l.length ≤ 4096) (a : l[k]? = some q) (b : i = nI k) (a' : l'[k']? = some q') (b' : i = nI k') : k = k' ∧ q.2.2 = q'.2.2 := by
  have e : k = k' := nI_inj b b' (get_lt a) (by rw [row2_len h]; exact get_lt a') hl
  exact ⟨e, map_same (f := fun q : Nat × Nat × Row => q.2.2) (f' := fun q : Nat × Nat × Row => q.2.2) h e a a'⟩
theorem same3 {l l' : LoT} {k k' : Nat} {i : Int32} {q q' : Nat × Nat × Nat × Row} (h : row3 l = row3 l') (hl : l.length ≤ 4096) (a : l[k]? = some q) (b : i = nI k) (a' : l'[k']? = some q') (b' : i = nI k') : k = k' ∧ q.2.2.2 = q'.2.2.2 := by
  have e : k = k' := nI_inj b b' (get_lt a) (by rw [row3_len h]; exact get_lt a') hl
  exact ⟨e, map_same (f := fun q : Nat × Nat × Nat × Row => q.2.2.2) (f' := fun q : Nat × Nat × Nat × Row => q.2.2.2) h e a a'⟩
theorem set1 {l l' : TrT} {k k' : Nat} {q q' : Nat × Row} (h : rows l = rows l') (e : k = k') (hq : q.2 = q'.2) : rows (l.set k q) = rows (l'.set k' q') := map_set (f := fun q : Nat × Row => q.2) (f' := fun q : Nat × Row => q.2) h e hq
theorem set2 {l l' : PlT} {k k' : Nat} {q q' : Nat × Nat × Row} (h : row2 l = row2 l') (e : k = k') (hq : q.2.2 = q'.2.2) : row2 (l.set k q) = row2 (l'.set k' q') := map_set (f := fun q : Nat × Nat × Row => q.2.2) (f' := fun q : Nat × Nat × Row => q.2.2) h e hq
theorem set3 {l l' : LoT} {k k' : Nat} {q q' : Nat × Nat × Nat × Row} (h : row3 l = row3 l') (e : k = k') (hq : q.2.2.2 = q'.2.2.2) : row3 (l.set k q) = row3 (l'.set k' q') := map_set (f := fun q : Nat × Nat × Nat × Row => q.2.2.2) (f' := fun q : Nat × Nat × Nat × Row => q.2.2.2) h e hq
theorem snoc2 {l l' : PlT} {q q' : Nat × Nat × Row} (h : row2 l = row2 l') (hq : q.2.2 = q'.2.2) : row2 (l ++ [q]) = row2 (l' ++ [q']) := map_snoc (f := fun q : Nat × Nat × Row => q.2.2) (f' := fun q : Nat × Nat × Row => q.2.2) h hq
theorem snoc3 {l l' : LoT} {q q' : Nat × Nat × Nat × Row} (h : row3 l = row3 l') (hq : q.2.2.2 = q'.2.2.2) : row3 (l ++ [q]) = row3 (l' ++ [q']) := map_snoc (f := fun q : Nat × Nat × Nat × Row => q.2.2.2) (f' := fun q : Nat × Nat × Nat × Row => q.2.2.2) h hq
theorem rows_get {l : TrT} {k : Nat} {q : Nat × Row} (h : l[k]? = some q) : (rows l)[k]? = some q.2 := by unfold rows; rw [List.getElem?_map, h]; rfl
theorem row3_get {l : LoT} {k : Nat} {q : Nat × Nat × Nat × Row} (h : l[k]? = some q) : (row3 l)[k]? = some q.2.2.2 := by unfold row3; rw [List.getElem?_map, h]; rfl
theorem rows_set (l : TrT) (k : Nat) (q : Nat × Row) : rows (l.set k q) = (rows l).set k q.2 := List.map_set
theorem row3_set (l : LoT) (k : Nat) (q : Nat × Nat × Nat × Row) : row3 (l.set k q) = (row3 l).set k q.2.2.2 := List.map_set
theorem row3_snoc (l : LoT) (q : Nat × Nat × Nat × Row) : row3 (l ++ [q]) = row3 l ++ [q.2.2.2] := List.map_append
theorem row3_l (l : LoT) : (row3 l).length = l.length := List.length_map _
/-! the house's own numbers -/
theorem scS_pick {a b : Row} {x : Int32} (h : scS a b) : scS (sc_pick a x) (sc_pick b x) := fun i _ => by
  unfold sc_pick; rw [h 0 (by decide), h 1 (by decide), h 2 (by decide), h 3 (by decide), h 4 (by decide), h 5 (by decide), h 6 (by decide)]
theorem scS_buy {a b : Row} {x : Int32} (h : scS a b) : scS (sc_buy a x) (sc_buy b x) := fun i _ => by
  unfold sc_buy; rw [h 0 (by decide), h 1 (by decide), h 2 (by decide), h 3 (by decide), h 4 (by decide), h 5 (by decide), h 6 (by decide)]
theorem scS_feed {a b : Row} {x : Int32} (h : scS a b) : scS (sc_feed a x) (sc_feed b x) := fun i _ => by
  unfold sc_feed; rw [h 0 (by decide), h 1 (by decide), h 2 (by decide), h 3 (by decide), h 4 (by decide), h 5 (by decide), h 6 (by decide)]
theorem scS_died {a b : Row} {x : Int32} (h : scS a b) : scS (sc_died a x) (sc_died b x) := fun i _ => by
  unfold sc_died; rw [h 0 (by decide), h 1 (by decide), h 2 (by decide), h 3 (by decide), h 4 (by decide), h 5 (by decide), h 6 (by decide)]
theorem scS_money {a b : Row} {x : Int32} (h : scS a b) : scS (sc_money a x) (sc_money b x) := fun i _ => by
  unfold sc_money; rw [h 0 (by decide), h 1 (by decide), h 2 (by decide), h 3 (by decide), h 4 (by decide), h 5 (by decide), h 6 (by decide)]
theorem scS_borrow {a b : Row} {x : Int32} (h : scS a b) : scS (sc_borrow a x) (sc_borrow b x) := fun i _ => by
  unfold sc_borrow; rw [h 0 (by decide), h 1 (by decide), h 2 (by decide), h 3 (by decide), h 4 (by decide), h 5 (by decide), h 6 (by decide)]
theorem scS_pay {a b : Row} {x : Int32} (h : scS a b) : scS (sc_pay a x) (sc_pay b x) := fun i _ => by
  unfold sc_pay; rw [h 0 (by decide), h 1 (by decide), h 2 (by decide), h 3 (by decide), h 4 (by decide), h 5 (by decide), h 6 (by decide)]
theorem scS_eggs {a b : Row} {x : Int32} (h : scS a b) : scS (sc_eggs a x) (sc_eggs b x) := fun i _ => by
  unfold sc_eggs; rw [h 0 (by decide), h 1 (by decide), h 2 (by decide), h 3 (by decide), h 4 (by decide), h 5 (by decide), h 6 (by decide)]
theorem scS_part {a b : Row} {v : Row} {x : Int32} (h : scS a b) : scS (pm_sc a v x) (pm_sc b v x) := fun i _ => by
  unfold pm_sc; rw [h 0 (by decide), h 1 (by decide), h 2 (by decide), h 3 (by decide), h 4 (by decide), h 5 (by decide), h 6 (by decide)]
/-! trays and lines -/
theorem ln_at {ln : TrT} {k : Nat} (h : ln.length = 4) (hk : k < 4) : ∃ q0, ln[k]? = some q0 := ⟨_, List.getElem?_eq_getElem (by rw [h]; exact hk)⟩
theorem hLn_of {ln tr : TrT} (h : ∀ q ∈ tr, trI q.2) (hl : ln.length = 4) : hLn ln tr := by
  intro q hq h0
  rcases h q hq with e | ⟨W, S, I, E, M, G, t, k, hk, e⟩
  · exact absurd (by rw [e]; exact new_le) h0
  · obtain ⟨q0, h1⟩ := ln_at hl hk
    exact ⟨k, q0, h1, e⟩
theorem mLn_of {ml mt : TrT} (h : ∀ v ∈ rows mt, trI v) (hl : ml.length = 4) : ∀ v ∈ rows mt, mLn ml v := by
  intro v hv h0
  rcases h v hv with e | ⟨W, S, I, E, M, G, t, k, hk, e⟩
  · exact absurd (by rw [e]; exact new_le) h0
  · obtain ⟨q0, h1⟩ := ln_at hl hk
    exact ⟨k, q0, h1, e, by omega⟩
theorem new_bz : bz (tr_new 10) = 0 := by decide +kernel
theorem hLm_of {ln tr : TrT} (h : ∀ q ∈ tr, trI q.2) (hl : ln.length = 4) (k : Nat) (q : Nat × Row) (hq : tr[k]? = some q) (hb : ¬ bz (q.2 10) = 0) : ∃ (k0 : Nat) (q0 : Nat × Row), ln[k0]? = some q0 ∧ q.2 2 = nI k0 := by
  rcases h q (List.mem_of_getElem? hq) with e | ⟨W, S, I, E, M, G, t, k, hk, e⟩
  · exact absurd (by rw [e]; exact new_bz) hb
  · obtain ⟨q0, h1⟩ := ln_at hl hk
    exact ⟨k, q0, h1, e⟩
theorem mt_I {tr mt : TrT} (h : ∀ q ∈ tr, trI q.2) (e : rows tr = rows mt) : (∀ v ∈ rows mt, trI v) ∧ ∀ q ∈ mt, trI q.2 := by
  have a : ∀ v ∈ rows mt, trI v := by
    rw [← e]
    intro v hv
    obtain ⟨q, hq, rfl⟩ := List.mem_map.mp hv
    exact h q hq
  exact ⟨a, fun q hq => a q.2 (List.mem_map.mpr ⟨q, hq, rfl⟩)⟩
theorem mLm_of {ml mt : TrT} (h : ∀ q ∈ mt, trI q.2) (hl : ml.length = 4) : ∀ qm ∈ mt, ¬ bz (qm.2 10) = 0 → ∃ (k0 : Nat) (q0 : Nat × Row), ml[k0]? = some q0 ∧ qm.2 2 = nI k0 ∧ k0 < 4096 := by
  intro q hq hb
  rcases h q hq with e | ⟨W, S, I, E, M, G, t, k, hk, e⟩
  · exact absurd (by rw [e]; exact new_bz) hb
  · obtain ⟨q0, h1⟩ := ln_at hl hk
    exact ⟨k, q0, h1, e, by omega⟩
theorem mLz_of {ml mt : TrT} (h : ∀ q ∈ mt, trI q.2) (hl : ml.length = 4) : ∀ qm ∈ mt, ¬ qm.2 0 = 0 → ∃ (k0 : Nat) (q0 : Nat × Row), ml[k0]? = some q0 ∧ qm.2 2 = nI k0 ∧ k0 < 4096 := by
  intro q hq hb
  rcases h q hq with e | ⟨W, S, I, E, M, G, t, k, hk, e⟩
  · exact absurd (by rw [e]; exact new0) hb
  · obtain ⟨q0, h1⟩ := ln_at hl hk
    exact ⟨k, q0, h1, e, by omega⟩
theorem lnI_vec {a b c : Int32} (h : ¬ ((a < 2 ∨ 6 < a) ∨ (b < 0 ∨ 9 < b) ∨ (c < 0 ∨ 10 < c))) : lnI (vec [a, b, c]) := by
  have h1 : ¬ a < 0 := fun z => h (Or.inl (Or.inl (Int32.lt_trans z (by decide))))
  obtain ⟨n, hn, e⟩ := ix_few 6 (by decide) h1 (fun z => h (Or.inl (Or.inr z)))
  obtain ⟨t, ht, e2⟩ := ix_few 10 (by decide) (fun z => h (Or.inr (Or.inr (Or.inl z)))) (fun z => h (Or.inr (Or.inr (Or.inr z))))
  refine ⟨n, t, e, ?_, hn, e2, ht⟩
  rcases Nat.lt_or_ge n 2 with h2 | h2
  · exact absurd (Or.inl (Or.inl (by rw [e, show (2 : Int32) = nI 2 by decide]; exact nI_lt h2 (by omega)))) h
  · exact h2
theorem hatch_I {i y t : Int32} {k Y T : Nat} (hi : i = nI k) (hy : y = nI Y) (h1 : 1 ≤ Y) (h2 : Y ≤ 200) (ht : t = nI T) (hT : T ≤ 10) : trL (tr_hatch tr_new i y t) Y (Y * T / 10) 1 0 0 0 ∧ bz (tr_hatch tr_new i y t 10) = 0 ∧ tr_hatch tr_new i y t 2 = nI k := by
  have hb : Y * T ≤ Y * 10 := Nat.mul_le_mul_left _ hT
  have e1 : y * t / 10 = nI (Y * T / 10) := by rw [hy, ht, pk_mul, show (10 : Int32) = nI 10 by decide, pk_div (by omega) (by decide) (by decide)]
  refine ⟨⟨hy, e1, show (1 : Int32) = nI 1 by decide, show tr_new 4 = nI 0 by decide +kernel, show tr_new 5 = nI 0 by decide +kernel, show tr_new 8 = nI 0 by decide +kernel, h1, h2, by omega, by omega, by omega, by omega, by omega, by omega, by omega, by decide⟩, ?_, hi⟩
  show bz (tr_new 10) = 0
  exact new_bz
theorem birth_F {v : Row} {W S : Nat} (h : trL v W S 1 0 0 0) (hr : bz (v 10) = 0) : tF v = 0 ∧ tG v = 0 ∧ tR v = 0 ∧ tB v ≤ 1 ∧ tProg v = 0 := by
  obtain ⟨g1, g2, g3, g4⟩ := lv_F h
  obtain ⟨g5, g6, g7⟩ := g3 hr
  obtain ⟨p1, p2, p3⟩ := tp_n h hr
  rw [g1, g5, g6, g2, p1, p2]
  refine ⟨?_, rfl, rfl, Nat.le_refl _, rfl⟩
  show W * 0 + 0 = 0
  omega
theorem feed_I {v : Row} {X W S I E M G : Nat} {got wet : Int32} (h : trL v W S I E M G) (hg : got = nI X) (hb : G + X < 2 ^ 20) : trL (tr_feed v got wet) W S I E M (G + X) := by
  obtain ⟨h0, h1, h3, h4, h5, h8, b1, b2, b3, b4, b5, b6, b7, b8, b9, b10⟩ := h
  exact ⟨h0, h1, h3, h4, h5, by show v 8 + got = _; rw [h8, hg, nI_add], b1, b2, b3, b4, b5, b6, b7, b8, b9, hb⟩
theorem feed_F {v : Row} {X W S I E M G : Nat} {got wet : Int32} (h : trL v W S I E M G) (hg : got = nI X) (hb : G + X < 2 ^ 20) : tF (tr_feed v got wet) = tF v + 4 * X ∧ tG (tr_feed v got wet) ≤ 1 ∧ tR (tr_feed v got wet) = tR v ∧ tB (tr_feed v got wet) ≤ tB v ∧ tProg (tr_feed v got wet) ≤ tProg v := by
  have h2 := feed_I (wet := wet) h hg hb
  have e1 := (lv_F h).1
  have e2 := (lv_F h2).1
  have ec : tCost (tr_feed v got wet) = tCost v := rfl
  rw [e1, e2, ec]
  refine ⟨by omega, ?_, rfl, Nat.le_refl _, Nat.le_refl _⟩
  unfold tG
  split <;> omega
/-- trays that are alike but for their worms and their food -/
theorem tC_eq {v w : Row} {W S I E M G W' S' G' : Nat} (h : trL v W S I E M G) (h2 : trL w W' S' I E M G') (e : w 10 = v 10) : tCost w = tCost v ∧ tProg w = tProg v ∧ tR w = tR v := by
  obtain ⟨h0, h1, h3, h4, h5, h8, -⟩ := h
  obtain ⟨k0, k1, k3, k4, k5, k8, -⟩ := h2
  unfold tCost tProg tR
  rw [e, h3, h4, h5, k3, k4, k5]
  exact ⟨rfl, rfl, rfl⟩
theorem tG_eq {v w : Row} {W S I E M G W' S' : Nat} (h : trL v W S I E M G) (h2 : trL w W' S' I E M G) (e : w 10 = v 10) : tG w = tG v := by
  unfold tG
  rw [e, h.2.2.2.2.2.1, h2.2.2.2.2.2.1]
/-- a tray is void then -/
theorem RM_gone {F nP nF nB nM nS nO : Nat} {rt rl : List Row} {k : Nat} {v w : Row} (h : RM F rt rl nP nF nB nM nS nO) (hv : rt[k]? = some v) (e1 : tF w = 0) (e2 : tG w = 0) (e3 : tR w = 0) (e4 : tB w = 0) (e5 : tProg w = 0) (h17 : ∀ x ∈ rt, tProg x ≤ 17) : RM F (rt.set k w) rl nP nF nB nM nS nO := by
  obtain ⟨a1, a2, a3, a4, a5, a6, a7, a8⟩ := h
  have s1 := sumB_set (f := tF) (q' := w) hv
  have s2 := sumB_set (f := tG) (q' := w) hv
  have s3 := sumB_set (f := tR) (q' := w) hv
  have s4 := sumB_set (f := tB) (q' := w) hv
  refine ⟨by omega, ?_, a3, ?_, ?_, by omega, a7, a8⟩
  · intro x hx
    rcases mem_set hx with hx | rfl
    · exact a2 x hx
    · omega
  · intro z x hx
    rcases Nat.eq_zero_or_pos (sumB tR rt + rl.length) with z2 | z2
    · rcases mem_set hx with hx | rfl
      · have := a4 z2 x hx; omega
      · have := a4 z2 v (List.mem_of_getElem? hv); omega
    · have h1 := a5 z2
      rcases mem_set hx with hx | rfl
      · have := h17 x hx; omega
      · omega
  · intro z
    have := a5 (by omega)
    omega
theorem tP_17 {v : Row} (h : trI v) : tProg v ≤ 17 := by
  rcases h with rfl | ⟨W, S, I, E, M, G, t, -⟩
  · rw [new_F.2.2.2.2]; omega
  · obtain ⟨g1, g2, g3, g4⟩ := lv_F t
    by_cases hr : bz (v 10) = 0
    · have := (g3 hr).2.2; omega
    · rw [(g4 hr).2.2]; omega
theorem empR9 {na a : Nat} {w w' : Row} (h : (w = tr_new ∧ w' 0 = 0) ∨ (w' = w ∧ ¬ w 0 = 0)) : w = (mt_emp na (a, w')).2 := by
  unfold mt_emp
  rcases h with ⟨rfl, h0⟩ | ⟨rfl, h0⟩
  · rw [if_pos (show (a, w').2 0 = 0 from h0)]; rfl
  · rw [if_neg (show ¬ (a, w').2 0 = 0 from h0)]
/-- cleaning -/
theorem clean_I {v : Row} {F nP nF nB nM nS nO : Nat} {rt rl : List Row} {k : Nat} (hI : trI v) (h0 : ¬ v 0 = 0) (h : RM F rt rl nP nF nB nM nS nO) (hv : rt[k]? = some v) (h17 : ∀ x ∈ rt, tProg x ≤ 17) : (f_X3_clean v).1 = (f_X7_clean v).1 ∧ (∀ na a : Nat, (f_X3_clean v).2 = (mt_emp na (a, (f_X7_clean v).2)).2) ∧ trI (f_X3_clean v).2 ∧ RM F (rt.set k (f_X3_clean v).2) rl nP nF nB nM nS nO := by
  obtain ⟨W, S, I, E, M, G, t, j, hj, e2⟩ := trI_live hI h0
  obtain ⟨d, w, w', c1, c2, hc⟩ := tr_clean t
  rw [c1, c2]
  rcases hc with ⟨rfl, z⟩ | ⟨rfl, z1, z2, z3, W', S', hW, t'⟩
  · obtain ⟨n1, n2, n3, n4, n5⟩ := new_F
    exact ⟨rfl, fun na a => empR9 (Or.inl ⟨rfl, z⟩), Or.inl rfl, RM_gone h hv n1 n2 n3 n4 n5 h17⟩
  · obtain ⟨q1, q2, q3⟩ := tC_eq t t' z3
    have q4 := tG_eq t t' z3
    have f1 := (lv_F t).1
    have f2 := (lv_F t').1
    refine ⟨rfl, fun na a => empR9 (Or.inr ⟨rfl, z1⟩), Or.inr ⟨W', S', I, E, M, G, t', j, hj, z2.trans e2⟩, RM_set h hv ?_ (Nat.le_of_eq q4) q3 ?_ (Nat.le_of_eq q2)⟩
    · rw [f1, f2, q1]
      have := Nat.mul_le_mul_right (tCost v) hW
      omega
    · rw [(lv_F t).2.1, (lv_F t').2.1]; exact Nat.le_refl _
/-- parting -/
theorem part_I {v u sc : Row} {y : Int32} {F nP nF nB nM nS nO : Nat} {rt rl : List Row} {k k2 : Nat} (hI : trI v) (hy : ¬ y < 1) (h0 : ¬ v 0 ≤ y) (hb : bz (v 10) = 0) (hu : u = tr_new) (h : RM F rt rl nP nF nB nM nS nO) (hne : ¬ k = k2) (hv : rt[k]? = some v) (hv2 : rt[k2]? = some u) :
    (f_X3_part v u y).1 = v 1 * y / v 0 ∧ (f_X3_part v u y).2.1 = pm_its v y ∧ pt_sc sc v u y = pm_sc sc v y ∧ trI (pm_its v y) ∧ trI (pt_to v u y) ∧ (∀ na nb : Nat, pt_to v u y = (mt_emp nb (na, pm_to v y)).2) ∧ RM F ((rt.set k (pm_its v y)).set k2 (pt_to v u y)) rl nP nF (nB + 1) nM nS nO := by
  have hn0 : ¬ v 0 = 0 := by
    intro z
    rw [z] at h0
    refine h0 (Int32.le_of_lt (Int32.lt_of_lt_of_le (by decide) (Int32.not_lt.mp hy)))
  obtain ⟨W, S, I, E, M, G, t, j, hj, e2⟩ := trI_live hI hn0
  have ht := t
  obtain ⟨t0, t1, t3, t4, t5, t8, b1, b2, b3, b4, b5, b6, b7, b8, b9, b10⟩ := ht
  obtain ⟨Y, hY, rfl⟩ := nI_of (show ¬ y < 0 from fun z => hy (Int32.lt_trans z (by decide)))
  have hY1 : 1 ≤ Y := by
    rcases Nat.eq_zero_or_pos Y with z | z
    · exact absurd (by rw [z, nI_0]; decide) hy
    · exact z
  have hYW : Y < W := by
    rcases Nat.lt_or_ge Y W with z | z
    · exact z
    · exact absurd (by rw [t0]; exact nI_le z hY) h0
  obtain ⟨p1, p2, p3, ⟨S1, p4⟩, p5⟩ := tr_part (w := u) (sc := sc) t hY1 hYW
  have e10 : pm_its v (nI Y) 10 = v 10 := rfl
  obtain ⟨q1, q2, q3⟩ := tC_eq t p4 e10
  have q4 := tG_eq t p4 e10
  have f1 := (lv_F t).1
  have f2 := (lv_F p4).1
  have f3 := (lv_F t).2.1
  have f4 := (lv_F p4).2.1
  obtain ⟨n1, n2, n3, n4, n5⟩ := new_F
  have hIi : trI (pm_its v (nI Y)) := Or.inr ⟨_, _, _, _, _, _, p4, j, hj, e2⟩
  have hsub : (W - Y) * tCost v + Y * tCost v = W * tCost v := by rw [← Nat.add_mul, Nat.sub_add_cancel (Nat.le_of_lt hYW)]
  rcases p5 with ⟨z1, z2⟩ | ⟨z1, z2, z3, z4, W', S', hW, t'⟩
  · refine ⟨p1, p2, p3, hIi, Or.inl z1, fun na nb => empR9 (Or.inl ⟨z1, z2⟩), ?_⟩
    rw [z1]
    refine RM_part h hne hv hv2 ?_ (Nat.le_of_eq q4) q3 (by omega) (Nat.le_of_eq q2) n2 n3 (by omega) (by omega) (by rw [hu]; exact n3)
    rw [n1, f1, f2, q1]; omega
  · obtain ⟨r1, r2, r3⟩ := tC_eq t t' z4
    have r4 := lv_F t'
    have hr0 : bz (pt_to v u (nI Y) 10) = 0 := by rw [z4]; exact hb
    obtain ⟨r5, r6, r7⟩ := r4.2.2.1 hr0
    refine ⟨p1, p2, p3, hIi, Or.inr ⟨W', S', I, E, M, 0, t', j, hj, z3.trans e2⟩, fun na nb => empR9 (Or.inr ⟨z1, by rw [← z1]; exact z2⟩), ?_⟩
    refine RM_part h hne hv hv2 ?_ (Nat.le_of_eq q4) q3 (by omega) (Nat.le_of_eq q2) (by rw [r5]; rfl) r6 (Nat.le_of_eq r4.2.1) (Nat.le_of_eq r2) (by rw [hu]; exact n3)
    rw [f1, f2, q1, r4.1, r1]
    have := Nat.mul_le_mul_right (tCost v) hW
    omega
/-! lots -/
theorem loI_9 {v : Row} {x : Int32} (h : loI v) : loI (vec [v 0, v 1, v 2, v 3, v 4, v 5, v 6, v 7, v 8, x, v 10]) := h
theorem loI_pass {v : Row} (h : loI v) : loI (f_X10_pass v) := by
  unfold f_X10_pass
  split
  · split
    · obtain ⟨ln, sz, g, d, s, lf, h1, h3, h4, h5, h6, h7⟩ := h
      obtain ⟨n1, n2, n3, n4, e0, e1, e6, e7, e8⟩ := h1
      exact ⟨ln, sz, g, d, s, (0, 0, 0), ⟨n1, n2, n3, by decide, e0, e1, nI_0.symm, nI_0.symm, nI_0.symm⟩, h3, h4, h5, ⟨Nat.zero_le _, Nat.zero_le _, Nat.zero_le _⟩, h7⟩
    · exact h
  · exact h
/-! passing -/
theorem mapA_l9 {S α : Type} {f : S → α → S × α} : ∀ (l : List α) (s : S), (mapA f s l).2.length = l.length
  | [], _ => rfl
  | x :: l, s => congrArg (· + 1) (mapA_l9 l (f s x).1)
theorem mapA_m9 {S α : Type} {f : S → α → S × α} {P : α → Prop} (h : ∀ s x, P x → P (f s x).2) : ∀ (l : List α) (s : S), (∀ x ∈ l, P x) → ∀ x ∈ (mapA f s l).2, P x
  | [], _, _, x, hx => absurd hx List.not_mem_nil
  | y :: l, s, hl, x, hx => by
    rcases List.mem_cons.mp hx with rfl | hx
    · exact h s y (hl y List.mem_cons_self)
    · exact mapA_m9 h l (f s y).1 (fun z hz => hl z (List.mem_cons_of_mem _ hz)) x hx
theorem dyN_keep {y b : Int32} {ln : TrT} (hy : ¬ (y < 0 ∨ 5 < y)) : ∀ (n : Nat) (z : DyS), (dyN y b ln n z).1 2 = z.1 2 ∧ (dyN y b ln n z).2.1.length = z.2.1.length ∧ (dyN y b ln n z).2.2.1.length = z.2.2.1.length ∧ (dyN y b ln n z).2.2.2.1.length = z.2.2.2.1.length ∧ ((∀ q ∈ z.2.1, plN q.2.2) → ∀ q ∈ (dyN y b ln n z).2.1, plN q.2.2) ∧ ((∀ q ∈ z.2.2.2.1, loI q.2.2.2) → ∀ q ∈ (dyN y b ln n z).2.2.2.1, loI q.2.2.2) ∧ sumB lSt (row3 (dyN y b ln n z).2.2.2.1) = sumB lSt (row3 z.2.2.2.1)
  | 0, _ => ⟨rfl, rfl, rfl, rfl, fun h => h, fun h => h, rfl⟩
  | n + 1, z => by
    obtain ⟨h1, h2, h3, h4, h5, h6, h7⟩ := dyN_keep (b := b) (ln := ln) hy n (dyS y b ln z)
    refine ⟨h1, h2.trans (mapA_l9 _ _), h3.trans (mapA_l9 _ _), h4.trans (mapA_l9 _ _), fun hp => h5 (mapA_m9 (fun s x hx => plN_pass hx hy) _ _ hp), fun hp => h6 (mapA_m9 (fun s x hx => loI_pass hx) _ _ hp), h7.trans (ld_R (lo := z.2.2.2.1)).2.2⟩
theorem add_back (x a : Int32) : a = (x + a) - x := by
  rw [Int32.sub_eq_add_neg, Int32.add_comm x a, Int32.add_assoc, ← Int32.sub_eq_add_neg, Int32.sub_self, Int32.add_zero]
/-- both sides' days -/
theorem pass_sim {y b : Int32} {ln ml : TrT} {n n' : Nat} {sc scm sc1 sc1m : Row} {pl pl1 : PlT} {mp mp1 : MpT} {tr tr1 mt mt1 : TrT} {lo lo1 : LoT} {mo mo1 : MoT} {a i : Int32} (hln : rows ln = rows ml) (hs : scS sc scm) (hp : row2 pl = row2 mp) (ht : rows tr = rows mt) (ho : row3 lo = row3 mo) (hI : ∀ q ∈ tr, trI q.2) (hn : n ≤ 20) (hn' : n' ≤ 20) (e : i = nI n) (e' : i = nI n') (hS : dyN y b ln n (sc, pl, tr, lo, 0) = (sc1, pl1, tr1, lo1, a)) (hM : mdN y ml n' (scm, mp, rows mt, mo) = (sc1m, mp1, rows mt1, mo1)) : n = n' ∧ scE sc1 sc1m ∧ row2 pl1 = row2 mp1 ∧ rows tr1 = rows mt1 ∧ row3 lo1 = row3 mo1 ∧ a = sc1m 4 - scm 4 ∧ ∀ q ∈ tr1, trI q.2 := by
  have en : n = n' := nI_inj e e' (show n < 4096 by omega) (show n' < 4096 by omega) (Nat.le_refl _)
  subst en
  have h0 : dyR (scm 4) (sc, pl, tr, lo, 0) (scm, mp, rows mt, mo) := ⟨fun j hj _ => hs j hj, hp, ht, ho, (Int32.add_zero _).symm, hI⟩
  have h1 := dyR_N (y := y) (b := b) (hardy_eq hln) n h0
  rw [hS, hM] at h1
  obtain ⟨g1, g2, g3, g4, g5, g6⟩ := h1
  have g5 : sc1m 4 = scm 4 + a := g5
  refine ⟨rfl, g1, g2, g3, g4, ?_, g6⟩
  rw [g5]
  exact add_back _ _
theorem scS7 {a b : Row} (h0 : a 0 = b 0) (h1 : a 1 = b 1) (h2 : a 2 = b 2) (h3 : a 3 = b 3) (h4 : a 4 = b 4) (h5 : a 5 = b 5) (h6 : a 6 = b 6) : scS a b := by
  intro i hi
  have h : i = 0 ∨ i = 1 ∨ i = 2 ∨ i = 3 ∨ i = 4 ∨ i = 5 ∨ i = 6 := by omega
  rcases h with rfl | rfl | rfl | rfl | rfl | rfl | rfl
  · exact h0
  · exact h1
  · exact h2
  · exact h3
  · exact h4
  · exact h5
  · exact h6
/-! basins -/
theorem bas0 {a : Int32} (h : ¬ a = 1) : (¬ a < 0 ∧ a < 2) → a = nI 0 := by
  rintro ⟨h1, h2⟩
  obtain ⟨n, hn, rfl⟩ := nI_of h1
  have h3 : n < 2 := by
    rcases Nat.lt_or_ge n 2 with z | z
    · exact z
    · exact absurd h2 (nI_nlt (b := 2) z hn)
  have h4 : n ≠ 1 := fun z => h (by rw [z]; decide)
  rw [show n = 0 by omega]
theorem bas0m {a : Int32} (h : ¬ a = 1) (h2 : ¬ (a < 0 ∨ 1 < a)) : a = nI 0 :=
  bas0 h ⟨fun z => h2 (Or.inl z), by
    have h3 : ¬ (a < 0 ∨ ¬ a < 2) := fun z => h2 (rngB.mp z)
    exact Decidable.not_not.mp (fun z => h3 (Or.inr z))⟩
theorem mo_I {lo mo : LoT} (h : ∀ q ∈ lo, loI q.2.2.2) (e : row3 lo = row3 mo) : ∀ q ∈ mo, loI q.2.2.2 := by
  intro q hq
  have h1 : q.2.2.2 ∈ row3 lo := by
    rw [e]
    exact List.mem_map.mpr ⟨q, hq, rfl⟩
  obtain ⟨q', h2, h3⟩ := List.mem_map.mp h1
  rw [← h3]
  exact h q' h2
theorem all_0 {v : Row} (h : loI v) : (f_X10_all v).1 ≤ 0 ↔ (f_X11_cocoons v).1 = 0 := by
  obtain ⟨ln, sz, g, d, s, lf, h1, h3, h4, h5, h6, h7⟩ := h
  have ea : (f_X10_all v).1 = nI (g + d + s) := by
    show v 3 + v 4 + v 5 = _
    rw [h3, h4, h5, nI_add, nI_add]
  have eb : (f_X11_cocoons v).1 = (f_X10_all v).1 := rfl
  rw [eb, ea]
  rcases Nat.eq_zero_or_pos (g + d + s) with z | z
  · rw [z]; exact ⟨fun _ => nI_0, fun _ => by decide⟩
  · exact ⟨fun y => absurd y (nI_nle z (by omega)), fun y => absurd y (nI_ne0 z (by omega))⟩
theorem ms12 {α : Type} {l : List (Nat × α)} (h : l.length ≤ 12) (h2 : ¬ nI (ads l).length = 12) : l.length < 12 := by
  rcases Nat.lt_or_ge l.length 12 with z | z
  · exact z
  · exact absurd (by rw [ads_len, show l.length = 12 by omega]; decide) h2
theorem lo_same {v : Row} {ln sz ln' sz' : Nat} {lf lf' : Lf} (h : loN v ln sz lf) (h' : loN v ln' sz' lf') : ln = ln' ∧ sz = sz' ∧ lf = lf' := by
  obtain ⟨a1, a2, a3⟩ := loN_eq h
  obtain ⟨b1, b2, b3⟩ := loN_eq h'
  exact ⟨a1.symm.trans b1, a2.symm.trans b2, a3.symm.trans b3⟩
/-- the best target has room -/
theorem bt_room {F nP nF nB nM nS nO L n ln sz : Nat} {rt : List Row} {lo : LoT} {q : Nat × Nat × Nat × Row} {lf : Lf} {l : List FvT} (h : RM F rt (row3 lo) nP nF nB nM nS nO) (hI : ∀ q ∈ lo, loI q.2.2.2) (hq : q ∈ lo) (h1 : loN q.2.2.2 ln sz lf) (h2 : n ≤ 30) (hl : ∀ f ∈ l, okF f) (hlen : l.length ≤ 40) : btC ln sz n lf l ≤ DD nO L (row3 lo).length - 40 ∧ btCS ln sz n lf l ≤ 12 * DD nO L (row3 lo).length - 300 := by
  obtain ⟨ln', sz', g, d, s, lf', k1, k2, k3⟩ := loI_w (hI q hq)
  obtain ⟨rfl, rfl, rfl⟩ := lo_same h1 k1
  have hb := btC_bd h1.1 h1.2.1 h1.2.2.1 hl k2 hlen h2
  have hs := sumB_mem (f := lWt) (show q.2.2.2 ∈ row3 lo from List.mem_map.mpr ⟨q, hq, rfl⟩)
  rw [k3] at hs
  have hF := h.1
  have hK : ¬ (row3 lo).length = 0 := by
    rw [row3_l]
    have := List.length_pos_of_mem hq
    omega
  have hD : 14500 + 1746 * nO ≤ DD nO L (row3 lo).length := by
    unfold DD
    rw [if_neg hK]
    exact Nat.le_max_left _ _
  omega
theorem bt_same {v w : Row} {ln sz n ln' sz' n' : Nat} {lf lf' : Lf} {l l' : List FvT} {i : Int32} (e : v = w) (h : loN v ln sz lf) (h' : loN w ln' sz' lf') (hn : n ≤ 30) (hn' : n' ≤ 30) (e1 : i = nI n) (e2 : i = nI n') (el : l = l') : btV ln sz n lf l = btM ln' sz' n' lf' l' 40 1 (-1) 1 := by
  subst e; subst el
  obtain ⟨rfl, rfl, rfl⟩ := lo_same h h'
  have en : n = n' := nI_inj e1 e2 (show n < 4096 by omega) (show n' < 4096 by omega) (Nat.le_refl _)
  subst en
  exact btV_eq (by omega)
theorem pot_bd (st : Option (Nat × Nat)) : al_pot st ≤ 5 ∧ al_potS st ≤ 182 := by
  rcases st with _ | ⟨d, c⟩
  · exact ⟨Nat.le_refl _, Nat.le_refl _⟩
  · unfold al_pot al_potS
    dsimp only
    repeat (first | exact ⟨by decide, by decide⟩ | split)
theorem rl_200 {v : Row} {ln sz T n : Nat} {lf : Lf} {l : List FvT} (hI : loI v) (h1 : loN v ln sz lf) (hl : ∀ f ∈ l, okF f) : rlJ T ln sz n lf l ≤ 200 := by
  obtain ⟨ln', sz', g, d, s, lf', k1, k3, k4, k5, k6, k7⟩ := hI
  obtain ⟨rfl, rfl, rfl⟩ := lo_same h1 k1
  have h := rlJ_N (T := T) (n := n) (lf := lf) h1.1 h1.2.1 h1.2.2.1 hl
  obtain ⟨a1, a2, a3⟩ := k6
  dsimp only at a1 a2 a3
  unfold lfN at h
  omega
theorem rl_room {v : Row} {ln sz T n : Nat} {lf : Lf} {l : List FvT} {st : Option (Nat × Nat)} (hI : loI v) (h1 : loN v ln sz lf) (hn : n ≤ 30) (hl : ∀ f ∈ l, okF f) : 2 + 5 * n + 5 * rlJ T ln sz n lf l + al_pot st ≤ 1200 ∧ 10 + 55 * n + 19 * rlJ T ln sz n lf l + al_potS st ≤ 6000 := by
  have h := rl_200 (T := T) (n := n) hI h1 hl
  have h2 := pot_bd st
  omega
theorem rm_room {v : Row} {ln sz T n : Nat} {lf : Lf} {l : List FvT} {st : Option (Nat × Nat)} (hI : loI v) (h1 : loN v ln sz lf) (hn : n ≤ 30) (hl : ∀ f ∈ l, okF f) : 2 + rlJ T ln sz n lf l + al_pot st ≤ 300 ∧ 10 + 4 * rlJ T ln sz n lf l + al_potS st ≤ 1000 := by
  have h := rl_200 (T := T) (n := n) hI h1 hl
  have h2 := pot_bd st
  omega
theorem reel_sim {v w : Row} {ln sz T n ln' sz' T' n' : Nat} {lf lf' lf1 lf1' : Lf} {l l' m m' : List FvT} {v1 v1' : Row} {i j : Int32} {sk sk1 : PlT} {ms ms1 : MpT} {r9 r9' : Int32} {u5 u5a us usa : Int32} {st5 st5a sts stsa : Option (Nat × Nat)} (e : v = w) (h : loN v ln sz lf) (h' : loN w ln' sz' lf') (hT : T ≤ 40) (hT' : T' ≤ 40) (e1 : i = nI T) (e2 : i = nI T') (hn : n ≤ 30) (hn' : n' ≤ 30) (e3 : j = nI n) (e4 : j = nI n') (el : l = l') (hS : rlW T ln sz n lf l f_X12_init = (lf1, m, v1)) (hM : rlW T' ln' sz' n' lf' l' f_X12_init = (lf1', m', v1')) (hs : row2 sk = row2 ms)
    (hk : (v1 0 = 0 ∧ sk1 = sk ∧ r9 = -1 ∧ u5a = u5 ∧ st5a = st5) ∨ (¬ v1 0 = 0 ∧ (∃ q3 : Nat × Nat × (Nat → Int32), sk1 = sk ++ [q3] ∧ q3.2.2 = v1) ∧ r9 = nI (ads sk1).length - 1 ∧ alOK st5a (ads sk1) ∧ alC st5a))
    (hk' : (v1' 0 = 0 ∧ ms1 = ms ∧ r9' = -1 ∧ usa = us ∧ stsa = sts) ∨ (¬ v1' 0 = 0 ∧ (∃ q3 : Nat × Nat × (Nat → Int32), ms1 = ms ++ [q3] ∧ q3.2.2 = v1') ∧ r9' = nI (ads ms1).length - 1 ∧ alOK stsa (ads ms1) ∧ alC stsa)) : lf1 = lf1' ∧ m = m' ∧ row2 sk1 = row2 ms1 ∧ r9 = r9' := by
  subst e; subst el
  obtain ⟨rfl, rfl, rfl⟩ := lo_same h h'
  have eT : T = T' := nI_inj e1 e2 (show T < 4096 by omega) (show T' < 4096 by omega) (Nat.le_refl _)
  have en : n = n' := nI_inj e3 e4 (show n < 4096 by omega) (show n' < 4096 by omega) (Nat.le_refl _)
  subst eT; subst en
  have hz := hS.symm.trans hM
  obtain ⟨rfl, hz2⟩ := Prod.mk.inj hz
  obtain ⟨rfl, rfl⟩ := Prod.mk.inj hz2
  rcases hk with ⟨a1, rfl, rfl, -, -⟩ | ⟨a1, ⟨q, rfl, a2⟩, rfl, -, -⟩
  · rcases hk' with ⟨b1, rfl, rfl, -, -⟩ | ⟨b1, -⟩
    · exact ⟨rfl, rfl, hs, rfl⟩
    · exact absurd a1 b1
  · rcases hk' with ⟨b1, -⟩ | ⟨b1, ⟨q', rfl, b2⟩, rfl, -, -⟩
    · exact absurd b1 a1
    · exact ⟨rfl, rfl, snoc2 hs (a2.trans b2.symm), lenS (row2_len hs)⟩
theorem reel_P5 {v1 v1' : Row} {sk sk1 : PlT} {ms ms1 : MpT} {r9 r9' : Int32} {u5 u5a us usa : Int32} {st5 st5a sts stsa : Option (Nat × Nat)} (h : P5 st5 sk sts ms) (he : row2 sk1 = row2 ms1) (h12 : ¬ 12 ≤ nI (ads sk).length)
    (hk : (v1 0 = 0 ∧ sk1 = sk ∧ r9 = -1 ∧ u5a = u5 ∧ st5a = st5) ∨ (¬ v1 0 = 0 ∧ (∃ q3 : Nat × Nat × (Nat → Int32), sk1 = sk ++ [q3] ∧ q3.2.2 = v1) ∧ r9 = nI (ads sk1).length - 1 ∧ alOK st5a (ads sk1) ∧ alC st5a))
    (hk' : (v1' 0 = 0 ∧ ms1 = ms ∧ r9' = -1 ∧ usa = us ∧ stsa = sts) ∨ (¬ v1' 0 = 0 ∧ (∃ q3 : Nat × Nat × (Nat → Int32), ms1 = ms ++ [q3] ∧ q3.2.2 = v1') ∧ r9' = nI (ads ms1).length - 1 ∧ alOK stsa (ads ms1) ∧ alC stsa)) : P5 st5a sk1 stsa ms1 := by
  obtain ⟨h1, h2, h3, h4, h5, h6⟩ := h
  have hl := lt_12 h6 h12
  have a : alOK st5a (ads sk1) ∧ alC st5a ∧ sk1.length ≤ 12 := by
    rcases hk with ⟨-, rfl, -, -, rfl⟩ | ⟨-, ⟨q, rfl, -⟩, -, b1, b2⟩
    · exact ⟨h1, h2, h6⟩
    · exact ⟨b1, b2, by rw [List.length_append]; exact hl⟩
  have b : alOK stsa (ads ms1) ∧ alC stsa := by
    rcases hk' with ⟨-, rfl, -, -, rfl⟩ | ⟨-, ⟨q, rfl, -⟩, -, b1, b2⟩
    · exact ⟨h3, h4⟩
    · exact ⟨b1, b2⟩
  exact ⟨a.1, a.2.1, b.1, b.2, he, a.2.2⟩
/-- the checksum has room -/
theorem dg_room {F nP nF nB nM nS nO a b : Nat} {rt : List Row} {lo : LoT} (h : RM F rt (row3 lo) nP nF nB nM nS nO) (hc : 9 * a ≤ 81 * lo.length + 52260 * sumB lSt (row3 lo) + 720 * sumB lWt (row3 lo)) (hs : 9 * b ≤ 729 * lo.length + 350652 * sumB lSt (row3 lo) + 2736 * sumB lWt (row3 lo)) (hl : lo.length ≤ 10) : a + 1157 ≤ 30 + DD nO (sumB lSt (row3 lo)) (row3 lo).length ∧ b + 9976 ≤ 12 * (30 + DD nO (sumB lSt (row3 lo)) (row3 lo).length) := by
  have hF := h.1
  by_cases hK : (row3 lo).length = 0
  · have e : row3 lo = [] := List.eq_nil_of_length_eq_zero hK
    have e1 : sumB lSt (row3 lo) = 0 := by rw [e]; rfl
    have e2 : sumB lWt (row3 lo) = 0 := by rw [e]; rfl
    have e3 : lo.length = 0 := by rw [← row3_l]; exact hK
    have hD : 2000 ≤ DD nO (sumB lSt (row3 lo)) (row3 lo).length := DD_ge
    rw [e1, e2, e3] at hc hs
    omega
  · have hD : 2000 + 5808 * sumB lSt (row3 lo) + 1746 * nO ≤ DD nO (sumB lSt (row3 lo)) (row3 lo).length := by
      unfold DD
      rw [if_neg hK]
      exact Nat.le_max_right _ _
    omega
