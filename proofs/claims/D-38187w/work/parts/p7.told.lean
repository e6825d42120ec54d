/-! BOTH SIDES SAY THE SAME: the best target, the checksum, the mean; what they cost -/
set_option maxRecDepth 100000
/-- two folds over lists whose rows are the same -/
theorem mapA_rel {S S' α β γ : Type} {f : S → α → S × α} {f' : S' → β → S' × β} {r : α → γ} {r' : β → γ} {R : S → S' → Prop} : ∀ {l : List α} {l' : List β} {s : S} {s' : S'}, l.map r = l'.map r' → (∀ q ∈ l, ∀ q' ∈ l', r q = r' q' → ∀ s s', R s s' → R (f s q).1 (f' s' q').1) → R s s' → R (mapA f s l).1 (mapA f' s' l').1
  | [], [], _, _, _, _, h => h
  | [], _ :: _, _, _, e, _, _ => by cases e
  | _ :: _, [], _, _, e, _, _ => by cases e
  | x :: l, y :: l', s, s', e, hs, h => by
    rw [List.map_cons, List.map_cons] at e
    have e2 := List.cons.inj e
    exact mapA_rel (l := l) (l' := l') (s := (f s x).1) (s' := (f' s' y).1) e2.2 (fun q hq q' hq' => hs q (List.mem_cons_of_mem _ hq) q' (List.mem_cons_of_mem _ hq')) (hs x List.mem_cons_self y List.mem_cons_self e2.1 s s' h)
theorem mapA_eq {S α β γ : Type} {f : S → α → S × α} {f' : S → β → S × β} {r : α → γ} {r' : β → γ} {l : List α} {l' : List β} {s s' : S} (e : l.map r = l'.map r') (hs : s = s') (h : ∀ q ∈ l, ∀ q' ∈ l', r q = r' q' → ∀ s, (f s q).1 = (f' s q').1) : (mapA f s l).1 = (mapA f' s' l').1 :=
  mapA_rel (R := Eq) e (fun q hq q' hq' e s s' z => by subst z; exact h q hq q' hq' e s) hs
theorem cn_eq {tr mt : TrT} (h : rows tr = rows mt) : cn_tr tr = cn_tr mt :=
  mapA_eq (r := fun q : Nat × Row => q.2) (r' := fun q : Nat × Row => q.2) h rfl fun q _ q' _ e s => by
    have e : q.2 = q'.2 := e
    show (s.1 + q.2 0, s.2.1 + q.2 1, s.2.2 + f_X1_one (q.2 10)) = (s.1 + q'.2 0, s.2.1 + q'.2 1, s.2.2 + f_X1_one (q'.2 10))
    rw [e]
theorem ca_eq {np nl ns np' nl' ns' : Nat} {sc scm : Row} {t t' : Int32 × Int32 × Int32} {w : Int32} (h : scS sc scm) (h1 : np = np') (h2 : nl = nl') (h3 : ns = ns') (ht : t = t') : cn_all np nl ns sc t w = cn_all np' nl' ns' scm t' w := by
  subst h1; subst h2; subst h3; subst ht
  unfold cn_all
  rw [h 0 (by decide), h 2 (by decide), h 3 (by decide), h 4 (by decide), h 5 (by decide), h 6 (by decide)]
/-! the best target -/
theorem gr_lt {v : Row} : 1 < (f_X12_grade v).1 ↔ ¬ v 2 - v 1 < 4 := by
  generalize hd : v 2 - v 1 = d
  unfold f_X12_grade
  rw [hd]
  by_cases h4 : (4 : Int32) ≤ d
  · have h2 : (2 : Int32) ≤ d := Int32.le_trans (by decide) h4
    rw [if_pos h2, if_pos h4]
    refine ⟨fun _ => Int32.not_lt.mpr h4, fun _ => ?_⟩
    by_cases h8 : (8 : Int32) ≤ d
    · rw [if_pos h8]; exact (by decide : (1 : Int32) < 3)
    · rw [if_neg h8]; exact (by decide : (1 : Int32) < 2)
  · refine ⟨fun h => ?_, fun h => absurd (Int32.not_lt.mp h) h4⟩
    exfalso
    revert h
    by_cases h2 : (2 : Int32) ≤ d
    · rw [if_pos h2, if_neg h4]; exact (by decide : ¬ (1 : Int32) < 1)
    · rw [if_neg h2]; exact (by decide : ¬ (1 : Int32) < 0)
theorem rl_len {T ln sz : Nat} : ∀ (n k : Nat) (lf : Lf) (l : List FvT) (v : Row), v 0 = nI k → ∃ k', k' ≤ n + k ∧ (rlW T ln sz n lf l v).2.2 0 = nI k'
  | 0, k, lf, l, v, h => ⟨k, by omega, h⟩
  | n + 1, k, lf, l, v, h => by
    by_cases h0 : (jn T ln sz lf l).2.length = 0
    · exact ⟨k, by omega, by rw [rlW_0 (f1 := (jn T ln sz lf l).1) (l1 := (jn T ln sz lf l).2) rfl h0]; exact h⟩
    · rw [rlW_S (f1 := (jn T ln sz lf l).1) (l1 := (jn T ln sz lf l).2) rfl h0]
      obtain ⟨k', h1, h2⟩ := rl_len n (k + 1) (jn T ln sz lf l).1 (goL (jn T ln sz lf l).2) (skG (f_X12_add v (nI (sumF (jn T ln sz lf l).2))) (jn T ln sz lf l).2) (by rw [skG_low (by decide), add_0, h, nI_1])
      exact ⟨k', by omega, h2⟩
/-- both searches hold the same best -/
theorem bt_eq {ln sz n : Nat} {lf : Lf} {l : List FvT} (hn : n ≤ 2 ^ 20) : ∀ (m T : Nat) (b : Int32) (j : Nat), j < 2 ^ 30 → btW ln sz n lf l m T b (nI j) = btM ln sz n lf l m T b (nI (max j 1))
  | 0, _, _, _, _ => rfl
  | m + 1, T, b, j, hj => by
    obtain ⟨k, hk, hk0⟩ := rl_len (T := T) (ln := ln) (sz := sz) n 0 lf l f_X12_init (by decide)
    have hs : btS ln sz n lf l T 0 = nI k := hk0
    have ih := bt_eq (ln := ln) (sz := sz) (lf := lf) (l := l) hn m (T + 1)
    have h1 : (1 : Int32) = nI 1 := by decide
    by_cases z : k = 0
    · have hz : btS ln sz n lf l T 0 = 0 := by rw [hs, z, nI_0]
      have ht : ¬ nI (max j 1) ≤ tlR ln sz T n lf l := by
        have : tlR ln sz T n lf l = nI 0 := by
          unfold tlR tl_val
          rw [hz, nI_0]; split <;> rfl
        rw [this]
        exact nI_ge (by omega) (by omega)
      rw [btW_0 rfl hz, btM_0 ht]
      exact ih b j hj
    · have hz : ¬ btS ln sz n lf l T 0 = 0 := by rw [hs]; exact nI_ne0 (by omega) (by omega)
      by_cases c1 : 1 < (f_X12_grade (btS ln sz n lf l T)).1
      · have ht : ¬ nI (max j 1) ≤ tlR ln sz T n lf l := by
          have : tlR ln sz T n lf l = nI 0 := by
            unfold tlR tl_val
            rw [if_neg (gr_lt.mp c1), nI_0]
          rw [this]
          exact nI_ge (by omega) (by omega)
        rw [btW_1 rfl hz c1, btM_0 ht]
        exact ih b j hj
      · have ev : tlR ln sz T n lf l = nI k := by
          unfold tlR tl_val
          rw [if_pos (Decidable.not_not.mp (fun z => c1 (gr_lt.mpr z))), hs]
        by_cases c2 : k < j
        · have ht : ¬ nI (max j 1) ≤ tlR ln sz T n lf l := by
            rw [ev]
            exact nI_ge (by omega) (by omega)
          rw [btW_2 rfl hz c1 (by rw [hs]; exact nI_lt c2 (by omega)), btM_0 ht]
          exact ih b j hj
        · have ht : nI (max j 1) ≤ tlR ln sz T n lf l := by
            rw [ev]
            exact nI_le (by omega) (by omega)
          rw [btW_3 rfl hz c1 (by rw [hs]; exact nI_nlt (by omega) (by omega)), btM_1 ht, hs, ev]
          have := ih (nI T) k (by omega)
          rw [show max k 1 = k by omega] at this
          exact this
theorem btV_eq {ln sz n : Nat} {lf : Lf} {l : List FvT} (hn : n ≤ 2 ^ 20) : btV ln sz n lf l = btM ln sz n lf l 40 1 (-1) 1 := by
  have h := bt_eq (ln := ln) (sz := sz) (lf := lf) (l := l) hn 40 1 (-1) 0 (by decide)
  rw [nI_0] at h
  exact h
theorem btQ_eqM {v : Row} {n : Nat} {l : List FvT} (h : loI v) (hn : n ≤ 2 ^ 20) : btQ v n l = btMQ v n l := by
  obtain ⟨ln, sz, lf, h1⟩ := h.ok
  rw [(btQ_eq h1).1, btMQ_eq h1, btV_eq hn]
/-! the checksum -/
theorem sk_ms (v : Row) (w : Int32) : sk_told v w = ms_told v w := rfl
theorem tr_mt (v : Row) (w : Int32) : tr_told v w = mt_told v w := rfl
theorem dg_eq {np nl ns np' nl' ns' : Nat} {sc scm : Row} {pl : PlT} {mp : MpT} {ln ml tr mt : TrT} {lo : LoT} {mo : MoT} {l0 l1 k0 k1 : List FvT} {sk : PlT} {ms : MpT} (h : scS sc scm) (h1 : np = np') (h2 : nl = nl') (h3 : ns = ns') (hp : row2 pl = row2 mp) (hl : rows ln = rows ml) (ht : rows tr = rows mt) (hti : ∀ q ∈ tr, trI q.2) (ho : row3 lo = row3 mo) (hoi : ∀ q ∈ lo, loI q.2.2.2) (e0 : l0 = k0) (e1 : l1 = k1) (hs : row2 sk = row2 ms) : dgV np nl ns sc pl ln tr lo l0 l1 sk = dgM np' nl' ns' scm mp ml mt mo k0 k1 ms := by
  subst e0; subst e1
  unfold dgV dgM
  have hc := cn_eq ht
  refine mapA_eq (r := fun q : Nat × Nat × Row => q.2.2) (r' := fun q : Nat × Nat × Row => q.2.2) hs ?_ (fun q _ q' _ e s => ?_)
  · refine congrArg (fun z => dgB z l0 l1) ?_
    refine mapA_eq (r := fun q : Nat × Nat × Nat × Row => q.2.2.2) (r' := fun q : Nat × Nat × Nat × Row => q.2.2.2) ho ?_ (fun q hq q' _ e s => ?_)
    · refine mapA_eq (r := fun q : Nat × Row => q.2) (r' := fun q : Nat × Row => q.2) ht ?_ (fun q hq q' _ e s => ?_)
      · refine mapA_eq (r := fun q : Nat × Row => q.2) (r' := fun q : Nat × Row => q.2) hl ?_ (fun q _ q' _ e s => ?_)
        · refine mapA_eq (r := fun q : Nat × Nat × Row => q.2.2) (r' := fun q : Nat × Nat × Row => q.2.2) hp ?_ (fun q _ q' _ e s => ?_)
          · simp only [ca_eq h h1 h2 h3 hc]
          · have e : q.2.2 = q'.2.2 := e
            show dgl s [pl_told q.2.2 0, pl_told q.2.2 1, pl_told q.2.2 2, pl_told q.2.2 3, pl_told q.2.2 4, pl_told q.2.2 5] = dgl s [pl_told q'.2.2 0, pl_told q'.2.2 1, pl_told q'.2.2 2, pl_told q'.2.2 3, pl_told q'.2.2 4, pl_told q'.2.2 5]
            rw [e]
        · have e : q.2 = q'.2 := e
          show dgl s [ln_told q.2 0, ln_told q.2 1, ln_told q.2 2] = dgl s [ln_told q'.2 0, ln_told q'.2 1, ln_told q'.2 2]
          rw [e]
      · have e : q.2 = q'.2 := e
        have er := (ripe_eq (hardy_eq hl) (hti q hq)).1
        show dgl s [tr_told q.2 0, tr_told q.2 1, tr_told q.2 2, tr_told q.2 3, tr_told q.2 4, tr_told q.2 5, tr_told q.2 6, tr_told q.2 7, tr_told q.2 8, tr_told q.2 9, tr_told q.2 10, tr_told q.2 11, rbV ln 30 q.2] = dgl s [tr_told q'.2 0, tr_told q'.2 1, tr_told q'.2 2, tr_told q'.2 3, tr_told q'.2 4, tr_told q'.2 5, tr_told q'.2 6, tr_told q'.2 7, tr_told q'.2 8, tr_told q'.2 9, tr_told q'.2 10, tr_told q'.2 11, mrV ml 30 q'.2]
        rw [er, e]
    · have e : q.2.2.2 = q'.2.2.2 := e
      have eb := btQ_eqM (n := 8) (l := l0) (hoi q hq) (by decide)
      show (if q.2.2.2 9 = 1 then dgA (dlL s q.2.2.2) (btQ q.2.2.2 8 l0).toInt64 else dlL s q.2.2.2) = (if q'.2.2.2 9 = 1 then dgA (dlL s q'.2.2.2) (btMQ q'.2.2.2 8 l0).toInt64 else dlL s q'.2.2.2)
      rw [eb, e]
  · have e : q.2.2 = q'.2.2 := e
    show dgl s [sk_told q.2.2 0, sk_told q.2.2 1, sk_told q.2.2 2, sk_told q.2.2 3, sk_told q.2.2 4, sk_told q.2.2 5, sk_told q.2.2 6, sk_told q.2.2 7, sk_told q.2.2 8, sk_told q.2.2 9] = dgl s [sk_told q'.2.2 0, sk_told q'.2.2 1, sk_told q'.2.2 2, sk_told q'.2.2 3, sk_told q'.2.2 4, sk_told q'.2.2 5, sk_told q'.2.2 6, sk_told q'.2.2 7, sk_told q'.2.2 8, sk_told q'.2.2 9]
    rw [e]
/-! the mean -/
theorem mean_eq {sk : PlT} {ms : MpT} (h : row2 sk = row2 ms) : mg_val (mapA mg_f (0, 0) sk).1 = mm_val (mapA mm_f (0, 0) ms).1 := by
  have hr : (mapA mg_f (0, 0) sk).1.1 = (mapA mm_f (0, 0) ms).1.2 ∧ (mapA mg_f (0, 0) sk).1.2 = (mapA mm_f (0, 0) ms).1.1 :=
    mapA_rel (R := fun a b : Int32 × Int32 => a.1 = b.2 ∧ a.2 = b.1) (r := fun q : Nat × Nat × Row => q.2.2) (r' := fun q : Nat × Nat × Row => q.2.2) h (fun q _ q' _ e s s' hz => by
      have e : q.2.2 = q'.2.2 := e
      refine ⟨?_, ?_⟩
      · show s.1 + (f_X12_grade q.2.2).1 * q.2.2 0 = s'.2 + q'.2.2 0 * (f_X12_grade q'.2.2).1
        rw [hz.1, e, Int32.mul_comm]
      · show s.2 + q.2.2 0 = s'.1 + q'.2.2 0
        rw [hz.2, e]) ⟨rfl, rfl⟩
  unfold mg_val mm_val
  rw [hr.1, hr.2]
/-! what the checksum costs -/
theorem loI_w {v : Row} (h : loI v) : ∃ (ln sz g d s : Nat) (lf : Lf), loN v ln sz lf ∧ lfLe lf (g, d, s) ∧ lWt v = g + 2 * d + 2 * s := by
  obtain ⟨ln, sz, g, d, s, lf, h1, h3, h4, h5, h6, h7⟩ := h
  refine ⟨ln, sz, g, d, s, lf, h1, h6, ?_⟩
  unfold lWt
  rw [h3, h4, h5, c_nI (by omega), c_nI (by omega), c_nI (by omega)]
theorem bq_bd {v : Row} {l : List FvT} {n N : Nat} (h : loI v) (hl : ∀ x ∈ l, okF x) (hlen : l.length ≤ 40) (hn : n ≤ N) : 9 * btQC v n l ≤ 360 * (52 + 5 * N) + 5 * ((N + 3) * 348 + 144 * lWt v) ∧ 9 * btQS v n l ≤ 360 * (332 + 55 * N) + 19 * ((N + 3) * 348 + 144 * lWt v) := by
  obtain ⟨ln, sz, g, d, s, lf, h1, h2, h3⟩ := loI_w h
  rw [(btQ_eq h1).2.1, (btQ_eq h1).2.2, h3]
  exact btC_bd h1.1 h1.2.1 h1.2.2.1 hl h2 hlen hn
theorem dl_bd {l0 : List FvT} (hl : ∀ x ∈ l0, okF x) (hlen : l0.length ≤ 40) : ∀ {lo : LoT}, (∀ q ∈ lo, loI q.2.2.2) → 9 * dlC l0 lo ≤ 81 * lo.length + 52260 * sumB lSt (row3 lo) + 720 * sumB lWt (row3 lo) ∧ 9 * dlS l0 lo ≤ 729 * lo.length + 350652 * sumB lSt (row3 lo) + 2736 * sumB lWt (row3 lo)
  | [], _ => ⟨Nat.le_refl _, Nat.le_refl _⟩
  | q :: lo, h => by
    have ih := dl_bd hl hlen (lo := lo) (fun x hx => h x (List.mem_cons_of_mem _ hx))
    have hb := bq_bd (n := 8) (N := 8) (h q List.mem_cons_self) hl hlen (Nat.le_refl _)
    have e2 : row3 (q :: lo) = q.2.2.2 :: row3 lo := rfl
    have e3 : dlC l0 (q :: lo) = 9 + (if q.2.2.2 9 = 1 then btQC q.2.2.2 8 l0 else 0) + dlC l0 lo := rfl
    have e4 : dlS l0 (q :: lo) = 81 + (if q.2.2.2 9 = 1 then btQS q.2.2.2 8 l0 else 0) + dlS l0 lo := rfl
    rw [e2, e3, e4, sumB_cons, sumB_cons, List.length_cons]
    have e5 : lSt q.2.2.2 = if q.2.2.2 9 = 1 then 1 else 0 := rfl
    rw [e5]
    by_cases c : q.2.2.2 9 = 1
    · rw [if_pos c, if_pos c, if_pos c]; omega
    · rw [if_neg c, if_neg c, if_neg c]; omega
/-! mounting, eggs, reeling -/
theorem fill_eq (a b c x y : Int32) : f_X10_fill (f_X10_init a b c) x y = mo_mount (f_X11_init a b c) x y := rfl
theorem egg_eq (v : Row) (b : Int32) : eg_line v b = me_line v b ∧ eg_taint v b = me_taint v b := ⟨rfl, rfl⟩
theorem empty_new (v : Row) : f_X3_empty v = tr_new := rfl
theorem mt_new_eq : mt_new = tr_new := rfl
theorem loI_mount {v w : Row} {W S I E M G k : Nat} (h : trL v W S I E M G) (hk : k < 4) (h2 : v 2 = nI k) (hl : lnI w) : loI (f_X10_fill (f_X10_init (v 2) (w 0) (w 1)) (v 0) (v 1)) ∧ lWt (f_X10_fill (f_X10_init (v 2) (w 0) (w 1)) (v 0) (v 1)) ≤ W ∧ lSt (f_X10_fill (f_X10_init (v 2) (w 0) (w 1)) (v 0) (v 1)) = 0 := by
  obtain ⟨h0, h1, h3, h4, h5, h8, b1, b2, b3, b4, b5, b6, b7, b8, b9, b10⟩ := h
  obtain ⟨sz, T, g0, g1, g2, g3, g4⟩ := hl
  have e10 : (10 : Int32) = nI 10 := by decide
  have e2 : (2 : Int32) = nI 2 := by decide
  have ea : v 0 - v 1 = nI (W - S) := by rw [h0, h1, pk_sub b3]
  have ed : (v 0 - v 1) / 10 / 2 = nI ((W - S) / 10 / 2) := by rw [ea, e10, pk_div (by omega) (by decide) (by decide), e2, pk_div (by omega) (by decide) (by decide)]
  have eg : (v 0 - v 1) - (2 * ((v 0 - v 1) / 10 / 2)) = nI ((W - S) - 2 * ((W - S) / 10 / 2)) := by rw [ed, ea, e2, pk_mul, pk_sub (by omega)]
  have es : v 1 / 2 = nI (S / 2) := by rw [h1, e2, pk_div (by omega) (by decide) (by decide)]
  refine ⟨⟨k, sz, (W - S) - 2 * ((W - S) / 10 / 2), (W - S) / 10 / 2, S / 2, ((W - S) - 2 * ((W - S) / 10 / 2), (W - S) / 10 / 2, S / 2), ⟨hk, g1, g2, by unfold lfN; dsimp only; omega, h2, g0, eg, ed, es⟩, eg, ed, es, lfLe_rf _, by omega⟩, ?_, if_neg (show ¬ (0 : Int32) = 1 by decide)⟩
  show cN ((v 0 - v 1) - (2 * ((v 0 - v 1) / 10 / 2))) + 2 * cN ((v 0 - v 1) / 10 / 2) + 2 * cN (v 1 / 2) ≤ W
  rw [eg, ed, es, c_nI (by omega), c_nI (by omega), c_nI (by omega)]
  omega
theorem lnI_egg {v : Row} {b : Int32} (h : loI v) (h0 : ¬ (f_X10_all v).1 ≤ 0) : lnI (eg_line v b) := by
  obtain ⟨ln, sz, g, d, s, lf, h1, h3, h4, h5, h6, h7⟩ := h
  obtain ⟨n1, n2, n3, n4, e0, e1, e6, e7, e8⟩ := h1
  have ea : (f_X10_all v).1 = nI (g + d + s) := by
    show v 3 + v 4 + v 5 = _
    rw [h3, h4, h5, nI_add, nI_add]
  have hp : 0 < g + d + s := by
    rcases Nat.eq_zero_or_pos (g + d + s) with z | z
    · exact absurd (by rw [ea, z, nI_0]; decide) h0
    · exact z
  have e10 : (10 : Int32) = nI 10 := by decide
  have eu : f_X1_up (10 * v 5) (f_X10_all v).1 = nI ((10 * s + (g + d + s) - 1) / (g + d + s)) := by rw [ea, h5, e10, pk_mul, up_n (by omega) hp (by omega)]
  have hU : (10 * s + (g + d + s) - 1) / (g + d + s) ≤ 10 := by
    refine Nat.le_of_lt_succ ((Nat.div_lt_iff_lt_mul hp).mpr ?_)
    omega
  have hT : ∃ T, T ≤ 10 ∧ eg_taint v b = nI T := by
    unfold eg_taint
    rw [eu]
    generalize (10 * s + (g + d + s) - 1) / (g + d + s) = U at hU
    by_cases c1 : bz b = 0
    · exact ⟨U, hU, by rw [if_pos c1]⟩
    · rw [if_neg c1]
      by_cases c2 : 3 < nI U
      · have e2 : (2 : Int32) = nI 2 := by decide
        exact ⟨U / 2, by omega, by rw [if_pos c2, e2, pk_div (by omega) (by decide) (by decide)]⟩
      · exact ⟨0, by omega, by rw [if_neg c2, nI_0]⟩
  obtain ⟨T, hT, eT⟩ := hT
  exact ⟨sz, T, e1, n2, n3, eT, hT⟩
/-- a lot behind a reeling -/
theorem loI_rl {v : Row} {ln sz : Nat} {lf lf1 : Lf} (h : loI v) (h1 : loN v ln sz lf) (h2 : lfLe lf1 lf) : loI (lo_rl v lf1) ∧ lWt (lo_rl v lf1) = lWt v ∧ lSt (lo_rl v lf1) = lSt v := by
  obtain ⟨ln', sz', g, d, s, lf', k1, k3, k4, k5, k6, k7⟩ := h
  obtain ⟨a1, a2, a3⟩ := loN_eq h1
  obtain ⟨b1, b2, b3⟩ := loN_eq k1
  cases a1.symm.trans b1
  cases a2.symm.trans b2
  cases a3.symm.trans b3
  obtain ⟨n1, n2, n3, n4, e0, e1, e6, e7, e8⟩ := h1
  have hN : lfN lf1 < 2 ^ 20 := by
    unfold lfN at n4 ⊢
    obtain ⟨l1, l2, l3⟩ := h2
    omega
  exact ⟨⟨ln, sz, g, d, s, lf1, ⟨n1, n2, n3, hN, e0, e1, rfl, rfl, rfl⟩, k3, k4, k5, lfLe_tr h2 k6, k7⟩, rfl, rfl⟩
