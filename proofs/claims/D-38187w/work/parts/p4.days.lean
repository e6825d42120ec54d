/-! DAYS ON BOTH SIDES; what would be with a tray -/
set_option maxRecDepth 100000
theorem tMes_bd {v : Nat → Int32} {W S I E M G : Nat} (h : trL v W S I E M G) (hr : bz (v 10) = 0) : 1 ≤ tMes v ∧ tMes v ≤ 25 := by
  have hv := (tp_n h hr).2.2
  obtain ⟨h0, h1, h3, h4, h5, h8, b1, b2, b3, b4, b5, b6, b7, b8, b9, b10⟩ := h
  rw [hv]
  by_cases hM : M = 0
  · rw [if_pos hM, if_pos hM]; omega
  · rw [if_neg hM, if_neg hM]; omega
theorem new0 : tr_new 0 = 0 := by decide +kernel
theorem new10 : bz (tr_new 10) = 0 := by decide +kernel
theorem new_le : tr_new 0 ≤ 0 := by decide +kernel
theorem lv_pos {v : Nat → Int32} {W S I E M G : Nat} (h : trL v W S I E M G) : ¬ v 0 ≤ 0 ∧ ¬ v 0 = 0 := by
  obtain ⟨h0, h1, h3, h4, h5, h8, b1, b2, -⟩ := h
  rw [h0]
  exact ⟨nI_nle (by omega) (by omega), nI_ne0 (by omega) (by omega)⟩
theorem rb_mr {ln ml : TrT} (hl : ∀ i, ln_hardy ln i = ln_hardy ml i) : ∀ (n : Nat) (v v' : Nat → Int32) (W S I E M G G' d : Nat), trL v W S I E M G → bz (v 10) = 0 → (∀ i, i < 11 → i ≠ 8 → i ≠ 9 → v' i = v i) → v' 9 = 0 → v' 8 = nI G' → G' < 2 ^ 20 → tMes v < n → ∃ z, rbW ln n (d + 1) v = some z ∧ mrW ml n d v' = some z
  | 0, _, _, _, _, _, _, _, _, _, _, _, _, _, _, _, _, h => absurd h (Nat.not_lt_zero _)
  | n + 1, v, v', W, S, I, E, M, G, G', d, ht, hr, ha, h9, h8', hG', hn => by
    have hmes := tMes_bd ht hr
    have hpos := lv_pos ht
    have ht0 := ht
    obtain ⟨h0, h1, h3, h4, h5, h8, b1, b2, b3, b4, b5, b6, b7, b8, b9, b10⟩ := ht
    have hb := wi_bd b2 b5
    have hneed : (f_X3_need v).1 = nI ((W * I + 3) / 4) := need_n h0 h3 b2 b5
    have ta : trL (rb_fed v) W S I E M ((W * I + 3) / 4) := ⟨h0, h1, h3, h4, h5, hneed, b1, b2, b3, b4, b5, b6, b7, b8, b9, by omega⟩
    obtain ⟨dd, w, w', e1, e2, hc⟩ := tr_day (x := ln_hardy ln (v 2)) ta hr
    have erb : rb_day ln v = w := by unfold rb_day; rw [e1]
    -- the model's tray, fed
    have hal : alk (rb_fed v) (mr_fed v') := by
      have a5 : v' 5 = v 5 := ha 5 (by decide) (by decide) (by decide)
      intro i hi hi8
      by_cases c5 : v 5 = 0
      · have kA : rb_fed v = vec [v 0, v 1, v 2, v 3, v 4, v 5, v 6, 0, (f_X3_need v).1, 0, v 10] := by unfold rb_fed; rw [if_pos c5]
        have kB : mr_fed v' = vec [v 0, v 1, v 2, v 3, v 4, v 5, v 6, 0, imax (v' 8) (f_X7_need v').1, 0, v 10] := by
          unfold mr_fed
          rw [if_pos (a5.trans c5), ha 0 (by decide) (by decide) (by decide), ha 1 (by decide) (by decide) (by decide), ha 2 (by decide) (by decide) (by decide), ha 3 (by decide) (by decide) (by decide), ha 4 (by decide) (by decide) (by decide), a5, ha 6 (by decide) (by decide) (by decide), ha 10 (by decide) (by decide) (by decide), h9]
        rw [kA, kB]
        exact alk_vec i hi hi8
      · unfold mr_fed rb_fed
        rw [if_neg c5, if_neg (fun z => c5 (a5.symm.trans z))]
        match i with
        | 0 => exact (ha 0 (by decide) (by decide) (by decide)).symm
        | 1 => exact (ha 1 (by decide) (by decide) (by decide)).symm
        | 2 => exact (ha 2 (by decide) (by decide) (by decide)).symm
        | 3 => exact (ha 3 (by decide) (by decide) (by decide)).symm
        | 4 => exact (ha 4 (by decide) (by decide) (by decide)).symm
        | 5 => exact a5.symm
        | 6 => exact (ha 6 (by decide) (by decide) (by decide)).symm
        | 7 => exact (ha 7 (by decide) (by decide) (by decide)).symm
        | 8 => exact absurd rfl hi8
        | 9 => exact h9.symm
        | 10 => exact (ha 10 (by decide) (by decide) (by decide)).symm
        | i + 11 => omega
    have eneed : f_X1_up (rb_fed v 0 * rb_fed v 3) 4 = nI ((W * I + 3) / 4) := hneed
    have hda := day_alk (x := ln_hardy ln (v 2)) hal (fun _ => by
      rw [eneed]
      show ¬ (f_X3_need v).1 < _
      rw [hneed]; exact Int32.lt_irrefl) (fun z => by
      have hM : v 5 = 0 := by
        have : ¬ 0 < M := fun z2 => z (by show (0 : Int32) < v 5; rw [h5, ← nI_0]; exact nI_lt z2 (by omega))
        rw [h5, show M = 0 by omega, nI_0]
      have a5 : v' 5 = 0 := (ha 5 (by decide) (by decide) (by decide)).trans hM
      have e8 : mr_fed v' 8 = imax (v' 8) (f_X7_need v').1 := by unfold mr_fed; rw [if_pos a5]; rfl
      have en' : (f_X7_need v').1 = nI ((W * I + 3) / 4) := by
        show f_X4_up (v' 0 * v' 3) 4 = _
        rw [up_4, ha 0 (by decide) (by decide) (by decide), ha 3 (by decide) (by decide) (by decide)]
        exact need_n h0 h3 b2 b5
      rw [eneed, e8, en', h8', nI_max (by omega) (by omega)]
      exact nI_nlt (Nat.le_max_right _ _) (by omega))
    have emr : mr_day ml v' = (f_X7_day (mr_fed v') (ln_hardy ln (v 2))).2 := by
      unfold mr_day
      rw [ha 2 (by decide) (by decide) (by decide), hl]
    have hr' : bz (v' 10) = 0 := by rw [ha 10 (by decide) (by decide) (by decide)]; exact hr
    have u1 : rbW ln (n + 1) (d + 1) v = if bz (rb_day ln v 10) = 0 then rbW ln n (d + 1 + 1) (rb_day ln v) else some (nI (d + 1)) := if_neg hpos.1
    have u2 : mrW ml (n + 1) d v' = if mr_day ml v' 0 = 0 then some (-1) else mrW ml n (d + 1) (mr_day ml v') := if_pos hr'
    rw [u1, u2, erb, emr]
    rw [e2] at hda
    obtain ⟨n1, hn1⟩ : ∃ k, n = k + 1 := ⟨n - 1, by omega⟩
    rcases hc with ⟨c1, c2⟩ | ⟨c1, c2, c3, c9, W', S', I', E', M', hW, t, p1, p2, p3, p5⟩
    · have hz : (f_X7_day (mr_fed v') (ln_hardy ln (v 2))).2 0 = 0 := by
        rcases hda with z | z
        · rw [← z]; exact c2
        · exact z.2
      rw [if_pos hz, c1, if_pos new10, hn1]
      exact ⟨-1, if_pos new_le, rfl⟩
    · subst c1
      have hz : f_X7_day (mr_fed v') (ln_hardy ln (v 2)) = (dd, w') := by
        rcases hda with z | z
        · exact z.symm
        · exact absurd z.1 c2
      rw [hz, if_neg c2]
      by_cases c10 : bz (w' 10) = 0
      · rw [if_pos c10]
        have hm : tMes w' + 1 = tMes v := p5 (Or.inr (Nat.le_refl _))
        exact rb_mr hl n w' w' W' S' I' E' M' 0 0 (d + 1) t c10 (fun _ _ _ _ => rfl) c9 t.2.2.2.2.2.1 (by decide) (by omega)
      · rw [if_neg c10, hn1]
        exact ⟨_, rfl, if_neg c10⟩
/-- a tray: void, or with worms -/
def trI (v : Nat → Int32) : Prop := v = tr_new ∨ ∃ W S I E M G, trL v W S I E M G ∧ ∃ k, k < 4 ∧ v 2 = nI k
theorem ripe_eq {ln ml : TrT} (hl : ∀ i, ln_hardy ln i = ln_hardy ml i) {v : Nat → Int32} (h : trI v) : rbV ln 30 v = mrV ml 30 v ∧ (bz (v 10) = 0 → (rbW ln 30 1 v).isSome = true) ∧ (¬ v 0 = 0 → (mrW ml 30 0 (mr_wet v)).isSome = true) := by
  rcases h with rfl | ⟨W, S, I, E, M, G, t, -⟩
  · have e1 : rbW ln 30 1 tr_new = some (-1) := if_pos new_le
    refine ⟨?_, fun _ => by rw [e1]; rfl, fun z => absurd new0 z⟩
    unfold rbV mrV
    rw [if_pos new10, if_pos new0, e1]; rfl
  · have hpos := lv_pos t
    by_cases hr : bz (v 10) = 0
    · have hm := tMes_bd t hr
      have t2 := t
      obtain ⟨h0, h1, h3, h4, h5, h8, b1, b2, b3, b4, b5, b6, b7, b8, b9, b10⟩ := t2
      obtain ⟨z, z1, z2⟩ := rb_mr hl 30 v (mr_wet v) W S I E M G G 0 t hr (fun i hi h8 h9 => by
        match i with
        | 0 => rfl
        | 1 => rfl
        | 2 => rfl
        | 3 => rfl
        | 4 => rfl
        | 5 => rfl
        | 6 => rfl
        | 7 => rfl
        | 8 => exact absurd rfl h8
        | 9 => exact absurd rfl h9
        | 10 => rfl
        | i + 11 => omega) rfl h8 b10 (by omega)
      refine ⟨?_, fun _ => by rw [show (1 : Nat) = 0 + 1 from rfl, z1]; rfl, fun _ => by rw [z2]; rfl⟩
      unfold rbV mrV
      rw [if_pos hr, if_neg hpos.2, z2, show (1 : Nat) = 0 + 1 from rfl, z1]
    · have e2 : mrW ml 30 0 (mr_wet v) = some (nI 0) := if_neg hr
      refine ⟨?_, fun z => absurd z hr, fun _ => by rw [e2]; rfl⟩
      unfold rbV mrV
      rw [if_neg hr, if_neg hpos.2, e2]
      exact nI_0.symm
/-! ## a day of all the trays -/
theorem new_eq : mt_new = tr_new := rfl
theorem td_1 {ln ml : TrT} (hl : ∀ i, ln_hardy ln i = ln_hardy ml i) {q : Nat × (Nat → Int32)} {a b : Int32} (h : trI q.2) : ∃ d, (td_f ln a q).1 = a + d ∧ (mtd_f ml b q.2).1 = b + d ∧ (td_f ln a q).2.2 = (mtd_f ml b q.2).2 ∧ trI (td_f ln a q).2.2 := by
  unfold td_f mtd_f
  rcases h with h | ⟨W, S, I, E, M, G, t, k, hk, h2⟩
  · have e : q.2 0 ≤ 0 := by rw [h]; exact new_le
    rw [if_pos e, if_pos e]
    exact ⟨0, (Int32.add_zero _).symm, (Int32.add_zero _).symm, rfl, Or.inl h⟩
  · have hpos := lv_pos t
    rw [if_neg hpos.1, if_neg hpos.1]
    by_cases hr : bz (q.2 10) = 0
    · rw [if_pos hr, if_pos hr, ← hl]
      obtain ⟨d, w, w', e1, e2, hc⟩ := tr_day (x := ln_hardy ln (q.2 2)) t hr
      rw [e1, e2]
      dsimp only
      rcases hc with ⟨c1, c2⟩ | ⟨c1, c2, c3, c9, W', S', I', E', M', hW, t', -⟩
      · rw [if_pos c2]
        exact ⟨d, rfl, rfl, c1, Or.inl c1⟩
      · subst c1
        rw [if_neg c2]
        exact ⟨d, rfl, rfl, rfl, Or.inr ⟨W', S', I', E', M', 0, t', k, hk, c3.trans h2⟩⟩
    · rw [if_neg hr, if_neg hr]
      exact ⟨0, (Int32.add_zero _).symm, (Int32.add_zero _).symm, rfl, Or.inr ⟨W, S, I, E, M, G, t, k, hk, h2⟩⟩
theorem td_all {ln ml : TrT} (hl : ∀ i, ln_hardy ln i = ln_hardy ml i) : ∀ {tr : TrT} {a b : Int32}, (∀ q ∈ tr, trI q.2) → ∃ d, (mapA (td_f ln) a tr).1 = a + d ∧ (mapA (mtd_f ml) b (rows tr)).1 = b + d ∧ rows (mapA (td_f ln) a tr).2 = (mapA (mtd_f ml) b (rows tr)).2 ∧ ∀ q ∈ (mapA (td_f ln) a tr).2, trI q.2
  | [], a, b, _ => ⟨0, (Int32.add_zero _).symm, (Int32.add_zero _).symm, rfl, fun _ h => absurd h List.not_mem_nil⟩
  | q :: tr, a, b, h => by
    obtain ⟨d, e1, e2, e3, e4⟩ := td_1 hl (a := a) (b := b) (h q List.mem_cons_self)
    obtain ⟨d', f1, f2, f3, f4⟩ := td_all hl (tr := tr) (a := (td_f ln a q).1) (b := (mtd_f ml b q.2).1) (fun x hx => h x (List.mem_cons_of_mem _ hx))
    refine ⟨d + d', ?_, ?_, ?_, ?_⟩
    · show (mapA (td_f ln) (td_f ln a q).1 tr).1 = _
      rw [f1, e1, Int32.add_assoc]
    · show (mapA (mtd_f ml) (mtd_f ml b q.2).1 (rows tr)).1 = _
      rw [f2, e2, Int32.add_assoc]
    · show (td_f ln a q).2.2 :: rows (mapA (td_f ln) (td_f ln a q).1 tr).2 = (mtd_f ml b q.2).2 :: (mapA (mtd_f ml) (mtd_f ml b q.2).1 (rows tr)).2
      rw [e3, f3]
    · intro x hx
      rcases List.mem_cons.mp hx with rfl | hx
      · exact e4
      · exact f4 x hx
/-- the rows of plots, of lots -/
def row2 {α β γ : Type} (l : List (α × β × γ)) : List γ := l.map (fun q => q.2.2)
def row3 {α β γ δ : Type} (l : List (α × β × γ × δ)) : List δ := l.map (fun q => q.2.2.2)
theorem pd_rows {y : Int32} : ∀ {pl : PlT} {mp : MpT}, row2 pl = row2 mp → row2 (mapA (pd_f y) () pl).2 = row2 (mapA (mpd_f y) () mp).2
  | [], [], _ => rfl
  | [], _ :: _, h => by cases h
  | _ :: _, [], h => by cases h
  | p :: pl, m :: mp, h => by
    have h1 : p.2.2 = m.2.2 := (List.cons.inj h).1
    have h2 : row2 pl = row2 mp := (List.cons.inj h).2
    show f_X8_pass p.2.2 y :: row2 (mapA (pd_f y) () pl).2 = f_X9_day m.2.2 y :: row2 (mapA (mpd_f y) () mp).2
    rw [pd_rows h2, h1]; rfl
theorem ld_rows : ∀ {lo : LoT} {mo : MoT}, row3 lo = row3 mo → row3 (mapA ld_f () lo).2 = row3 (mapA mld_f () mo).2
  | [], [], _ => rfl
  | [], _ :: _, h => by cases h
  | _ :: _, [], h => by cases h
  | p :: lo, m :: mo, h => by
    have h1 : p.2.2.2 = m.2.2.2 := (List.cons.inj h).1
    have h2 : row3 lo = row3 mo := (List.cons.inj h).2
    show f_X10_pass p.2.2.2 :: row3 (mapA ld_f () lo).2 = f_X11_day m.2.2.2 :: row3 (mapA mld_f () mo).2
    rw [ld_rows h2, h1]; rfl
/-- the numbers alike but for the wetness -/
def scE (a b : Nat → Int32) : Prop := ∀ i, i < 7 → i ≠ 1 → a i = b i
theorem sc_days {sc sc' : Nat → Int32} {b m : Int32} (h : scE sc sc') : scE (sc_day sc b m) (msc_day sc' (sc' 4 + m)) := by
  have e0 := h 0 (by decide) (by decide); have e2 := h 2 (by decide) (by decide); have e3 := h 3 (by decide) (by decide); have e4 := h 4 (by decide) (by decide); have e5 := h 5 (by decide) (by decide); have e6 := h 6 (by decide) (by decide)
  intro i h7 hi
  unfold sc_day msc_day
  rw [e0, e2, e3, e4, e5, e6]
  match i with
  | 0 => rfl
  | 1 => exact absurd rfl hi
  | 2 => rfl
  | 3 => rfl
  | 4 => rfl
  | 5 => rfl
  | 6 => rfl
  | i + 7 => omega
/-- both sides' worlds while days go by; D0: the dead before -/
def dyR (D0 : Int32) (z : DyS) (z' : MdS) : Prop := scE z.1 z'.1 ∧ row2 z.2.1 = row2 z'.2.1 ∧ rows z.2.2.1 = z'.2.2.1 ∧ row3 z.2.2.2.1 = row3 z'.2.2.2 ∧ z'.1 4 = D0 + z.2.2.2.2 ∧ ∀ q ∈ z.2.2.1, trI q.2
theorem dyR_S {y b D0 : Int32} {ln ml : TrT} (hl : ∀ i, ln_hardy ln i = ln_hardy ml i) {z : DyS} {z' : MdS} (h : dyR D0 z z') : dyR D0 (dyS y b ln z) (mdS y ml z') := by
  obtain ⟨h1, h2, h3, h4, h5, h6⟩ := h
  obtain ⟨d, e1, e2, e3, e4⟩ := td_all hl (a := 0) (b := z'.1 4) h6
  rw [h3] at e2 e3
  have e1' : (mapA (td_f ln) 0 z.2.2.1).1 = d := by rw [e1, Int32.zero_add]
  refine ⟨?_, pd_rows h2, e3, ld_rows h4, ?_, e4⟩
  · show scE (sc_day z.1 b (mapA (td_f ln) 0 z.2.2.1).1) (msc_day z'.1 (mapA (mtd_f ml) (z'.1 4) z'.2.2.1).1)
    rw [e1', e2]
    exact sc_days h1
  · show (mapA (mtd_f ml) (z'.1 4) z'.2.2.1).1 = D0 + (z.2.2.2.2 + (mapA (td_f ln) 0 z.2.2.1).1)
    rw [e2, e1', h5, Int32.add_assoc]
theorem dyR_N {y b D0 : Int32} {ln ml : TrT} (hl : ∀ i, ln_hardy ln i = ln_hardy ml i) : ∀ (n : Nat) {z : DyS} {z' : MdS}, dyR D0 z z' → dyR D0 (dyN y b ln n z) (mdN y ml n z')
  | 0, _, _, h => h
  | n + 1, _, _, h => dyR_N hl n (dyR_S hl h)
theorem dyN_wet {y b : Int32} {ln : TrT} : ∀ (n : Nat) (z : DyS), (dyN y b ln (n + 1) z).1 1 = b
  | 0, _ => rfl
  | n + 1, z => dyN_wet n (dyS y b ln z)
/-- lines alike have the same hardiness -/
theorem hardy_eq {ln ml : TrT} (h : rows ln = rows ml) (i : Int32) : ln_hardy ln i = ln_hardy ml i := by
  have e : (ln[i.toNatClampNeg]?).map (fun q => q.2) = (ml[i.toNatClampNeg]?).map (fun q => q.2) := by
    have := congrArg (fun l => l[i.toNatClampNeg]?) h
    unfold rows at this
    rw [List.getElem?_map, List.getElem?_map] at this
    exact this
  unfold ln_hardy
  cases h1 : ln[i.toNatClampNeg]? with
  | none =>
    rw [h1] at e
    cases h2 : ml[i.toNatClampNeg]? with
    | none => rfl
    | some q => rw [h2] at e; cases e
  | some p =>
    rw [h1] at e
    cases h2 : ml[i.toNatClampNeg]? with
    | none => rw [h2] at e; cases e
    | some q =>
      rw [h2] at e
      have e2 : p.2 = q.2 := Option.some.inj e
      show p.2 1 = q.2 1
      rw [e2]
