/-! 91.tlength (printed by gen/silk.py) -/
set_option maxRecDepth 100000
set_option maxHeartbeats 4000000 in
theorem wl_tj {p : Program} {l : Launch} {e : Env} {s : State} {m : MethodId} {args : Array Value} {below : List Frame} {meth : Method} {c : Code} {A : Nat → Prop} {Q : State → Prop} {D : va_G} {dT g : Nat → Nat} {z0 mc ms : Nat} (hf : CallFix p m c cX15_length 9 s args lw_all "SilkRowModel$Trial") (hK : KK D dT g z0 s s.heap) (hA : ∀ q, s.heap.size ≤ q → A q) (hAz : ∀ q, A q → zA z0 q) (hst : l.stackTraces = false) {t tm tl b fa : Nat} {kc ks : Nat} {t2 : T2T} {as : List Nat} {u : Int32} {st : Option (Nat × Nat)} {mf : MfT} {h0 h1 h2 ln sz : Nat} {x2 x9 x10 x3 x4 x5 : Int32} {lf0 : Lf} {T : Nat} {RES : Lf × List FvT} {y4 y5 y6 y7 : Int32} (hT : tabOK t2 as) (hln : ln < 4) (hsz1 : 2 ≤ sz) (hsz2 : sz ≤ 6) (hT40 : T ≤ 40) (hmc : kc ≤ mc) (hms : ks ≤ ms) (K51 : (∀ (lf : Lf) (fl : List FvT) (t3 : T3T) (ls : Array Slot) (H : Heap) (locs : List Loc), RES = (lf, fl) → Tab (tval t3) fl → ads t3 = as → (∀ f ∈ fl, okF f) → fl.length ≤ 40 → lv_has ls 9 [(8, .int (nI (sumF fl))), (7, .int y7), (6, .int y6), (5, .int y5), (4, .int y4), (3, .int (nI T)), (2, .ref h0), (1, .ref b), (0, .ref t)] → Wd D A s.heap H locs [[ob t 14 [.ref tm, .ref tl]], [(tm, aR dT 7 3 (fun i => (ads t2)[i]?))], (t2.flatMap (m2E dT)), (t3.flatMap (m3E dT)), [(tl, aI dT [(nI lf.1), (nI lf.2.1), (nI lf.2.2)])], [ob b 4 [.ref fa]], ((ob fa 15 [.int u, .ref (al_d g st), .int (nI (ads mf).length)]) :: (al_t dT st (ads mf))), (mf.flatMap (mfE dT)), [ob h0 10 [.int (nI ln), .int (nI sz), .int x2, .ref h1, .ref h2, .int x9, .int x10], (h1, aI dT [x3, x4, x5]), (h2, aI dT [(nI lf0.1), (nI lf0.2.1), (nI lf0.2.2)])]] → W p l e ({ frames := 9, cells := mc, slots := ms, locals := 240 }) s m args below meth c H locs kc ks Q (F0 m 51 ls []))) : ∀ (n : Nat) (lf : Lf) (fl : List FvT) (t3 : T3T) (ls : Array Slot) (H : Heap) (locs : List Loc), lfN lf = n → lfN lf < 2 ^ 20 → jn T ln sz lf fl = RES → Tab (tval t3) fl → ads t3 = as → (∀ f ∈ fl, okF f) → fl.length ≤ 40 → lv_has ls 9 [(8, .int (nI (sumF fl))), (7, .int y7), (6, .int y6), (5, .int y5), (4, .int y4), (3, .int (nI T)), (2, .ref h0), (1, .ref b), (0, .ref t)] → Wd D A s.heap H locs [[ob t 14 [.ref tm, .ref tl]], [(tm, aR dT 7 3 (fun i => (ads t2)[i]?))], (t2.flatMap (m2E dT)), (t3.flatMap (m3E dT)), [(tl, aI dT [(nI lf.1), (nI lf.2.1), (nI lf.2.2)])], [ob b 4 [.ref fa]], ((ob fa 15 [.int u, .ref (al_d g st), .int (nI (ads mf).length)]) :: (al_t dT st (ads mf))), (mf.flatMap (mfE dT)), [ob h0 10 [.int (nI ln), .int (nI sz), .int x2, .ref h1, .ref h2, .int x9, .int x10], (h1, aI dT [x3, x4, x5]), (h2, aI dT [(nI lf0.1), (nI lf0.2.1), (nI lf0.2.2)])]] → W p l e ({ frames := 9, cells := mc, slots := ms, locals := 240 }) s m args below meth c H locs kc ks Q (F0 m 28 ls []) := by
  have hx := hf.1
  have hb := hf.2.1
  have hts := hf.2.2.2.2
  intro n
  induction n with
  | zero =>
    intro lf fl t3 ls H locs hn hlf hRES hTab hta hfl hlen hl hw
    have hw : Wd D A s.heap _ _ [[ob t 14 [.ref tm, .ref tl]], [(tm, aR dT 7 3 (fun i => (ads t2)[i]?))], (t2.flatMap (m2E dT)), (t3.flatMap (m3E dT)), [(tl, aI dT [(nI lf.1), (nI lf.2.1), (nI lf.2.2)])], [ob b 4 [.ref fa]], ((ob fa 15 [.int u, .ref (al_d g st), .int (nI (ads mf).length)]) :: (al_t dT st (ads mf))), (mf.flatMap (mfE dT)), [ob h0 10 [.int (nI ln), .int (nI sz), .int x2, .ref h1, .ref h2, .int x9, .int x10], (h1, aI dT [x3, x4, x5]), (h2, aI dT [(nI lf0.1), (nI lf0.2.1), (nI lf0.2.2)])]] := hw
    refine lv_iload hx hb dX15_length_28 (lv_at hl 0 rfl) ?_
    refine lv_iload_n hx hb dX15_length_30 rfl (lv_at hl 5 rfl) ?_
    refine lv_icmp_ge (tgt := 51) hx hb dX15_length_31 (by decide) (fun c_31 => ?_) (fun c_31 => ?_)
    · have hw : Wd D A s.heap _ _ [[ob t 14 [.ref tm, .ref tl]], [(tm, aR dT 7 3 (fun i => (ads t2)[i]?))], (t2.flatMap (m2E dT)), (t3.flatMap (m3E dT)), [(tl, aI dT [(nI lf.1), (nI lf.2.1), (nI lf.2.2)])], [ob b 4 [.ref fa]], ((ob fa 15 [.int u, .ref (al_d g st), .int (nI (ads mf).length)]) :: (al_t dT st (ads mf))), (mf.flatMap (mfE dT)), [ob h0 10 [.int (nI ln), .int (nI sz), .int x2, .ref h1, .ref h2, .int x9, .int x10], (h1, aI dT [x3, x4, x5]), (h2, aI dT [(nI lf0.1), (nI lf0.2.1), (nI lf0.2.2)])]] := Wd.take hw [0, 0, 0, 0, 0, 0, 0, 0, 0] rfl rfl
      have hl9 := lv_sub hl [0, 1, 2, 3, 4, 5, 6, 7, 8] rfl
      exact K51 lf fl t3 _ _ _ (by rw [← hRES, jn_stop ((nI_leI (by omega) (by have := (sum_bd fl hfl).2; omega)).mp c_31)]) hTab hta hfl hlen hl9 hw
    · refine lv_aload_n hx hb dX15_length_34 rfl (lv_at hl 8 rfl) ?_
      refine lv_aload_n hx hb dX15_length_35 rfl (lv_at hl 6 rfl) ?_
      have hT9 : tabOK t2 (ads t3) := by rw [hta]; exact hT
      have hk : lf.1 = 0 ∧ lf.2.1 = 0 ∧ lf.2.2 = 0 := by unfold lfN at hn; omega
      refine xc_V (rest := []) (As := [.ref h0]) hf hK hA hAz hst (hw.pick [0, 0, 0, 0, 0, 3] rfl rfl rfl) (k_X15_join_none l D dT g z0 t tm tl t2 t3 lf h0 h1 h2 ln sz x2 x9 x10 x3 x4 x5 lf0 hT9 hsz1 hsz2 hlf hk) (cwV 1 hts (lw_V q1649 q1651 qs41 q76 q1652) rfl rfl rfl (by decide +kernel) ⟨Nat.le_of_ble_eq_true rfl, Nat.le_of_ble_eq_true rfl⟩) (xr_rv hK hw 0 0 rfl rfl) rfl hl.1 rfl (Nat.le_of_ble_eq_true rfl) dX15_length_36 ⟨(by first | omega | (dsimp only; omega)), (by first | omega | (dsimp only; omega))⟩ (fun _ _ _ _ _ _ h => h.elim) (fun v9 LL1 H locs hp hw => ?_)
      obtain ⟨rfl, rfl⟩ := hp
      have hw : Wd D A s.heap _ _ [[ob t 14 [.ref tm, .ref tl]], [(tm, aR dT 7 3 (fun i => (ads t2)[i]?))], (t2.flatMap (m2E dT)), (t3.flatMap (m3E dT)), [(tl, aI dT [(nI lf.1), (nI lf.2.1), (nI lf.2.2)])], [ob h0 10 [.int (nI ln), .int (nI sz), .int x2, .ref h1, .ref h2, .int x9, .int x10], (h1, aI dT [x3, x4, x5]), (h2, aI dT [(nI lf0.1), (nI lf0.2.1), (nI lf0.2.2)])], [ob b 4 [.ref fa]], ((ob fa 15 [.int u, .ref (al_d g st), .int (nI (ads mf).length)]) :: (al_t dT st (ads mf))), (mf.flatMap (mfE dT))] := hw
      refine W.eq (g2 := F0 m 39 ls [.int 0]) rfl ?_
      refine lv_if_eq (tgt := 51) hx hb dX15_length_39 (by decide) (fun _ => ?_) (fun c9 => absurd c9 (by decide))
      have hw : Wd D A s.heap _ _ [[ob t 14 [.ref tm, .ref tl]], [(tm, aR dT 7 3 (fun i => (ads t2)[i]?))], (t2.flatMap (m2E dT)), (t3.flatMap (m3E dT)), [(tl, aI dT [(nI lf.1), (nI lf.2.1), (nI lf.2.2)])], [ob b 4 [.ref fa]], ((ob fa 15 [.int u, .ref (al_d g st), .int (nI (ads mf).length)]) :: (al_t dT st (ads mf))), (mf.flatMap (mfE dT)), [ob h0 10 [.int (nI ln), .int (nI sz), .int x2, .ref h1, .ref h2, .int x9, .int x10], (h1, aI dT [x3, x4, x5]), (h2, aI dT [(nI lf0.1), (nI lf0.2.1), (nI lf0.2.2)])]] := Wd.take hw [0, 0, 0, 0, 0, 1, 1, 1, 0] rfl rfl
      have hl9 := lv_sub hl [0, 1, 2, 3, 4, 5, 6, 7, 8] rfl
      exact K51 lf fl t3 _ _ _ (by rw [← hRES, jn_none (by unfold lfN; omega)]) hTab hta hfl hlen hl9 hw
  | succ n ih =>
    intro lf fl t3 ls H locs hn hlf hRES hTab hta hfl hlen hl hw
    have hw : Wd D A s.heap _ _ [[ob t 14 [.ref tm, .ref tl]], [(tm, aR dT 7 3 (fun i => (ads t2)[i]?))], (t2.flatMap (m2E dT)), (t3.flatMap (m3E dT)), [(tl, aI dT [(nI lf.1), (nI lf.2.1), (nI lf.2.2)])], [ob b 4 [.ref fa]], ((ob fa 15 [.int u, .ref (al_d g st), .int (nI (ads mf).length)]) :: (al_t dT st (ads mf))), (mf.flatMap (mfE dT)), [ob h0 10 [.int (nI ln), .int (nI sz), .int x2, .ref h1, .ref h2, .int x9, .int x10], (h1, aI dT [x3, x4, x5]), (h2, aI dT [(nI lf0.1), (nI lf0.2.1), (nI lf0.2.2)])]] := hw
    refine lv_iload hx hb dX15_length_28 (lv_at hl 0 rfl) ?_
    refine lv_iload_n hx hb dX15_length_30 rfl (lv_at hl 5 rfl) ?_
    refine lv_icmp_ge (tgt := 51) hx hb dX15_length_31 (by decide) (fun c_31 => ?_) (fun c_31 => ?_)
    · have hw : Wd D A s.heap _ _ [[ob t 14 [.ref tm, .ref tl]], [(tm, aR dT 7 3 (fun i => (ads t2)[i]?))], (t2.flatMap (m2E dT)), (t3.flatMap (m3E dT)), [(tl, aI dT [(nI lf.1), (nI lf.2.1), (nI lf.2.2)])], [ob b 4 [.ref fa]], ((ob fa 15 [.int u, .ref (al_d g st), .int (nI (ads mf).length)]) :: (al_t dT st (ads mf))), (mf.flatMap (mfE dT)), [ob h0 10 [.int (nI ln), .int (nI sz), .int x2, .ref h1, .ref h2, .int x9, .int x10], (h1, aI dT [x3, x4, x5]), (h2, aI dT [(nI lf0.1), (nI lf0.2.1), (nI lf0.2.2)])]] := Wd.take hw [0, 0, 0, 0, 0, 0, 0, 0, 0] rfl rfl
      have hl9 := lv_sub hl [0, 1, 2, 3, 4, 5, 6, 7, 8] rfl
      exact K51 lf fl t3 _ _ _ (by rw [← hRES, jn_stop ((nI_leI (by omega) (by have := (sum_bd fl hfl).2; omega)).mp c_31)]) hTab hta hfl hlen hl9 hw
    · refine lv_aload_n hx hb dX15_length_34 rfl (lv_at hl 8 rfl) ?_
      refine lv_aload_n hx hb dX15_length_35 rfl (lv_at hl 6 rfl) ?_
      have hT9 : tabOK t2 (ads t3) := by rw [hta]; exact hT
      have hlt : ¬ T ≤ sumF fl := fun z => c_31 ((nI_leI (by omega) (by have := (sum_bd fl hfl).2; omega)).mpr z)
      rcases jn_cases lf with hk | hk | hk | hk
      · refine xc_V (rest := []) (As := [.ref h0]) hf hK hA hAz hst (hw.pick [0, 0, 0, 0, 0, 3] rfl rfl rfl) (k_X15_join_none l D dT g z0 t tm tl t2 t3 lf h0 h1 h2 ln sz x2 x9 x10 x3 x4 x5 lf0 hT9 hsz1 hsz2 hlf hk) (cwV 1 hts (lw_V q1649 q1651 qs41 q76 q1652) rfl rfl rfl (by decide +kernel) ⟨Nat.le_of_ble_eq_true rfl, Nat.le_of_ble_eq_true rfl⟩) (xr_rv hK hw 0 0 rfl rfl) rfl hl.1 rfl (Nat.le_of_ble_eq_true rfl) dX15_length_36 ⟨(by first | omega | (dsimp only; omega)), (by first | omega | (dsimp only; omega))⟩ (fun _ _ _ _ _ _ h => h.elim) (fun v9 LL1 H locs hp hw => ?_)
        obtain ⟨rfl, rfl⟩ := hp
        have hw : Wd D A s.heap _ _ [[ob t 14 [.ref tm, .ref tl]], [(tm, aR dT 7 3 (fun i => (ads t2)[i]?))], (t2.flatMap (m2E dT)), (t3.flatMap (m3E dT)), [(tl, aI dT [(nI lf.1), (nI lf.2.1), (nI lf.2.2)])], [ob h0 10 [.int (nI ln), .int (nI sz), .int x2, .ref h1, .ref h2, .int x9, .int x10], (h1, aI dT [x3, x4, x5]), (h2, aI dT [(nI lf0.1), (nI lf0.2.1), (nI lf0.2.2)])], [ob b 4 [.ref fa]], ((ob fa 15 [.int u, .ref (al_d g st), .int (nI (ads mf).length)]) :: (al_t dT st (ads mf))), (mf.flatMap (mfE dT))] := hw
        refine W.eq (g2 := F0 m 39 ls [.int 0]) rfl ?_
        refine lv_if_eq (tgt := 51) hx hb dX15_length_39 (by decide) (fun _ => ?_) (fun c9 => absurd c9 (by decide))
        have hw : Wd D A s.heap _ _ [[ob t 14 [.ref tm, .ref tl]], [(tm, aR dT 7 3 (fun i => (ads t2)[i]?))], (t2.flatMap (m2E dT)), (t3.flatMap (m3E dT)), [(tl, aI dT [(nI lf.1), (nI lf.2.1), (nI lf.2.2)])], [ob b 4 [.ref fa]], ((ob fa 15 [.int u, .ref (al_d g st), .int (nI (ads mf).length)]) :: (al_t dT st (ads mf))), (mf.flatMap (mfE dT)), [ob h0 10 [.int (nI ln), .int (nI sz), .int x2, .ref h1, .ref h2, .int x9, .int x10], (h1, aI dT [x3, x4, x5]), (h2, aI dT [(nI lf0.1), (nI lf0.2.1), (nI lf0.2.2)])]] := Wd.take hw [0, 0, 0, 0, 0, 1, 1, 1, 0] rfl rfl
        have hl9 := lv_sub hl [0, 1, 2, 3, 4, 5, 6, 7, 8] rfl
        exact K51 lf fl t3 _ _ _ (by rw [← hRES, jn_none (by unfold lfN; omega)]) hTab hta hfl hlen hl9 hw
      · have hne9 : lfN lf ≠ 0 := by unfold lfN; omega
        have hRES2 := (jn_go (ln := ln) (sz := sz) hlt hne9).symm.trans hRES
        rw [(jnF_0 hk).1, (jnF_0 hk).2] at hRES2
        have hfl2 : ∀ f ∈ fl ++ [(ln, 0, sz, 0)], okF f := okF_all hfl (okF_new hln hsz1 hsz2 (by decide))
        have hl40 : fl.length < 40 := by have := (sum_bd fl hfl).1; omega
        refine xc_V (rest := []) (As := [.ref h0]) hf hK hA hAz hst (hw.pick [0, 0, 0, 0, 0, 3] rfl rfl rfl) (k_X15_join_k0 l D dT g z0 t tm tl t2 t3 lf h0 h1 h2 ln sz x2 x9 x10 x3 x4 x5 lf0 hT9 hsz1 hsz2 hlf hk) (cwV 1 hts (lw_V q1649 q1651 qs41 q76 q1652) rfl rfl rfl (by decide +kernel) ⟨Nat.le_of_ble_eq_true rfl, Nat.le_of_ble_eq_true rfl⟩) (xr_rv hK hw 0 0 rfl rfl) rfl hl.1 rfl (Nat.le_of_ble_eq_true rfl) dX15_length_36 ⟨(by first | omega | (dsimp only; omega)), (by first | omega | (dsimp only; omega))⟩ (fun _ _ _ _ _ _ h => h.elim) (fun v9 LL1 H locs hp hw => ?_)
        obtain ⟨t31_1, e_2, rfl, rfl⟩ := hp
        have hw : Wd D A s.heap _ _ [[ob t 14 [.ref tm, .ref tl]], [(tm, aR dT 7 3 (fun i => (ads t2)[i]?))], (t2.flatMap (m2E dT)), (t31_1.flatMap (m3E dT)), [(tl, aI dT [(nI (lf.1 - 1, lf.2.1, lf.2.2).1), (nI (lf.1 - 1, lf.2.1, lf.2.2).2.1), (nI (lf.1 - 1, lf.2.1, lf.2.2).2.2)])], [ob h0 10 [.int (nI ln), .int (nI sz), .int x2, .ref h1, .ref h2, .int x9, .int x10], (h1, aI dT [x3, x4, x5]), (h2, aI dT [(nI lf0.1), (nI lf0.2.1), (nI lf0.2.2)])], [ob b 4 [.ref fa]], ((ob fa 15 [.int u, .ref (al_d g st), .int (nI (ads mf).length)]) :: (al_t dT st (ads mf))), (mf.flatMap (mfE dT))] := hw
        refine W.eq (g2 := F0 m 39 ls [.int 1]) rfl ?_
        refine lv_if_eq (tgt := 51) hx hb dX15_length_39 (by decide) (fun c9 => absurd c9 (by decide)) (fun _ => ?_)
        refine lv_aload_n hx hb dX15_length_42 rfl (lv_at hl 8 rfl) ?_
        have hTab2 : Tab (tval t31_1) (fl ++ [(ln, 0, sz, 0)]) := e_2.2 fl ln hln hTab
        refine xc_V (rest := []) (As := []) hf hK hA hAz hst (hw.pick [0, 0, 0, 0, 0] rfl rfl rfl) (k_X15_sum l D dT g z0 t tm tl t2 t31_1 (lf.1 - 1, lf.2.1, lf.2.2) (fl ++ [(ln, 0, sz, 0)]) (by rw [e_2.1]; exact hT9) hTab2 hfl2) (cwV 0 hts (lw_V q1644 q1646 qs40 q76 q1647) rfl rfl rfl (by decide +kernel) ⟨Nat.le_of_ble_eq_true rfl, Nat.le_of_ble_eq_true rfl⟩) (xr_rv hK hw 0 0 rfl rfl) rfl hl.1 rfl (Nat.le_of_ble_eq_true rfl) dX15_length_43 ⟨(by first | omega | (dsimp only; omega)), (by first | omega | (dsimp only; omega))⟩ (fun _ _ _ _ _ _ h => h.elim) (fun v9 LL1 H locs hp hw => ?_)
        obtain ⟨rfl, rfl⟩ := hp
        have hw : Wd D A s.heap _ _ [[ob t 14 [.ref tm, .ref tl]], [(tm, aR dT 7 3 (fun i => (ads t2)[i]?))], (t2.flatMap (m2E dT)), (t31_1.flatMap (m3E dT)), [(tl, aI dT [(nI (lf.1 - 1, lf.2.1, lf.2.2).1), (nI (lf.1 - 1, lf.2.1, lf.2.2).2.1), (nI (lf.1 - 1, lf.2.1, lf.2.2).2.2)])], [ob h0 10 [.int (nI ln), .int (nI sz), .int x2, .ref h1, .ref h2, .int x9, .int x10], (h1, aI dT [x3, x4, x5]), (h2, aI dT [(nI lf0.1), (nI lf0.2.1), (nI lf0.2.2)])], [ob b 4 [.ref fa]], ((ob fa 15 [.int u, .ref (al_d g st), .int (nI (ads mf).length)]) :: (al_t dT st (ads mf))), (mf.flatMap (mfE dT))] := hw
        refine W.eq (g2 := F0 m 46 ls [.int (nI (sumF (fl ++ [(ln, 0, sz, 0)])))]) rfl ?_
        refine lv_istore (lv' := [(8, .int (nI (sumF (fl ++ [(ln, 0, sz, 0)])))), (7, .int y7), (6, .int y6), (5, .int y5), (4, .int y4), (3, .int (nI T)), (2, .ref h0), (1, .ref b), (0, .ref t)]) hx hb dX15_length_46 hl (by decide) rfl (fun ls hl => ?_)
        refine lv_goto (tgt := 28) hx hb dX15_length_48 (by decide) ?_
        have hw : Wd D A s.heap _ _ [[ob t 14 [.ref tm, .ref tl]], [(tm, aR dT 7 3 (fun i => (ads t2)[i]?))], (t2.flatMap (m2E dT)), (t31_1.flatMap (m3E dT)), [(tl, aI dT [(nI (lf.1 - 1, lf.2.1, lf.2.2).1), (nI (lf.1 - 1, lf.2.1, lf.2.2).2.1), (nI (lf.1 - 1, lf.2.1, lf.2.2).2.2)])], [ob b 4 [.ref fa]], ((ob fa 15 [.int u, .ref (al_d g st), .int (nI (ads mf).length)]) :: (al_t dT st (ads mf))), (mf.flatMap (mfE dT)), [ob h0 10 [.int (nI ln), .int (nI sz), .int x2, .ref h1, .ref h2, .int x9, .int x10], (h1, aI dT [x3, x4, x5]), (h2, aI dT [(nI lf0.1), (nI lf0.2.1), (nI lf0.2.2)])]] := Wd.take hw [0, 0, 0, 0, 0, 1, 1, 1, 0] rfl rfl
        have hl9 := lv_sub hl [0, 1, 2, 3, 4, 5, 6, 7, 8] rfl
        have hn9 : lfN (lf.1 - 1, lf.2.1, lf.2.2) = lfN lf - 1 := by unfold lfN; dsimp only; omega
        exact ih (lf.1 - 1, lf.2.1, lf.2.2) _ _ _ _ _ (by omega) (by omega) hRES2 hTab2 (e_2.1.trans hta) hfl2 (by rw [List.length_append]; exact hl40) hl9 hw
      · have hne9 : lfN lf ≠ 0 := by unfold lfN; omega
        have hRES2 := (jn_go (ln := ln) (sz := sz) hlt hne9).symm.trans hRES
        rw [(jnF_1 hk).1, (jnF_1 hk).2] at hRES2
        have hfl2 : ∀ f ∈ fl ++ [(ln, 0, sz, 1)], okF f := okF_all hfl (okF_new hln hsz1 hsz2 (by decide))
        have hl40 : fl.length < 40 := by have := (sum_bd fl hfl).1; omega
        refine xc_V (rest := []) (As := [.ref h0]) hf hK hA hAz hst (hw.pick [0, 0, 0, 0, 0, 3] rfl rfl rfl) (k_X15_join_k1 l D dT g z0 t tm tl t2 t3 lf h0 h1 h2 ln sz x2 x9 x10 x3 x4 x5 lf0 hT9 hsz1 hsz2 hlf hk) (cwV 1 hts (lw_V q1649 q1651 qs41 q76 q1652) rfl rfl rfl (by decide +kernel) ⟨Nat.le_of_ble_eq_true rfl, Nat.le_of_ble_eq_true rfl⟩) (xr_rv hK hw 0 0 rfl rfl) rfl hl.1 rfl (Nat.le_of_ble_eq_true rfl) dX15_length_36 ⟨(by first | omega | (dsimp only; omega)), (by first | omega | (dsimp only; omega))⟩ (fun _ _ _ _ _ _ h => h.elim) (fun v9 LL1 H locs hp hw => ?_)
        obtain ⟨t31_1, e_2, rfl, rfl⟩ := hp
        have hw : Wd D A s.heap _ _ [[ob t 14 [.ref tm, .ref tl]], [(tm, aR dT 7 3 (fun i => (ads t2)[i]?))], (t2.flatMap (m2E dT)), (t31_1.flatMap (m3E dT)), [(tl, aI dT [(nI (lf.1, lf.2.1 - 1, lf.2.2).1), (nI (lf.1, lf.2.1 - 1, lf.2.2).2.1), (nI (lf.1, lf.2.1 - 1, lf.2.2).2.2)])], [ob h0 10 [.int (nI ln), .int (nI sz), .int x2, .ref h1, .ref h2, .int x9, .int x10], (h1, aI dT [x3, x4, x5]), (h2, aI dT [(nI lf0.1), (nI lf0.2.1), (nI lf0.2.2)])], [ob b 4 [.ref fa]], ((ob fa 15 [.int u, .ref (al_d g st), .int (nI (ads mf).length)]) :: (al_t dT st (ads mf))), (mf.flatMap (mfE dT))] := hw
        refine W.eq (g2 := F0 m 39 ls [.int 1]) rfl ?_
        refine lv_if_eq (tgt := 51) hx hb dX15_length_39 (by decide) (fun c9 => absurd c9 (by decide)) (fun _ => ?_)
        refine lv_aload_n hx hb dX15_length_42 rfl (lv_at hl 8 rfl) ?_
        have hTab2 : Tab (tval t31_1) (fl ++ [(ln, 0, sz, 1)]) := e_2.2 fl ln hln hTab
        refine xc_V (rest := []) (As := []) hf hK hA hAz hst (hw.pick [0, 0, 0, 0, 0] rfl rfl rfl) (k_X15_sum l D dT g z0 t tm tl t2 t31_1 (lf.1, lf.2.1 - 1, lf.2.2) (fl ++ [(ln, 0, sz, 1)]) (by rw [e_2.1]; exact hT9) hTab2 hfl2) (cwV 0 hts (lw_V q1644 q1646 qs40 q76 q1647) rfl rfl rfl (by decide +kernel) ⟨Nat.le_of_ble_eq_true rfl, Nat.le_of_ble_eq_true rfl⟩) (xr_rv hK hw 0 0 rfl rfl) rfl hl.1 rfl (Nat.le_of_ble_eq_true rfl) dX15_length_43 ⟨(by first | omega | (dsimp only; omega)), (by first | omega | (dsimp only; omega))⟩ (fun _ _ _ _ _ _ h => h.elim) (fun v9 LL1 H locs hp hw => ?_)
        obtain ⟨rfl, rfl⟩ := hp
        have hw : Wd D A s.heap _ _ [[ob t 14 [.ref tm, .ref tl]], [(tm, aR dT 7 3 (fun i => (ads t2)[i]?))], (t2.flatMap (m2E dT)), (t31_1.flatMap (m3E dT)), [(tl, aI dT [(nI (lf.1, lf.2.1 - 1, lf.2.2).1), (nI (lf.1, lf.2.1 - 1, lf.2.2).2.1), (nI (lf.1, lf.2.1 - 1, lf.2.2).2.2)])], [ob h0 10 [.int (nI ln), .int (nI sz), .int x2, .ref h1, .ref h2, .int x9, .int x10], (h1, aI dT [x3, x4, x5]), (h2, aI dT [(nI lf0.1), (nI lf0.2.1), (nI lf0.2.2)])], [ob b 4 [.ref fa]], ((ob fa 15 [.int u, .ref (al_d g st), .int (nI (ads mf).length)]) :: (al_t dT st (ads mf))), (mf.flatMap (mfE dT))] := hw
        refine W.eq (g2 := F0 m 46 ls [.int (nI (sumF (fl ++ [(ln, 0, sz, 1)])))]) rfl ?_
        refine lv_istore (lv' := [(8, .int (nI (sumF (fl ++ [(ln, 0, sz, 1)])))), (7, .int y7), (6, .int y6), (5, .int y5), (4, .int y4), (3, .int (nI T)), (2, .ref h0), (1, .ref b), (0, .ref t)]) hx hb dX15_length_46 hl (by decide) rfl (fun ls hl => ?_)
        refine lv_goto (tgt := 28) hx hb dX15_length_48 (by decide) ?_
        have hw : Wd D A s.heap _ _ [[ob t 14 [.ref tm, .ref tl]], [(tm, aR dT 7 3 (fun i => (ads t2)[i]?))], (t2.flatMap (m2E dT)), (t31_1.flatMap (m3E dT)), [(tl, aI dT [(nI (lf.1, lf.2.1 - 1, lf.2.2).1), (nI (lf.1, lf.2.1 - 1, lf.2.2).2.1), (nI (lf.1, lf.2.1 - 1, lf.2.2).2.2)])], [ob b 4 [.ref fa]], ((ob fa 15 [.int u, .ref (al_d g st), .int (nI (ads mf).length)]) :: (al_t dT st (ads mf))), (mf.flatMap (mfE dT)), [ob h0 10 [.int (nI ln), .int (nI sz), .int x2, .ref h1, .ref h2, .int x9, .int x10], (h1, aI dT [x3, x4, x5]), (h2, aI dT [(nI lf0.1), (nI lf0.2.1), (nI lf0.2.2)])]] := Wd.take hw [0, 0, 0, 0, 0, 1, 1, 1, 0] rfl rfl
        have hl9 := lv_sub hl [0, 1, 2, 3, 4, 5, 6, 7, 8] rfl
        have hn9 : lfN (lf.1, lf.2.1 - 1, lf.2.2) = lfN lf - 1 := by unfold lfN; dsimp only; omega
        exact ih (lf.1, lf.2.1 - 1, lf.2.2) _ _ _ _ _ (by omega) (by omega) hRES2 hTab2 (e_2.1.trans hta) hfl2 (by rw [List.length_append]; exact hl40) hl9 hw
      · have hne9 : lfN lf ≠ 0 := by unfold lfN; omega
        have hRES2 := (jn_go (ln := ln) (sz := sz) hlt hne9).symm.trans hRES
        rw [(jnF_2 hk).1, (jnF_2 hk).2] at hRES2
        have hfl2 : ∀ f ∈ fl ++ [(ln, 0, sz, 2)], okF f := okF_all hfl (okF_new hln hsz1 hsz2 (by decide))
        have hl40 : fl.length < 40 := by have := (sum_bd fl hfl).1; omega
        refine xc_V (rest := []) (As := [.ref h0]) hf hK hA hAz hst (hw.pick [0, 0, 0, 0, 0, 3] rfl rfl rfl) (k_X15_join_k2 l D dT g z0 t tm tl t2 t3 lf h0 h1 h2 ln sz x2 x9 x10 x3 x4 x5 lf0 hT9 hsz1 hsz2 hlf hk) (cwV 1 hts (lw_V q1649 q1651 qs41 q76 q1652) rfl rfl rfl (by decide +kernel) ⟨Nat.le_of_ble_eq_true rfl, Nat.le_of_ble_eq_true rfl⟩) (xr_rv hK hw 0 0 rfl rfl) rfl hl.1 rfl (Nat.le_of_ble_eq_true rfl) dX15_length_36 ⟨(by first | omega | (dsimp only; omega)), (by first | omega | (dsimp only; omega))⟩ (fun _ _ _ _ _ _ h => h.elim) (fun v9 LL1 H locs hp hw => ?_)
        obtain ⟨t31_1, e_2, rfl, rfl⟩ := hp
        have hw : Wd D A s.heap _ _ [[ob t 14 [.ref tm, .ref tl]], [(tm, aR dT 7 3 (fun i => (ads t2)[i]?))], (t2.flatMap (m2E dT)), (t31_1.flatMap (m3E dT)), [(tl, aI dT [(nI (lf.1, lf.2.1, lf.2.2 - 1).1), (nI (lf.1, lf.2.1, lf.2.2 - 1).2.1), (nI (lf.1, lf.2.1, lf.2.2 - 1).2.2)])], [ob h0 10 [.int (nI ln), .int (nI sz), .int x2, .ref h1, .ref h2, .int x9, .int x10], (h1, aI dT [x3, x4, x5]), (h2, aI dT [(nI lf0.1), (nI lf0.2.1), (nI lf0.2.2)])], [ob b 4 [.ref fa]], ((ob fa 15 [.int u, .ref (al_d g st), .int (nI (ads mf).length)]) :: (al_t dT st (ads mf))), (mf.flatMap (mfE dT))] := hw
        refine W.eq (g2 := F0 m 39 ls [.int 1]) rfl ?_
        refine lv_if_eq (tgt := 51) hx hb dX15_length_39 (by decide) (fun c9 => absurd c9 (by decide)) (fun _ => ?_)
        refine lv_aload_n hx hb dX15_length_42 rfl (lv_at hl 8 rfl) ?_
        have hTab2 : Tab (tval t31_1) (fl ++ [(ln, 0, sz, 2)]) := e_2.2 fl ln hln hTab
        refine xc_V (rest := []) (As := []) hf hK hA hAz hst (hw.pick [0, 0, 0, 0, 0] rfl rfl rfl) (k_X15_sum l D dT g z0 t tm tl t2 t31_1 (lf.1, lf.2.1, lf.2.2 - 1) (fl ++ [(ln, 0, sz, 2)]) (by rw [e_2.1]; exact hT9) hTab2 hfl2) (cwV 0 hts (lw_V q1644 q1646 qs40 q76 q1647) rfl rfl rfl (by decide +kernel) ⟨Nat.le_of_ble_eq_true rfl, Nat.le_of_ble_eq_true rfl⟩) (xr_rv hK hw 0 0 rfl rfl) rfl hl.1 rfl (Nat.le_of_ble_eq_true rfl) dX15_length_43 ⟨(by first | omega | (dsimp only; omega)), (by first | omega | (dsimp only; omega))⟩ (fun _ _ _ _ _ _ h => h.elim) (fun v9 LL1 H locs hp hw => ?_)
        obtain ⟨rfl, rfl⟩ := hp
        have hw : Wd D A s.heap _ _ [[ob t 14 [.ref tm, .ref tl]], [(tm, aR dT 7 3 (fun i => (ads t2)[i]?))], (t2.flatMap (m2E dT)), (t31_1.flatMap (m3E dT)), [(tl, aI dT [(nI (lf.1, lf.2.1, lf.2.2 - 1).1), (nI (lf.1, lf.2.1, lf.2.2 - 1).2.1), (nI (lf.1, lf.2.1, lf.2.2 - 1).2.2)])], [ob h0 10 [.int (nI ln), .int (nI sz), .int x2, .ref h1, .ref h2, .int x9, .int x10], (h1, aI dT [x3, x4, x5]), (h2, aI dT [(nI lf0.1), (nI lf0.2.1), (nI lf0.2.2)])], [ob b 4 [.ref fa]], ((ob fa 15 [.int u, .ref (al_d g st), .int (nI (ads mf).length)]) :: (al_t dT st (ads mf))), (mf.flatMap (mfE dT))] := hw
        refine W.eq (g2 := F0 m 46 ls [.int (nI (sumF (fl ++ [(ln, 0, sz, 2)])))]) rfl ?_
        refine lv_istore (lv' := [(8, .int (nI (sumF (fl ++ [(ln, 0, sz, 2)])))), (7, .int y7), (6, .int y6), (5, .int y5), (4, .int y4), (3, .int (nI T)), (2, .ref h0), (1, .ref b), (0, .ref t)]) hx hb dX15_length_46 hl (by decide) rfl (fun ls hl => ?_)
        refine lv_goto (tgt := 28) hx hb dX15_length_48 (by decide) ?_
        have hw : Wd D A s.heap _ _ [[ob t 14 [.ref tm, .ref tl]], [(tm, aR dT 7 3 (fun i => (ads t2)[i]?))], (t2.flatMap (m2E dT)), (t31_1.flatMap (m3E dT)), [(tl, aI dT [(nI (lf.1, lf.2.1, lf.2.2 - 1).1), (nI (lf.1, lf.2.1, lf.2.2 - 1).2.1), (nI (lf.1, lf.2.1, lf.2.2 - 1).2.2)])], [ob b 4 [.ref fa]], ((ob fa 15 [.int u, .ref (al_d g st), .int (nI (ads mf).length)]) :: (al_t dT st (ads mf))), (mf.flatMap (mfE dT)), [ob h0 10 [.int (nI ln), .int (nI sz), .int x2, .ref h1, .ref h2, .int x9, .int x10], (h1, aI dT [x3, x4, x5]), (h2, aI dT [(nI lf0.1), (nI lf0.2.1), (nI lf0.2.2)])]] := Wd.take hw [0, 0, 0, 0, 0, 1, 1, 1, 0] rfl rfl
        have hl9 := lv_sub hl [0, 1, 2, 3, 4, 5, 6, 7, 8] rfl
        have hn9 : lfN (lf.1, lf.2.1, lf.2.2 - 1) = lfN lf - 1 := by unfold lfN; dsimp only; omega
        exact ih (lf.1, lf.2.1, lf.2.2 - 1) _ _ _ _ _ (by omega) (by omega) hRES2 hTab2 (e_2.1.trans hta) hfl2 (by rw [List.length_append]; exact hl40) hl9 hw
set_option maxHeartbeats 4000000 in
theorem wl_tl {p : Program} {l : Launch} {e : Env} {s : State} {m : MethodId} {args : Array Value} {below : List Frame} {meth : Method} {c : Code} {A : Nat → Prop} {Q : State → Prop} {D : va_G} {dT g : Nat → Nat} {z0 mc ms : Nat} (hf : CallFix p m c cX15_length 9 s args lw_all "SilkRowModel$Trial") (hK : KK D dT g z0 s s.heap) (hA : ∀ q, s.heap.size ≤ q → A q) (hAz : ∀ q, A q → zA z0 q) (hst : l.stackTraces = false) {t tm tl b fa : Nat} {kc ks : Nat} {t2 : T2T} {as : List Nat} {u : Int32} {st : Option (Nat × Nat)} {mf : MfT} {h0 h1 h2 ln sz : Nat} {x2 x9 x10 x3 x4 x5 : Int32} {lf0 : Lf} {T : Nat} {N : Nat} {RES : Lf × List FvT × (Nat → Int32)} (hT : tabOK t2 as) (hln : ln < 4) (hsz1 : 2 ≤ sz) (hsz2 : sz ≤ 6) (hT40 : T ≤ 40) (hmc : kc ≤ mc) (hms : ks ≤ ms) (hN : N < 2 ^ 30) (KR : ∀ (pc : Nat) (r : Int32) (lf : Lf) (t3 : T3T) (ls : Array Slot) (H : Heap) (locs : List Loc), decode cX15_length pc = .ok (.ireturn, 1) → r = tl_val RES.2.2 → ads t3 = as → Wd D A s.heap H locs [[ob t 14 [.ref tm, .ref tl]], [(tm, aR dT 7 3 (fun i => (ads t2)[i]?))], (t2.flatMap (m2E dT)), (t3.flatMap (m3E dT)), [(tl, aI dT [(nI lf.1), (nI lf.2.1), (nI lf.2.2)])], [ob b 4 [.ref fa]], ((ob fa 15 [.int u, .ref (al_d g st), .int (nI (ads mf).length)]) :: (al_t dT st (ads mf))), (mf.flatMap (mfE dT)), [ob h0 10 [.int (nI ln), .int (nI sz), .int x2, .ref h1, .ref h2, .int x9, .int x10], (h1, aI dT [x3, x4, x5]), (h2, aI dT [(nI lf0.1), (nI lf0.2.1), (nI lf0.2.2)])]] → W p l e ({ frames := 9, cells := mc, slots := ms, locals := 240 }) s m args below meth c H locs kc ks Q (F0 m pc ls [.int r])) : ∀ (n i : Nat) (lf : Lf) (fl : List FvT) (v : Nat → Int32) (t3 : T3T) (ls : Array Slot) (H : Heap) (locs : List Loc), i + n = N → lfN lf < 2 ^ 20 → rlW T ln sz n lf fl v = RES → v 0 = nI i → Tab (tval t3) fl → ads t3 = as → (∀ f ∈ fl, okF f) → fl.length ≤ 40 → lv_has ls 9 [(7, .int (nI i)), (6, .int (v 2)), (5, .int (v 1)), (4, .int (nI N)), (3, .int (nI T)), (2, .ref h0), (1, .ref b), (0, .ref t)] → Wd D A s.heap H locs [[ob t 14 [.ref tm, .ref tl]], [(tm, aR dT 7 3 (fun i => (ads t2)[i]?))], (t2.flatMap (m2E dT)), (t3.flatMap (m3E dT)), [(tl, aI dT [(nI lf.1), (nI lf.2.1), (nI lf.2.2)])], [ob b 4 [.ref fa]], ((ob fa 15 [.int u, .ref (al_d g st), .int (nI (ads mf).length)]) :: (al_t dT st (ads mf))), (mf.flatMap (mfE dT)), [ob h0 10 [.int (nI ln), .int (nI sz), .int x2, .ref h1, .ref h2, .int x9, .int x10], (h1, aI dT [x3, x4, x5]), (h2, aI dT [(nI lf0.1), (nI lf0.2.1), (nI lf0.2.2)])]] → W p l e ({ frames := 9, cells := mc, slots := ms, locals := 240 }) s m args below meth c H locs kc ks Q (F0 m 15 ls []) := by
  have hx := hf.1
  have hb := hf.2.1
  have hts := hf.2.2.2.2
  intro n
  induction n with
  | zero =>
    intro i lf fl v t3 ls H locs hin hlf hRES hv0 hTab hta hfl hlen hl hw
    have hw : Wd D A s.heap _ _ [[ob t 14 [.ref tm, .ref tl]], [(tm, aR dT 7 3 (fun i => (ads t2)[i]?))], (t2.flatMap (m2E dT)), (t3.flatMap (m3E dT)), [(tl, aI dT [(nI lf.1), (nI lf.2.1), (nI lf.2.2)])], [ob b 4 [.ref fa]], ((ob fa 15 [.int u, .ref (al_d g st), .int (nI (ads mf).length)]) :: (al_t dT st (ads mf))), (mf.flatMap (mfE dT)), [ob h0 10 [.int (nI ln), .int (nI sz), .int x2, .ref h1, .ref h2, .int x9, .int x10], (h1, aI dT [x3, x4, x5]), (h2, aI dT [(nI lf0.1), (nI lf0.2.1), (nI lf0.2.2)])]] := hw
    refine lv_iload hx hb dX15_length_15 (lv_at hl 0 rfl) ?_
    refine lv_iload hx hb dX15_length_17 (lv_at hl 3 rfl) ?_
    refine lv_icmp_ge (tgt := 110) hx hb dX15_length_19 (by decide) (fun _ => ?_) (fun c9 => absurd c9 (not_not_intro (nI_le (by omega) (by omega))))
    refine lv_iload hx hb dX15_length_110 (lv_at hl 1 rfl) ?_
    refine lv_iload hx hb dX15_length_112 (lv_at hl 2 rfl) ?_
    refine lv_isub hx hb dX15_length_114 ?_
    refine lv_iconst (v := 4) hx hb dX15_length_115 (by decide) ?_
    refine lv_icmp_ge (tgt := 124) hx hb dX15_length_116 (by decide) (fun c_116 => ?_) (fun c_116 => ?_)
    · refine lv_iconst (v := 0) hx hb dX15_length_124 (by decide) ?_
      have hw : Wd D A s.heap _ _ [[ob t 14 [.ref tm, .ref tl]], [(tm, aR dT 7 3 (fun i => (ads t2)[i]?))], (t2.flatMap (m2E dT)), (t3.flatMap (m3E dT)), [(tl, aI dT [(nI lf.1), (nI lf.2.1), (nI lf.2.2)])], [ob b 4 [.ref fa]], ((ob fa 15 [.int u, .ref (al_d g st), .int (nI (ads mf).length)]) :: (al_t dT st (ads mf))), (mf.flatMap (mfE dT)), [ob h0 10 [.int (nI ln), .int (nI sz), .int x2, .ref h1, .ref h2, .int x9, .int x10], (h1, aI dT [x3, x4, x5]), (h2, aI dT [(nI lf0.1), (nI lf0.2.1), (nI lf0.2.2)])]] := Wd.take hw [0, 0, 0, 0, 0, 0, 0, 0, 0] rfl rfl
      have hRES2 : RES = (lf, fl, v) := hRES.symm
      exact KR 125 0 lf t3 _ _ _ dX15_length_125 (by rw [hRES2]; exact (if_neg (Int32.not_lt.mpr c_116)).symm) hta hw
    · refine lv_iload hx hb dX15_length_119 (lv_at hl 3 rfl) ?_
      refine lv_goto (tgt := 125) hx hb dX15_length_121 (by decide) ?_
      have hw : Wd D A s.heap _ _ [[ob t 14 [.ref tm, .ref tl]], [(tm, aR dT 7 3 (fun i => (ads t2)[i]?))], (t2.flatMap (m2E dT)), (t3.flatMap (m3E dT)), [(tl, aI dT [(nI lf.1), (nI lf.2.1), (nI lf.2.2)])], [ob b 4 [.ref fa]], ((ob fa 15 [.int u, .ref (al_d g st), .int (nI (ads mf).length)]) :: (al_t dT st (ads mf))), (mf.flatMap (mfE dT)), [ob h0 10 [.int (nI ln), .int (nI sz), .int x2, .ref h1, .ref h2, .int x9, .int x10], (h1, aI dT [x3, x4, x5]), (h2, aI dT [(nI lf0.1), (nI lf0.2.1), (nI lf0.2.2)])]] := Wd.take hw [0, 0, 0, 0, 0, 0, 0, 0, 0] rfl rfl
      have hRES2 : RES = (lf, fl, v) := hRES.symm
      exact KR 125 (nI N) lf t3 _ _ _ dX15_length_125 (by rw [hRES2]; exact ((if_pos (Int32.not_le.mp c_116)).trans (hv0.trans (by rw [show i = N by omega]))).symm) hta hw
  | succ n ih =>
    intro i lf fl v t3 ls H locs hin hlf hRES hv0 hTab hta hfl hlen hl hw
    have hw : Wd D A s.heap _ _ [[ob t 14 [.ref tm, .ref tl]], [(tm, aR dT 7 3 (fun i => (ads t2)[i]?))], (t2.flatMap (m2E dT)), (t3.flatMap (m3E dT)), [(tl, aI dT [(nI lf.1), (nI lf.2.1), (nI lf.2.2)])], [ob b 4 [.ref fa]], ((ob fa 15 [.int u, .ref (al_d g st), .int (nI (ads mf).length)]) :: (al_t dT st (ads mf))), (mf.flatMap (mfE dT)), [ob h0 10 [.int (nI ln), .int (nI sz), .int x2, .ref h1, .ref h2, .int x9, .int x10], (h1, aI dT [x3, x4, x5]), (h2, aI dT [(nI lf0.1), (nI lf0.2.1), (nI lf0.2.2)])]] := hw
    refine lv_iload hx hb dX15_length_15 (lv_at hl 0 rfl) ?_
    refine lv_iload hx hb dX15_length_17 (lv_at hl 3 rfl) ?_
    refine lv_icmp_ge (tgt := 110) hx hb dX15_length_19 (by decide) (fun c9 => absurd c9 (nI_ge (by omega) (by omega))) (fun _ => ?_)
    refine lv_aload_n hx hb dX15_length_22 rfl (lv_at hl 7 rfl) ?_
    refine xc_V (rest := []) (As := []) hf hK hA hAz hst (hw.pick [0, 0, 0, 0, 0] rfl rfl rfl) (k_X15_sum l D dT g z0 t tm tl t2 t3 lf fl (by rw [hta]; exact hT) hTab hfl) (cwV 0 hts (lw_V q1644 q1646 qs40 q76 q1647) rfl rfl rfl (by decide +kernel) ⟨Nat.le_of_ble_eq_true rfl, Nat.le_of_ble_eq_true rfl⟩) (xr_rv hK hw 0 0 rfl rfl) rfl hl.1 rfl (Nat.le_of_ble_eq_true rfl) dX15_length_23 ⟨(by first | omega | (dsimp only; omega)), (by first | omega | (dsimp only; omega))⟩ (fun _ _ _ _ _ _ h => h.elim) (fun v9 LL1 H locs hp hw => ?_)
    obtain ⟨rfl, rfl⟩ := hp
    have hw : Wd D A s.heap _ _ [[ob t 14 [.ref tm, .ref tl]], [(tm, aR dT 7 3 (fun i => (ads t2)[i]?))], (t2.flatMap (m2E dT)), (t3.flatMap (m3E dT)), [(tl, aI dT [(nI lf.1), (nI lf.2.1), (nI lf.2.2)])], [ob b 4 [.ref fa]], ((ob fa 15 [.int u, .ref (al_d g st), .int (nI (ads mf).length)]) :: (al_t dT st (ads mf))), (mf.flatMap (mfE dT)), [ob h0 10 [.int (nI ln), .int (nI sz), .int x2, .ref h1, .ref h2, .int x9, .int x10], (h1, aI dT [x3, x4, x5]), (h2, aI dT [(nI lf0.1), (nI lf0.2.1), (nI lf0.2.2)])]] := hw
    refine W.eq (g2 := F0 m 26 ls [.int (nI (sumF fl))]) rfl ?_
    refine lv_istore (lv' := [(8, .int (nI (sumF fl))), (7, .int (nI i)), (6, .int (v 2)), (5, .int (v 1)), (4, .int (nI N)), (3, .int (nI T)), (2, .ref h0), (1, .ref b), (0, .ref t)]) hx hb dX15_length_26 hl (by decide) rfl (fun ls hl => ?_)
    have hw : Wd D A s.heap _ _ [[ob t 14 [.ref tm, .ref tl]], [(tm, aR dT 7 3 (fun i => (ads t2)[i]?))], (t2.flatMap (m2E dT)), (t3.flatMap (m3E dT)), [(tl, aI dT [(nI lf.1), (nI lf.2.1), (nI lf.2.2)])], [ob b 4 [.ref fa]], ((ob fa 15 [.int u, .ref (al_d g st), .int (nI (ads mf).length)]) :: (al_t dT st (ads mf))), (mf.flatMap (mfE dT)), [ob h0 10 [.int (nI ln), .int (nI sz), .int x2, .ref h1, .ref h2, .int x9, .int x10], (h1, aI dT [x3, x4, x5]), (h2, aI dT [(nI lf0.1), (nI lf0.2.1), (nI lf0.2.2)])]] := Wd.take hw [0, 0, 0, 0, 0, 0, 0, 0, 0] rfl rfl
    have hl9 := lv_sub hl [0, 1, 2, 3, 4, 5, 6, 7, 8] rfl
    refine wl_tj (n := lfN lf) (RES := jn T ln sz lf fl) hf hK hA hAz hst hT hln hsz1 hsz2 hT40 hmc hms ?_ lf fl t3 _ _ _ rfl hlf rfl hTab hta hfl hlen hl9 hw
    intro lf1 l1 t31 ls H locs hR1 hTab1 hta1 hfl1 hlen1 hl hw
    have hlf1 : lfN lf1 < 2 ^ 20 := by have h9 := jn_lf (T := T) (ln := ln) (sz := sz) (f := lf) (l := fl); rw [hR1] at h9; exact Nat.lt_of_le_of_lt h9 hlf
    have hs1 : sumF l1 < 2 ^ 31 := by have := (sum_bd l1 hfl1).2; omega
    have hw : Wd D A s.heap _ _ [[ob t 14 [.ref tm, .ref tl]], [(tm, aR dT 7 3 (fun i => (ads t2)[i]?))], (t2.flatMap (m2E dT)), (t31.flatMap (m3E dT)), [(tl, aI dT [(nI lf1.1), (nI lf1.2.1), (nI lf1.2.2)])], [ob b 4 [.ref fa]], ((ob fa 15 [.int u, .ref (al_d g st), .int (nI (ads mf).length)]) :: (al_t dT st (ads mf))), (mf.flatMap (mfE dT)), [ob h0 10 [.int (nI ln), .int (nI sz), .int x2, .ref h1, .ref h2, .int x9, .int x10], (h1, aI dT [x3, x4, x5]), (h2, aI dT [(nI lf0.1), (nI lf0.2.1), (nI lf0.2.2)])]] := hw
    refine lv_iload hx hb dX15_length_51 (lv_at hl 0 rfl) ?_
    refine lv_if_ne (tgt := 72) hx hb dX15_length_53 (by decide) (fun c_53 => ?_) (fun c_53 => ?_)
    · have hnz : ¬ l1.length = 0 := fun z => c_53 (by rw [List.length_eq_zero_iff.mp z]; rfl)
      refine lv_iload hx hb dX15_length_72 (lv_at hl 1 rfl) ?_
      refine lv_if_ne (tgt := 82) hx hb dX15_length_74 (by decide) (fun c_74 => ?_) (fun c_74 => ?_)
      · refine lv_iload hx hb dX15_length_82 (lv_at hl 3 rfl) ?_
        refine lv_iload hx hb dX15_length_84 (lv_at hl 0 rfl) ?_
        refine va_mmin hx hb (by rw [hf.2.2.1]; exact hl.1.symm) hf.2.2.2.1 (hts _ q1653) (hts _ q193) (hts _ q50) (hts _ q194) (Nat.le_of_ble_eq_true rfl) (Nat.le_of_ble_eq_true rfl) (by first | omega | (dsimp only; omega)) (by first | omega | (dsimp only; omega)) dX15_length_86 ?_
        refine lv_as (y := imin (v 1) (nI (sumF l1))) rfl ?_
        refine lv_as (y := ((skG (f_X12_add v (nI (sumF l1))) l1) 1)) (by rw [skG_low (by decide), add_1n (by rw [hv0]; exact c_74)]) ?_
        refine lv_istore (lv' := [(5, .int ((skG (f_X12_add v (nI (sumF l1))) l1) 1)), (8, .int (nI (sumF l1))), (7, .int (nI i)), (6, .int (v 2)), (4, .int (nI N)), (3, .int (nI T)), (2, .ref h0), (1, .ref b), (0, .ref t)]) hx hb dX15_length_89 hl (by decide) rfl (fun ls hl => ?_)
        refine lv_iload hx hb dX15_length_91 (lv_at hl 3 rfl) ?_
        refine lv_iload hx hb dX15_length_93 (lv_at hl 1 rfl) ?_
        refine va_mmax hx hb (by rw [hf.2.2.1]; exact hl.1.symm) hf.2.2.2.1 (hts _ q1654) (hts _ q152) (hts _ q50) (hts _ q153) (Nat.le_of_ble_eq_true rfl) (Nat.le_of_ble_eq_true rfl) (by first | omega | (dsimp only; omega)) (by first | omega | (dsimp only; omega)) dX15_length_95 ?_
        refine lv_as (y := imax (v 2) (nI (sumF l1))) rfl ?_
        refine lv_as (y := ((skG (f_X12_add v (nI (sumF l1))) l1) 2)) (by rw [skG_low (by decide), add_2]) ?_
        refine lv_istore (lv' := [(6, .int ((skG (f_X12_add v (nI (sumF l1))) l1) 2)), (5, .int ((skG (f_X12_add v (nI (sumF l1))) l1) 1)), (8, .int (nI (sumF l1))), (7, .int (nI i)), (4, .int (nI N)), (3, .int (nI T)), (2, .ref h0), (1, .ref b), (0, .ref t)]) hx hb dX15_length_98 hl (by decide) rfl (fun ls hl => ?_)
        refine lv_aload_n hx hb dX15_length_100 rfl (lv_at hl 8 rfl) ?_
        refine xc_V (rest := []) (As := []) hf hK hA hAz hst (hw.pick [0, 0, 0, 0, 0] rfl rfl rfl) (k_X15_go l D dT g z0 t tm tl t2 t31 lf1 (by rw [hta1]; exact hT)) (cwV 0 hts (lw_V q1655 q1657 qs42 q76 q1658) rfl rfl rfl (by decide +kernel) ⟨Nat.le_of_ble_eq_true rfl, Nat.le_of_ble_eq_true rfl⟩) (xr_rv hK hw 0 0 rfl rfl) rfl hl.1 rfl (Nat.le_of_ble_eq_true rfl) dX15_length_101 ⟨(by first | omega | (dsimp only; omega)), (by first | omega | (dsimp only; omega))⟩ (fun _ _ _ _ _ _ h => h.elim) (fun v9 LL1 H locs hp hw => ?_)
        obtain ⟨t31_1, e_2, rfl, rfl⟩ := hp
        have hw : Wd D A s.heap _ _ [[ob t 14 [.ref tm, .ref tl]], [(tm, aR dT 7 3 (fun i => (ads t2)[i]?))], (t2.flatMap (m2E dT)), (t31_1.flatMap (m3E dT)), [(tl, aI dT [(nI lf1.1), (nI lf1.2.1), (nI lf1.2.2)])], [ob b 4 [.ref fa]], ((ob fa 15 [.int u, .ref (al_d g st), .int (nI (ads mf).length)]) :: (al_t dT st (ads mf))), (mf.flatMap (mfE dT)), [ob h0 10 [.int (nI ln), .int (nI sz), .int x2, .ref h1, .ref h2, .int x9, .int x10], (h1, aI dT [x3, x4, x5]), (h2, aI dT [(nI lf0.1), (nI lf0.2.1), (nI lf0.2.2)])]] := hw
        refine W.eq (g2 := F0 m 104 ls []) rfl ?_
        refine lv_iinc (v := (nI (i + 1))) (lv' := [(7, .int (nI (i + 1))), (6, .int ((skG (f_X12_add v (nI (sumF l1))) l1) 2)), (5, .int ((skG (f_X12_add v (nI (sumF l1))) l1) 1)), (8, .int (nI (sumF l1))), (4, .int (nI N)), (3, .int (nI T)), (2, .ref h0), (1, .ref b), (0, .ref t)]) hx hb dX15_length_104 hl (k := 3) rfl (nI_1 _) (by decide) rfl (fun ls hl => ?_)
        refine lv_goto (tgt := 15) hx hb dX15_length_107 (by decide) ?_
        have hw : Wd D A s.heap _ _ [[ob t 14 [.ref tm, .ref tl]], [(tm, aR dT 7 3 (fun i => (ads t2)[i]?))], (t2.flatMap (m2E dT)), (t31_1.flatMap (m3E dT)), [(tl, aI dT [(nI lf1.1), (nI lf1.2.1), (nI lf1.2.2)])], [ob b 4 [.ref fa]], ((ob fa 15 [.int u, .ref (al_d g st), .int (nI (ads mf).length)]) :: (al_t dT st (ads mf))), (mf.flatMap (mfE dT)), [ob h0 10 [.int (nI ln), .int (nI sz), .int x2, .ref h1, .ref h2, .int x9, .int x10], (h1, aI dT [x3, x4, x5]), (h2, aI dT [(nI lf0.1), (nI lf0.2.1), (nI lf0.2.2)])]] := Wd.take hw [0, 0, 0, 0, 0, 0, 0, 0, 0] rfl rfl
        have hl9 := lv_sub hl [0, 1, 2, 4, 5, 6, 7, 8] rfl
        have hRES2 : rlW T ln sz n lf1 (goL l1) (skG (f_X12_add v (nI (sumF l1))) l1) = RES := by rw [← hRES, rlW_S hR1 hnz]
        exact ih (i + 1) lf1 (goL l1) (skG (f_X12_add v (nI (sumF l1))) l1) _ _ _ _ (by omega) hlf1 hRES2 (by rw [skG_low (by decide), add_0, hv0, nI_1]) (e_2.2 l1 hTab1) (e_2.1.trans hta1) (goL_ok hfl1) (Nat.le_trans goL_le hlen1) hl9 hw
      · refine lv_iload hx hb dX15_length_77 (lv_at hl 0 rfl) ?_
        refine lv_goto (tgt := 89) hx hb dX15_length_79 (by decide) ?_
        refine lv_as (y := ((skG (f_X12_add v (nI (sumF l1))) l1) 1)) (by rw [skG_low (by decide), add_1z (by rw [hv0]; exact c_74)]) ?_
        refine lv_istore (lv' := [(5, .int ((skG (f_X12_add v (nI (sumF l1))) l1) 1)), (8, .int (nI (sumF l1))), (7, .int (nI i)), (6, .int (v 2)), (4, .int (nI N)), (3, .int (nI T)), (2, .ref h0), (1, .ref b), (0, .ref t)]) hx hb dX15_length_89 hl (by decide) rfl (fun ls hl => ?_)
        refine lv_iload hx hb dX15_length_91 (lv_at hl 3 rfl) ?_
        refine lv_iload hx hb dX15_length_93 (lv_at hl 1 rfl) ?_
        refine va_mmax hx hb (by rw [hf.2.2.1]; exact hl.1.symm) hf.2.2.2.1 (hts _ q1654) (hts _ q152) (hts _ q50) (hts _ q153) (Nat.le_of_ble_eq_true rfl) (Nat.le_of_ble_eq_true rfl) (by first | omega | (dsimp only; omega)) (by first | omega | (dsimp only; omega)) dX15_length_95 ?_
        refine lv_as (y := imax (v 2) (nI (sumF l1))) rfl ?_
        refine lv_as (y := ((skG (f_X12_add v (nI (sumF l1))) l1) 2)) (by rw [skG_low (by decide), add_2]) ?_
        refine lv_istore (lv' := [(6, .int ((skG (f_X12_add v (nI (sumF l1))) l1) 2)), (5, .int ((skG (f_X12_add v (nI (sumF l1))) l1) 1)), (8, .int (nI (sumF l1))), (7, .int (nI i)), (4, .int (nI N)), (3, .int (nI T)), (2, .ref h0), (1, .ref b), (0, .ref t)]) hx hb dX15_length_98 hl (by decide) rfl (fun ls hl => ?_)
        refine lv_aload_n hx hb dX15_length_100 rfl (lv_at hl 8 rfl) ?_
        refine xc_V (rest := []) (As := []) hf hK hA hAz hst (hw.pick [0, 0, 0, 0, 0] rfl rfl rfl) (k_X15_go l D dT g z0 t tm tl t2 t31 lf1 (by rw [hta1]; exact hT)) (cwV 0 hts (lw_V q1655 q1657 qs42 q76 q1658) rfl rfl rfl (by decide +kernel) ⟨Nat.le_of_ble_eq_true rfl, Nat.le_of_ble_eq_true rfl⟩) (xr_rv hK hw 0 0 rfl rfl) rfl hl.1 rfl (Nat.le_of_ble_eq_true rfl) dX15_length_101 ⟨(by first | omega | (dsimp only; omega)), (by first | omega | (dsimp only; omega))⟩ (fun _ _ _ _ _ _ h => h.elim) (fun v9 LL1 H locs hp hw => ?_)
        obtain ⟨t31_1, e_2, rfl, rfl⟩ := hp
        have hw : Wd D A s.heap _ _ [[ob t 14 [.ref tm, .ref tl]], [(tm, aR dT 7 3 (fun i => (ads t2)[i]?))], (t2.flatMap (m2E dT)), (t31_1.flatMap (m3E dT)), [(tl, aI dT [(nI lf1.1), (nI lf1.2.1), (nI lf1.2.2)])], [ob b 4 [.ref fa]], ((ob fa 15 [.int u, .ref (al_d g st), .int (nI (ads mf).length)]) :: (al_t dT st (ads mf))), (mf.flatMap (mfE dT)), [ob h0 10 [.int (nI ln), .int (nI sz), .int x2, .ref h1, .ref h2, .int x9, .int x10], (h1, aI dT [x3, x4, x5]), (h2, aI dT [(nI lf0.1), (nI lf0.2.1), (nI lf0.2.2)])]] := hw
        refine W.eq (g2 := F0 m 104 ls []) rfl ?_
        refine lv_iinc (v := (nI (i + 1))) (lv' := [(7, .int (nI (i + 1))), (6, .int ((skG (f_X12_add v (nI (sumF l1))) l1) 2)), (5, .int ((skG (f_X12_add v (nI (sumF l1))) l1) 1)), (8, .int (nI (sumF l1))), (4, .int (nI N)), (3, .int (nI T)), (2, .ref h0), (1, .ref b), (0, .ref t)]) hx hb dX15_length_104 hl (k := 3) rfl (nI_1 _) (by decide) rfl (fun ls hl => ?_)
        refine lv_goto (tgt := 15) hx hb dX15_length_107 (by decide) ?_
        have hw : Wd D A s.heap _ _ [[ob t 14 [.ref tm, .ref tl]], [(tm, aR dT 7 3 (fun i => (ads t2)[i]?))], (t2.flatMap (m2E dT)), (t31_1.flatMap (m3E dT)), [(tl, aI dT [(nI lf1.1), (nI lf1.2.1), (nI lf1.2.2)])], [ob b 4 [.ref fa]], ((ob fa 15 [.int u, .ref (al_d g st), .int (nI (ads mf).length)]) :: (al_t dT st (ads mf))), (mf.flatMap (mfE dT)), [ob h0 10 [.int (nI ln), .int (nI sz), .int x2, .ref h1, .ref h2, .int x9, .int x10], (h1, aI dT [x3, x4, x5]), (h2, aI dT [(nI lf0.1), (nI lf0.2.1), (nI lf0.2.2)])]] := Wd.take hw [0, 0, 0, 0, 0, 0, 0, 0, 0] rfl rfl
        have hl9 := lv_sub hl [0, 1, 2, 4, 5, 6, 7, 8] rfl
        have hRES2 : rlW T ln sz n lf1 (goL l1) (skG (f_X12_add v (nI (sumF l1))) l1) = RES := by rw [← hRES, rlW_S hR1 hnz]
        exact ih (i + 1) lf1 (goL l1) (skG (f_X12_add v (nI (sumF l1))) l1) _ _ _ _ (by omega) hlf1 hRES2 (by rw [skG_low (by decide), add_0, hv0, nI_1]) (e_2.2 l1 hTab1) (e_2.1.trans hta1) (goL_ok hfl1) (Nat.le_trans goL_le hlen1) hl9 hw
    · refine lv_iload hx hb dX15_length_56 (lv_at hl 2 rfl) ?_
      refine lv_iload hx hb dX15_length_58 (lv_at hl 3 rfl) ?_
      refine lv_isub hx hb dX15_length_60 ?_
      refine lv_iconst (v := 4) hx hb dX15_length_61 (by decide) ?_
      refine lv_icmp_ge (tgt := 70) hx hb dX15_length_62 (by decide) (fun c_62 => ?_) (fun c_62 => ?_)
      · refine lv_iconst (v := 0) hx hb dX15_length_70 (by decide) ?_
        have hw : Wd D A s.heap _ _ [[ob t 14 [.ref tm, .ref tl]], [(tm, aR dT 7 3 (fun i => (ads t2)[i]?))], (t2.flatMap (m2E dT)), (t31.flatMap (m3E dT)), [(tl, aI dT [(nI lf1.1), (nI lf1.2.1), (nI lf1.2.2)])], [ob b 4 [.ref fa]], ((ob fa 15 [.int u, .ref (al_d g st), .int (nI (ads mf).length)]) :: (al_t dT st (ads mf))), (mf.flatMap (mfE dT)), [ob h0 10 [.int (nI ln), .int (nI sz), .int x2, .ref h1, .ref h2, .int x9, .int x10], (h1, aI dT [x3, x4, x5]), (h2, aI dT [(nI lf0.1), (nI lf0.2.1), (nI lf0.2.2)])]] := Wd.take hw [0, 0, 0, 0, 0, 0, 0, 0, 0] rfl rfl
        have hz9 : l1.length = 0 := sum_z hfl1 ((nI_eq (b := 0) hs1 (by decide)).mp c_53)
        have hRES2 : RES = (lf1, l1, v) := by rw [← hRES, rlW_0 hR1 hz9]
        exact KR 71 0 lf1 t31 _ _ _ dX15_length_71 (by rw [hRES2]; exact (if_neg (Int32.not_lt.mpr c_62)).symm) hta1 hw
      · refine lv_iload hx hb dX15_length_65 (lv_at hl 1 rfl) ?_
        refine lv_goto (tgt := 71) hx hb dX15_length_67 (by decide) ?_
        have hw : Wd D A s.heap _ _ [[ob t 14 [.ref tm, .ref tl]], [(tm, aR dT 7 3 (fun i => (ads t2)[i]?))], (t2.flatMap (m2E dT)), (t31.flatMap (m3E dT)), [(tl, aI dT [(nI lf1.1), (nI lf1.2.1), (nI lf1.2.2)])], [ob b 4 [.ref fa]], ((ob fa 15 [.int u, .ref (al_d g st), .int (nI (ads mf).length)]) :: (al_t dT st (ads mf))), (mf.flatMap (mfE dT)), [ob h0 10 [.int (nI ln), .int (nI sz), .int x2, .ref h1, .ref h2, .int x9, .int x10], (h1, aI dT [x3, x4, x5]), (h2, aI dT [(nI lf0.1), (nI lf0.2.1), (nI lf0.2.2)])]] := Wd.take hw [0, 0, 0, 0, 0, 0, 0, 0, 0] rfl rfl
        have hz9 : l1.length = 0 := sum_z hfl1 ((nI_eq (b := 0) hs1 (by decide)).mp c_53)
        have hRES2 : RES = (lf1, l1, v) := by rw [← hRES, rlW_0 hR1 hz9]
        exact KR 71 (nI i) lf1 t31 _ _ _ dX15_length_71 (by rw [hRES2]; exact ((if_pos (Int32.not_le.mp c_62)).trans (hv0)).symm) hta1 hw
set_option maxHeartbeats 4000000 in
theorem k_X15_length (l : Launch) (D : va_G) (dT g : Nat → Nat) (z0 : Nat) (t : Nat) (tm : Nat) (tl : Nat) (t2 : T2T) (t3 : T3T) (lf9 : Lf) (b : Nat) (fa : Nat) (u : Int32) (st : Option (Nat × Nat)) (mf : MfT) (h0 : Nat) (h1 : Nat) (h2 : Nat) (ln : Nat) (sz : Nat) (x2 : Int32) (x9 : Int32) (x10 : Int32) (x3 : Int32) (x4 : Int32) (x5 : Int32) (lf : Lf) (T : Nat) (n : Nat) (hT : tabOK t2 (ads t3)) (hln : ln < 4) (hsz1 : 2 ≤ sz) (hsz2 : sz ≤ 6) (hT40 : T ≤ 40) (hN : n < 2 ^ 30) (hlf : lfN lf < 2 ^ 20) (hfi : ∀ q ∈ mf, okF q.2) (hlen : mf.length ≤ 40) (hok : alOK st (ads mf)) : Con l D dT g z0 yX15_length (ws_ yX15_length cX15_length 9 (some .int)) ({ frames := 9, cells := 0, slots := 0, locals := 240 }) [.ref t, .ref b, .ref h0, .int (nI T), .int (nI n)] [[ob t 14 [.ref tm, .ref tl]], [(tm, aR dT 7 3 (fun i => (ads t2)[i]?))], (t2.flatMap (m2E dT)), (t3.flatMap (m3E dT)), [(tl, aI dT [(nI lf9.1), (nI lf9.2.1), (nI lf9.2.2)])], [ob b 4 [.ref fa]], ((ob fa 15 [.int u, .ref (al_d g st), .int (nI (ads mf).length)]) :: (al_t dT st (ads mf))), (mf.flatMap (mfE dT)), [ob h0 10 [.int (nI ln), .int (nI sz), .int x2, .ref h1, .ref h2, .int x9, .int x10], (h1, aI dT [x3, x4, x5]), (h2, aI dT [(nI lf.1), (nI lf.2.1), (nI lf.2.2)])]] (fun r LL => ∃ (lf1 : Lf) (t31 : T3T), (ads t31 = ads t3) ∧ r = some (.int (tl_val (rlW T ln sz n lf (valm mf) f_X12_init).2.2)) ∧ LL = [[ob t 14 [.ref tm, .ref tl]], [(tm, aR dT 7 3 (fun i => (ads t2)[i]?))], (t2.flatMap (m2E dT)), (t31.flatMap (m3E dT)), [(tl, aI dT [(nI lf1.1), (nI lf1.2.1), (nI lf1.2.2)])], [ob b 4 [.ref fa]], ((ob fa 15 [.int u, .ref (al_d g st), .int (nI (ads mf).length)]) :: (al_t dT st (ads mf))), (mf.flatMap (mfE dT)), [ob h0 10 [.int (nI ln), .int (nI sz), .int x2, .ref h1, .ref h2, .int x9, .int x10], (h1, aI dT [x3, x4, x5]), (h2, aI dT [(nI lf.1), (nI lf.2.1), (nI lf.2.2)])]]) noX 0 0 := by
  refine Con.of (maxL := 9) (ret := (some .int)) (by first | exact plainFor_of_name (by decide) | decide +kernel) (Nat.le_of_ble_eq_true rfl) ?_
  intro p e s m args below meth c A ls hf hr hlocks hnm hno hK hA hAz hw hl hst
  have hf : CallFix p m c cX15_length 9 s args lw_all "SilkRowModel$Trial" := hf
  have hnm : meth.name = "length" := hnm
  have hx := hf.1
  have hb := hf.2.1
  have hts := hf.2.2.2.2
  have hl : lv_has ls 9 [(0, .ref t), (1, .ref b), (2, .ref h0), (3, .int (nI T)), (4, .int (nI n))] := hl
  have hw : Wd D A s.heap s.heap [] [[ob t 14 [.ref tm, .ref tl]], [(tm, aR dT 7 3 (fun i => (ads t2)[i]?))], (t2.flatMap (m2E dT)), (t3.flatMap (m3E dT)), [(tl, aI dT [(nI lf9.1), (nI lf9.2.1), (nI lf9.2.2)])], [ob b 4 [.ref fa]], ((ob fa 15 [.int u, .ref (al_d g st), .int (nI (ads mf).length)]) :: (al_t dT st (ads mf))), (mf.flatMap (mfE dT)), [ob h0 10 [.int (nI ln), .int (nI sz), .int x2, .ref h1, .ref h2, .int x9, .int x10], (h1, aI dT [x3, x4, x5]), (h2, aI dT [(nI lf.1), (nI lf.2.1), (nI lf.2.2)])]] := hw
  refine lv_aload_n hx hb dX15_length_0 rfl (lv_at hl 0 rfl) ?_
  refine lv_aload_n hx hb dX15_length_1 rfl (lv_at hl 1 rfl) ?_
  refine lv_aload_n hx hb dX15_length_2 rfl (lv_at hl 2 rfl) ?_
  refine xc_V (rest := []) (As := [.ref b, .ref h0]) hf hK hA hAz hst (hw.pick [0, 0, 0, 0, 0, 0, 0, 0, 0] rfl rfl rfl) (k_X15_begin l D dT g z0 t tm tl t2 t3 lf9 b fa u st mf h0 h1 h2 ln sz x2 x9 x10 x3 x4 x5 lf hT hok hfi) (cwV 2 hts (lw_V q1636 q1638 qs39 q76 q1639) rfl rfl rfl (by decide +kernel) ⟨Nat.le_of_ble_eq_true rfl, Nat.le_of_ble_eq_true rfl⟩) (xr_rv hK hw 0 0 rfl rfl) rfl hl.1 rfl (Nat.le_of_ble_eq_true rfl) dX15_length_3 ⟨(Nat.le_of_ble_eq_true rfl), (Nat.le_of_ble_eq_true rfl)⟩ (fun _ _ _ _ _ _ h => h.elim) (fun v9 LL1 H locs hp hw => ?_)
  obtain ⟨t31_1, e_2, rfl, rfl⟩ := hp
  have hw : Wd D A s.heap _ _ [[ob t 14 [.ref tm, .ref tl]], [(tm, aR dT 7 3 (fun i => (ads t2)[i]?))], (t2.flatMap (m2E dT)), (t31_1.flatMap (m3E dT)), [(tl, aI dT [(nI lf.1), (nI lf.2.1), (nI lf.2.2)])], [ob b 4 [.ref fa]], ((ob fa 15 [.int u, .ref (al_d g st), .int (nI (ads mf).length)]) :: (al_t dT st (ads mf))), (mf.flatMap (mfE dT)), [ob h0 10 [.int (nI ln), .int (nI sz), .int x2, .ref h1, .ref h2, .int x9, .int x10], (h1, aI dT [x3, x4, x5]), (h2, aI dT [(nI lf.1), (nI lf.2.1), (nI lf.2.2)])]] := hw
  refine W.eq (g2 := F0 m 6 ls []) rfl ?_
  refine lv_iconst (v := 0) hx hb dX15_length_6 (by decide) ?_
  refine lv_as (y := (f_X12_init 1)) (by decide) ?_
  refine lv_istore (lv' := [(5, .int (f_X12_init 1)), (0, .ref t), (1, .ref b), (2, .ref h0), (3, .int (nI T)), (4, .int (nI n))]) hx hb dX15_length_7 hl (by decide) rfl (fun ls hl => ?_)
  refine lv_iconst (v := 0) hx hb dX15_length_9 (by decide) ?_
  refine lv_as (y := (f_X12_init 2)) (by decide) ?_
  refine lv_istore (lv' := [(6, .int (f_X12_init 2)), (5, .int (f_X12_init 1)), (0, .ref t), (1, .ref b), (2, .ref h0), (3, .int (nI T)), (4, .int (nI n))]) hx hb dX15_length_10 hl (by decide) rfl (fun ls hl => ?_)
  refine lv_iconst (v := 0) hx hb dX15_length_12 (by decide) ?_
  refine lv_as (y := (nI 0)) (by decide) ?_
  refine lv_istore (lv' := [(7, .int (nI 0)), (6, .int (f_X12_init 2)), (5, .int (f_X12_init 1)), (0, .ref t), (1, .ref b), (2, .ref h0), (3, .int (nI T)), (4, .int (nI n))]) hx hb dX15_length_13 hl (by decide) rfl (fun ls hl => ?_)
  have hw : Wd D A s.heap _ _ [[ob t 14 [.ref tm, .ref tl]], [(tm, aR dT 7 3 (fun i => (ads t2)[i]?))], (t2.flatMap (m2E dT)), (t31_1.flatMap (m3E dT)), [(tl, aI dT [(nI lf.1), (nI lf.2.1), (nI lf.2.2)])], [ob b 4 [.ref fa]], ((ob fa 15 [.int u, .ref (al_d g st), .int (nI (ads mf).length)]) :: (al_t dT st (ads mf))), (mf.flatMap (mfE dT)), [ob h0 10 [.int (nI ln), .int (nI sz), .int x2, .ref h1, .ref h2, .int x9, .int x10], (h1, aI dT [x3, x4, x5]), (h2, aI dT [(nI lf.1), (nI lf.2.1), (nI lf.2.2)])]] := Wd.take hw [0, 0, 0, 0, 0, 0, 0, 0, 0] rfl rfl
  have hl9 := lv_sub hl [0, 1, 2, 7, 6, 5, 4, 3] rfl
  refine wl_tl (N := n) (RES := rlW T ln sz n lf (valm mf) f_X12_init) hf hK hA hAz hst hT hln hsz1 hsz2 hT40 (Nat.le_refl _) (Nat.le_refl _) hN ?_ n 0 lf (valm mf) f_X12_init _ _ _ _ (Nat.zero_add _) hlf rfl rfl e_2.2 e_2.1 (fun f9 h9 => by obtain ⟨q9, h8, rfl⟩ := List.mem_map.mp h9; exact hfi q9 h8) (by rw [valm_len]; exact hlen) hl9 hw
  intro pc r lf1 t31 ls H locs dR hr9 hta hw
  exact xr_iret hf hr hlocks hw (Nat.le_refl _) (Nat.le_refl _) ⟨lf1, t31, hta, congrArg (fun z => some (Value.int z)) hr9, rfl⟩ dR

