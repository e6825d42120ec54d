/-! 84.mjoins (printed by gen/silk.py) -/
set_option maxRecDepth 100000
set_option maxHeartbeats 4000000 in
theorem wl_mjn {p : Program} {l : Launch} {e : Env} {s : State} {m : MethodId} {args : Array Value} {below : List Frame} {meth : Method} {c : Code} {A : Nat → Prop} {Q : State → Prop} {D : va_G} {dT g : Nat → Nat} {z0 mc ms : Nat} (hf : CallFix p m c cX5_reel 7 s args lw_all "SilkRowModel$Basin") (hK : KK D dT g z0 s s.heap) (hA : ∀ q, s.heap.size ≤ q → A q) (hAz : ∀ q, A q → zA z0 q) (hst : l.stackTraces = false) {b fa h0 h1 h2 qs ln sz T : Nat} {x2 x9 x10 x3 x4 x5 : Int32} {S0 : va_W} {y6 y4 : Int32} {RES : Lf × List FvT} {Y Z : Nat} (hln : ln < 4) (hsz1 : 2 ≤ sz) (hsz2 : sz ≤ 6) (hT : T ≤ 40) (K39 : ∀ (lf : Lf) (mf : MfT) (u : Int32) (st : Option (Nat × Nat)) (ls : Array Slot) (H : Heap) (locs : List Loc) (kc ks : Nat), RES = (lf, valm mf) → (∀ q ∈ mf, okF q.2) → mf.length ≤ 40 → alOK st (ads mf) → alC st → kc + al_pot st + Y ≤ mc → ks + al_potS st + Z ≤ ms → lv_has ls 7 [(6, .int y6), (5, .ref qs), (4, .int y4), (3, .int (nI T)), (2, .ref h2), (1, .ref h0), (0, .ref b)] → Wd D A s.heap H locs [[ob b 4 [.ref fa]], ((ob fa 15 [.int u, .ref (al_d g st), .int (nI (ads mf).length)]) :: (al_t dT st (ads mf))), (mf.flatMap (mfE dT)), [ob h0 10 [.int (nI ln), .int (nI sz), .int x2, .ref h1, .ref h2, .int x9, .int x10], (h1, aI dT [x3, x4, x5]), (h2, aI dT [(nI lf.1), (nI lf.2.1), (nI lf.2.2)])], S0] → W p l e ({ frames := 12, cells := mc, slots := ms, locals := 300 }) s m args below meth c H locs kc ks Q (F0 m 39 ls [])) : ∀ (n : Nat) (lf : Lf) (mf : MfT) (u : Int32) (st : Option (Nat × Nat)) (ls : Array Slot) (H : Heap) (locs : List Loc) (kc ks : Nat), lfN lf = n → lfN lf < 2 ^ 20 → jn T ln sz lf (valm mf) = RES → (∀ q ∈ mf, okF q.2) → mf.length ≤ 40 → alOK st (ads mf) → alC st → kc + (RES.2.length - mf.length) + al_pot st + Y ≤ mc → ks + 4 * (RES.2.length - mf.length) + al_potS st + Z ≤ ms → lv_has ls 7 [(6, .int y6), (5, .ref qs), (4, .int y4), (3, .int (nI T)), (2, .ref h2), (1, .ref h0), (0, .ref b)] → Wd D A s.heap H locs [[ob b 4 [.ref fa]], ((ob fa 15 [.int u, .ref (al_d g st), .int (nI (ads mf).length)]) :: (al_t dT st (ads mf))), (mf.flatMap (mfE dT)), [ob h0 10 [.int (nI ln), .int (nI sz), .int x2, .ref h1, .ref h2, .int x9, .int x10], (h1, aI dT [x3, x4, x5]), (h2, aI dT [(nI lf.1), (nI lf.2.1), (nI lf.2.2)])], S0] → W p l e ({ frames := 12, cells := mc, slots := ms, locals := 300 }) s m args below meth c H locs kc ks Q (F0 m 19 ls []) := by
  have hx := hf.1
  have hb := hf.2.1
  have hts := hf.2.2.2.2
  intro n
  induction n with
  | zero =>
    intro lf mf u st ls H locs kc ks hn hlf hRES hfi hlen hok hC hkc hks hl hw
    have hw : Wd D A s.heap _ _ [[ob b 4 [.ref fa]], ((ob fa 15 [.int u, .ref (al_d g st), .int (nI (ads mf).length)]) :: (al_t dT st (ads mf))), (mf.flatMap (mfE dT)), [ob h0 10 [.int (nI ln), .int (nI sz), .int x2, .ref h1, .ref h2, .int x9, .int x10], (h1, aI dT [x3, x4, x5]), (h2, aI dT [(nI lf.1), (nI lf.2.1), (nI lf.2.2)])], S0] := hw
    refine lv_aload_n hx hb dX5_reel_19 rfl (lv_at hl 6 rfl) ?_
    refine xc_V (rest := []) (As := []) hf hK hA hAz hst (hw.pick [0, 0, 0] rfl rfl rfl) (k_X5_sum l D dT g z0 b fa u st mf hok hfi) (cwV 0 hts (lw_V q1480 q1481 q1482 q55 q1483) rfl rfl rfl (by decide +kernel) ⟨Nat.le_of_ble_eq_true rfl, Nat.le_of_ble_eq_true rfl⟩) (xr_rv hK hw 0 0 rfl rfl) rfl hl.1 rfl (Nat.le_of_ble_eq_true rfl) dX5_reel_20 ⟨(by first | omega | (dsimp only; omega)), (by first | omega | (dsimp only; omega))⟩ (fun _ _ _ _ _ _ h => h.elim) (fun v9 LL1 H locs hp hw => ?_)
    obtain ⟨rfl, rfl⟩ := hp
    have hw : Wd D A s.heap _ _ [[ob b 4 [.ref fa]], ((ob fa 15 [.int u, .ref (al_d g st), .int (nI (ads mf).length)]) :: (al_t dT st (ads mf))), (mf.flatMap (mfE dT)), [ob h0 10 [.int (nI ln), .int (nI sz), .int x2, .ref h1, .ref h2, .int x9, .int x10], (h1, aI dT [x3, x4, x5]), (h2, aI dT [(nI lf.1), (nI lf.2.1), (nI lf.2.2)])], S0] := hw
    refine W.eq (g2 := F0 m 23 ls [.int (nI (sumF (valm mf)))]) rfl ?_
    refine lv_iload_n hx hb dX5_reel_23 rfl (lv_at hl 3 rfl) ?_
    refine lv_icmp_ge (tgt := 39) hx hb dX5_reel_24 (by decide) (fun c_24 => ?_) (fun c_24 => ?_)
    · have hw : Wd D A s.heap _ _ [[ob b 4 [.ref fa]], ((ob fa 15 [.int u, .ref (al_d g st), .int (nI (ads mf).length)]) :: (al_t dT st (ads mf))), (mf.flatMap (mfE dT)), [ob h0 10 [.int (nI ln), .int (nI sz), .int x2, .ref h1, .ref h2, .int x9, .int x10], (h1, aI dT [x3, x4, x5]), (h2, aI dT [(nI lf.1), (nI lf.2.1), (nI lf.2.2)])], S0] := Wd.take hw [0, 0, 0, 0, 0] rfl rfl
      have hl9 := lv_sub hl [0, 1, 2, 3, 4, 5, 6] rfl
      exact K39 lf mf u st _ _ _ _ _ (by rw [← hRES, jn_stop ((nI_leI (by omega) (by have := (mf_sum hfi).2; omega)).mp c_24)]) hfi hlen hok hC (by omega) (by omega) hl9 hw
    · refine lv_aload_n hx hb dX5_reel_27 rfl (lv_at hl 6 rfl) ?_
      refine lv_aload_n hx hb dX5_reel_28 rfl (lv_at hl 5 rfl) ?_
      refine lv_aload_n hx hb dX5_reel_29 rfl (lv_at hl 4 rfl) ?_
      have hk : lf.1 = 0 ∧ lf.2.1 = 0 ∧ lf.2.2 = 0 := by unfold lfN at hn; omega
      have hz9 : RES.2.length - mf.length = 0 := by rw [← hRES, jn_none (by unfold lfN; omega)]; show (valm mf).length - _ = 0; rw [valm_len, Nat.sub_self]
      refine xc_V (rest := []) (As := [.ref h0, .ref h2]) hf hK hA hAz hst (hw.pick [0, 0, 0, 0] rfl rfl rfl) (k_X5_join_none l D dT g z0 b fa u st mf h0 h1 h2 ln sz x2 x9 x10 x3 x4 x5 lf hok hlf hk) (cwV 2 hts (lw_V q1496 q1498 qs27 q55 q1499) rfl rfl rfl (by decide +kernel) ⟨Nat.le_of_ble_eq_true rfl, Nat.le_of_ble_eq_true rfl⟩) (xr_rv hK hw 0 0 rfl rfl) rfl hl.1 rfl (Nat.le_of_ble_eq_true rfl) dX5_reel_30 ⟨(by first | omega | (dsimp only; omega)), (by first | omega | (dsimp only; omega))⟩ (fun _ _ _ _ _ _ h => h.elim) (fun v9 LL1 H locs hp hw => ?_)
      obtain ⟨rfl, rfl⟩ := hp
      have hw : Wd D A s.heap _ _ [[ob b 4 [.ref fa]], ((ob fa 15 [.int u, .ref (al_d g st), .int (nI (ads mf).length)]) :: (al_t dT st (ads mf))), (mf.flatMap (mfE dT)), [ob h0 10 [.int (nI ln), .int (nI sz), .int x2, .ref h1, .ref h2, .int x9, .int x10], (h1, aI dT [x3, x4, x5]), (h2, aI dT [(nI lf.1), (nI lf.2.1), (nI lf.2.2)])], S0] := hw
      refine W.eq (g2 := F0 m 33 ls [.int 0]) rfl ?_
      refine lv_if_eq (tgt := 39) hx hb dX5_reel_33 (by decide) (fun _ => ?_) (fun c9 => absurd c9 (by decide))
      have hw : Wd D A s.heap _ _ [[ob b 4 [.ref fa]], ((ob fa 15 [.int u, .ref (al_d g st), .int (nI (ads mf).length)]) :: (al_t dT st (ads mf))), (mf.flatMap (mfE dT)), [ob h0 10 [.int (nI ln), .int (nI sz), .int x2, .ref h1, .ref h2, .int x9, .int x10], (h1, aI dT [x3, x4, x5]), (h2, aI dT [(nI lf.1), (nI lf.2.1), (nI lf.2.2)])], S0] := Wd.take hw [0, 0, 0, 0, 0] rfl rfl
      have hl9 := lv_sub hl [0, 1, 2, 3, 4, 5, 6] rfl
      exact K39 lf mf u st _ _ _ _ _ (by rw [← hRES, jn_none (by unfold lfN; omega)]) hfi hlen hok hC (by omega) (by omega) hl9 hw
  | succ n ih =>
    intro lf mf u st ls H locs kc ks hn hlf hRES hfi hlen hok hC hkc hks hl hw
    have hw : Wd D A s.heap _ _ [[ob b 4 [.ref fa]], ((ob fa 15 [.int u, .ref (al_d g st), .int (nI (ads mf).length)]) :: (al_t dT st (ads mf))), (mf.flatMap (mfE dT)), [ob h0 10 [.int (nI ln), .int (nI sz), .int x2, .ref h1, .ref h2, .int x9, .int x10], (h1, aI dT [x3, x4, x5]), (h2, aI dT [(nI lf.1), (nI lf.2.1), (nI lf.2.2)])], S0] := hw
    refine lv_aload_n hx hb dX5_reel_19 rfl (lv_at hl 6 rfl) ?_
    refine xc_V (rest := []) (As := []) hf hK hA hAz hst (hw.pick [0, 0, 0] rfl rfl rfl) (k_X5_sum l D dT g z0 b fa u st mf hok hfi) (cwV 0 hts (lw_V q1480 q1481 q1482 q55 q1483) rfl rfl rfl (by decide +kernel) ⟨Nat.le_of_ble_eq_true rfl, Nat.le_of_ble_eq_true rfl⟩) (xr_rv hK hw 0 0 rfl rfl) rfl hl.1 rfl (Nat.le_of_ble_eq_true rfl) dX5_reel_20 ⟨(by first | omega | (dsimp only; omega)), (by first | omega | (dsimp only; omega))⟩ (fun _ _ _ _ _ _ h => h.elim) (fun v9 LL1 H locs hp hw => ?_)
    obtain ⟨rfl, rfl⟩ := hp
    have hw : Wd D A s.heap _ _ [[ob b 4 [.ref fa]], ((ob fa 15 [.int u, .ref (al_d g st), .int (nI (ads mf).length)]) :: (al_t dT st (ads mf))), (mf.flatMap (mfE dT)), [ob h0 10 [.int (nI ln), .int (nI sz), .int x2, .ref h1, .ref h2, .int x9, .int x10], (h1, aI dT [x3, x4, x5]), (h2, aI dT [(nI lf.1), (nI lf.2.1), (nI lf.2.2)])], S0] := hw
    refine W.eq (g2 := F0 m 23 ls [.int (nI (sumF (valm mf)))]) rfl ?_
    refine lv_iload_n hx hb dX5_reel_23 rfl (lv_at hl 3 rfl) ?_
    refine lv_icmp_ge (tgt := 39) hx hb dX5_reel_24 (by decide) (fun c_24 => ?_) (fun c_24 => ?_)
    · have hw : Wd D A s.heap _ _ [[ob b 4 [.ref fa]], ((ob fa 15 [.int u, .ref (al_d g st), .int (nI (ads mf).length)]) :: (al_t dT st (ads mf))), (mf.flatMap (mfE dT)), [ob h0 10 [.int (nI ln), .int (nI sz), .int x2, .ref h1, .ref h2, .int x9, .int x10], (h1, aI dT [x3, x4, x5]), (h2, aI dT [(nI lf.1), (nI lf.2.1), (nI lf.2.2)])], S0] := Wd.take hw [0, 0, 0, 0, 0] rfl rfl
      have hl9 := lv_sub hl [0, 1, 2, 3, 4, 5, 6] rfl
      exact K39 lf mf u st _ _ _ _ _ (by rw [← hRES, jn_stop ((nI_leI (by omega) (by have := (mf_sum hfi).2; omega)).mp c_24)]) hfi hlen hok hC (by omega) (by omega) hl9 hw
    · refine lv_aload_n hx hb dX5_reel_27 rfl (lv_at hl 6 rfl) ?_
      refine lv_aload_n hx hb dX5_reel_28 rfl (lv_at hl 5 rfl) ?_
      refine lv_aload_n hx hb dX5_reel_29 rfl (lv_at hl 4 rfl) ?_
      have hlt : ¬ T ≤ sumF (valm mf) := fun z => c_24 ((nI_leI (by omega) (by have := (mf_sum hfi).2; omega)).mpr z)
      have hl40 : mf.length < 40 := by have := (mf_sum hfi).1; omega
      have hG9 := al_grow (d := 0) (x := 0) hC hok (by rw [ads_len]; exact hl40)
      rcases jn_cases lf with hk | hk | hk | hk
      · have hz9 : RES.2.length - mf.length = 0 := by rw [← hRES, jn_none (by unfold lfN; omega)]; show (valm mf).length - _ = 0; rw [valm_len, Nat.sub_self]
        refine xc_V (rest := []) (As := [.ref h0, .ref h2]) hf hK hA hAz hst (hw.pick [0, 0, 0, 0] rfl rfl rfl) (k_X5_join_none l D dT g z0 b fa u st mf h0 h1 h2 ln sz x2 x9 x10 x3 x4 x5 lf hok hlf hk) (cwV 2 hts (lw_V q1496 q1498 qs27 q55 q1499) rfl rfl rfl (by decide +kernel) ⟨Nat.le_of_ble_eq_true rfl, Nat.le_of_ble_eq_true rfl⟩) (xr_rv hK hw 0 0 rfl rfl) rfl hl.1 rfl (Nat.le_of_ble_eq_true rfl) dX5_reel_30 ⟨(by first | omega | (dsimp only; omega)), (by first | omega | (dsimp only; omega))⟩ (fun _ _ _ _ _ _ h => h.elim) (fun v9 LL1 H locs hp hw => ?_)
        obtain ⟨rfl, rfl⟩ := hp
        have hw : Wd D A s.heap _ _ [[ob b 4 [.ref fa]], ((ob fa 15 [.int u, .ref (al_d g st), .int (nI (ads mf).length)]) :: (al_t dT st (ads mf))), (mf.flatMap (mfE dT)), [ob h0 10 [.int (nI ln), .int (nI sz), .int x2, .ref h1, .ref h2, .int x9, .int x10], (h1, aI dT [x3, x4, x5]), (h2, aI dT [(nI lf.1), (nI lf.2.1), (nI lf.2.2)])], S0] := hw
        refine W.eq (g2 := F0 m 33 ls [.int 0]) rfl ?_
        refine lv_if_eq (tgt := 39) hx hb dX5_reel_33 (by decide) (fun _ => ?_) (fun c9 => absurd c9 (by decide))
        have hw : Wd D A s.heap _ _ [[ob b 4 [.ref fa]], ((ob fa 15 [.int u, .ref (al_d g st), .int (nI (ads mf).length)]) :: (al_t dT st (ads mf))), (mf.flatMap (mfE dT)), [ob h0 10 [.int (nI ln), .int (nI sz), .int x2, .ref h1, .ref h2, .int x9, .int x10], (h1, aI dT [x3, x4, x5]), (h2, aI dT [(nI lf.1), (nI lf.2.1), (nI lf.2.2)])], S0] := Wd.take hw [0, 0, 0, 0, 0] rfl rfl
        have hl9 := lv_sub hl [0, 1, 2, 3, 4, 5, 6] rfl
        exact K39 lf mf u st _ _ _ _ _ (by rw [← hRES, jn_none (by unfold lfN; omega)]) hfi hlen hok hC (by omega) (by omega) hl9 hw
      · have hne9 : lfN lf ≠ 0 := by unfold lfN; omega
        have hRES2 := (jn_go (ln := ln) (sz := sz) hlt hne9).symm.trans hRES
        rw [(jnF_0 hk).1, (jnF_0 hk).2] at hRES2
        have hR9 : mf.length + 1 ≤ RES.2.length := by have h9 := jn_len (T := T) (ln := ln) (sz := sz) (f := (lf.1 - 1, lf.2.1, lf.2.2)) (l := valm mf ++ [(ln, 0, sz, 0)]); rw [hRES2, List.length_append, valm_len] at h9; exact h9
        refine xc_V (rest := []) (As := [.ref h0, .ref h2]) hf hK hA hAz hst (hw.pick [0, 0, 0, 0] rfl rfl rfl) (k_X5_join_k0 l D dT g z0 b fa u st mf h0 h1 h2 ln sz x2 x9 x10 x3 x4 x5 lf hok hlf hk) (cwV 2 hts (lw_V q1496 q1498 qs27 q55 q1499) rfl rfl rfl (by decide +kernel) ⟨Nat.le_of_ble_eq_true rfl, Nat.le_of_ble_eq_true rfl⟩) (xr_rv hK hw 0 0 rfl rfl) rfl hl.1 rfl (Nat.le_of_ble_eq_true rfl) dX5_reel_30 ⟨(by first | omega | (dsimp only; omega)), (by first | omega | (dsimp only; omega))⟩ (fun _ _ _ _ _ _ h => h.elim) (fun v9 LL1 H locs hp hw => ?_)
        obtain ⟨qa_1, dn_2, rfl, rfl⟩ := hp
        have hw : Wd D A s.heap _ _ [[ob b 4 [.ref fa]], ((ob fa 15 [.int (u + 1), .ref (al_d g (al_n st (ads mf) dn_2)), .int (nI (ads (mf ++ [(qa_1, (ln, 0, sz, 0))])).length)]) :: (al_t dT (al_n st (ads mf) dn_2) (ads (mf ++ [(qa_1, (ln, 0, sz, 0))])))), ((mf ++ [(qa_1, (ln, 0, sz, 0))]).flatMap (mfE dT)), [ob h0 10 [.int (nI ln), .int (nI sz), .int x2, .ref h1, .ref h2, .int x9, .int x10], (h1, aI dT [x3, x4, x5]), (h2, aI dT [(nI (lf.1 - 1, lf.2.1, lf.2.2).1), (nI (lf.1 - 1, lf.2.1, lf.2.2).2.1), (nI (lf.1 - 1, lf.2.1, lf.2.2).2.2)])], S0] := hw
        refine W.eq (g2 := F0 m 33 ls [.int 1]) rfl ?_
        refine lv_if_eq (tgt := 39) hx hb dX5_reel_33 (by decide) (fun c9 => absurd c9 (by decide)) (fun _ => ?_)
        refine lv_goto (tgt := 19) hx hb dX5_reel_36 (by decide) ?_
        have hw : Wd D A s.heap _ _ [[ob b 4 [.ref fa]], ((ob fa 15 [.int (u + 1), .ref (al_d g (al_n st (ads mf) dn_2)), .int (nI (ads (mf ++ [(qa_1, (ln, 0, sz, 0))])).length)]) :: (al_t dT (al_n st (ads mf) dn_2) (ads (mf ++ [(qa_1, (ln, 0, sz, 0))])))), ((mf ++ [(qa_1, (ln, 0, sz, 0))]).flatMap (mfE dT)), [ob h0 10 [.int (nI ln), .int (nI sz), .int x2, .ref h1, .ref h2, .int x9, .int x10], (h1, aI dT [x3, x4, x5]), (h2, aI dT [(nI (lf.1 - 1, lf.2.1, lf.2.2).1), (nI (lf.1 - 1, lf.2.1, lf.2.2).2.1), (nI (lf.1 - 1, lf.2.1, lf.2.2).2.2)])], S0] := Wd.take hw [0, 0, 0, 0, 0] rfl rfl
        have hl9 := lv_sub hl [0, 1, 2, 3, 4, 5, 6] rfl
        have e9 : ads (mf ++ [(qa_1, (ln, 0, sz, 0))]) = ads mf ++ [qa_1] := ads_snoc _ _
        have hG8 := al_grow (d := dn_2) (x := qa_1) hC hok (by rw [ads_len]; exact hl40)
        rw [← e9] at hG8
        have hv9 : valm (mf ++ [(qa_1, (ln, 0, sz, 0))]) = valm mf ++ [(ln, 0, sz, 0)] := valm_app _ _
        have hL9 : (mf ++ [(qa_1, (ln, 0, sz, 0))]).length = mf.length + 1 := snoc_len
        have hn9 : lfN (lf.1 - 1, lf.2.1, lf.2.2) = lfN lf - 1 := by unfold lfN; dsimp only; omega
        exact ih (lf.1 - 1, lf.2.1, lf.2.2) (mf ++ [(qa_1, (ln, 0, sz, 0))]) _ _ _ _ _ _ _ (by omega) (by omega) (by rw [hv9]; exact hRES2) (mf_all hfi (okF_new hln hsz1 hsz2 (by decide))) (by omega) hG8.2.1 hG8.1 (by omega) (by omega) hl9 hw
      · have hne9 : lfN lf ≠ 0 := by unfold lfN; omega
        have hRES2 := (jn_go (ln := ln) (sz := sz) hlt hne9).symm.trans hRES
        rw [(jnF_1 hk).1, (jnF_1 hk).2] at hRES2
        have hR9 : mf.length + 1 ≤ RES.2.length := by have h9 := jn_len (T := T) (ln := ln) (sz := sz) (f := (lf.1, lf.2.1 - 1, lf.2.2)) (l := valm mf ++ [(ln, 0, sz, 1)]); rw [hRES2, List.length_append, valm_len] at h9; exact h9
        refine xc_V (rest := []) (As := [.ref h0, .ref h2]) hf hK hA hAz hst (hw.pick [0, 0, 0, 0] rfl rfl rfl) (k_X5_join_k1 l D dT g z0 b fa u st mf h0 h1 h2 ln sz x2 x9 x10 x3 x4 x5 lf hok hlf hk) (cwV 2 hts (lw_V q1496 q1498 qs27 q55 q1499) rfl rfl rfl (by decide +kernel) ⟨Nat.le_of_ble_eq_true rfl, Nat.le_of_ble_eq_true rfl⟩) (xr_rv hK hw 0 0 rfl rfl) rfl hl.1 rfl (Nat.le_of_ble_eq_true rfl) dX5_reel_30 ⟨(by first | omega | (dsimp only; omega)), (by first | omega | (dsimp only; omega))⟩ (fun _ _ _ _ _ _ h => h.elim) (fun v9 LL1 H locs hp hw => ?_)
        obtain ⟨qa_1, dn_2, rfl, rfl⟩ := hp
        have hw : Wd D A s.heap _ _ [[ob b 4 [.ref fa]], ((ob fa 15 [.int (u + 1), .ref (al_d g (al_n st (ads mf) dn_2)), .int (nI (ads (mf ++ [(qa_1, (ln, 0, sz, 1))])).length)]) :: (al_t dT (al_n st (ads mf) dn_2) (ads (mf ++ [(qa_1, (ln, 0, sz, 1))])))), ((mf ++ [(qa_1, (ln, 0, sz, 1))]).flatMap (mfE dT)), [ob h0 10 [.int (nI ln), .int (nI sz), .int x2, .ref h1, .ref h2, .int x9, .int x10], (h1, aI dT [x3, x4, x5]), (h2, aI dT [(nI (lf.1, lf.2.1 - 1, lf.2.2).1), (nI (lf.1, lf.2.1 - 1, lf.2.2).2.1), (nI (lf.1, lf.2.1 - 1, lf.2.2).2.2)])], S0] := hw
        refine W.eq (g2 := F0 m 33 ls [.int 1]) rfl ?_
        refine lv_if_eq (tgt := 39) hx hb dX5_reel_33 (by decide) (fun c9 => absurd c9 (by decide)) (fun _ => ?_)
        refine lv_goto (tgt := 19) hx hb dX5_reel_36 (by decide) ?_
        have hw : Wd D A s.heap _ _ [[ob b 4 [.ref fa]], ((ob fa 15 [.int (u + 1), .ref (al_d g (al_n st (ads mf) dn_2)), .int (nI (ads (mf ++ [(qa_1, (ln, 0, sz, 1))])).length)]) :: (al_t dT (al_n st (ads mf) dn_2) (ads (mf ++ [(qa_1, (ln, 0, sz, 1))])))), ((mf ++ [(qa_1, (ln, 0, sz, 1))]).flatMap (mfE dT)), [ob h0 10 [.int (nI ln), .int (nI sz), .int x2, .ref h1, .ref h2, .int x9, .int x10], (h1, aI dT [x3, x4, x5]), (h2, aI dT [(nI (lf.1, lf.2.1 - 1, lf.2.2).1), (nI (lf.1, lf.2.1 - 1, lf.2.2).2.1), (nI (lf.1, lf.2.1 - 1, lf.2.2).2.2)])], S0] := Wd.take hw [0, 0, 0, 0, 0] rfl rfl
        have hl9 := lv_sub hl [0, 1, 2, 3, 4, 5, 6] rfl
        have e9 : ads (mf ++ [(qa_1, (ln, 0, sz, 1))]) = ads mf ++ [qa_1] := ads_snoc _ _
        have hG8 := al_grow (d := dn_2) (x := qa_1) hC hok (by rw [ads_len]; exact hl40)
        rw [← e9] at hG8
        have hv9 : valm (mf ++ [(qa_1, (ln, 0, sz, 1))]) = valm mf ++ [(ln, 0, sz, 1)] := valm_app _ _
        have hL9 : (mf ++ [(qa_1, (ln, 0, sz, 1))]).length = mf.length + 1 := snoc_len
        have hn9 : lfN (lf.1, lf.2.1 - 1, lf.2.2) = lfN lf - 1 := by unfold lfN; dsimp only; omega
        exact ih (lf.1, lf.2.1 - 1, lf.2.2) (mf ++ [(qa_1, (ln, 0, sz, 1))]) _ _ _ _ _ _ _ (by omega) (by omega) (by rw [hv9]; exact hRES2) (mf_all hfi (okF_new hln hsz1 hsz2 (by decide))) (by omega) hG8.2.1 hG8.1 (by omega) (by omega) hl9 hw
      · have hne9 : lfN lf ≠ 0 := by unfold lfN; omega
        have hRES2 := (jn_go (ln := ln) (sz := sz) hlt hne9).symm.trans hRES
        rw [(jnF_2 hk).1, (jnF_2 hk).2] at hRES2
        have hR9 : mf.length + 1 ≤ RES.2.length := by have h9 := jn_len (T := T) (ln := ln) (sz := sz) (f := (lf.1, lf.2.1, lf.2.2 - 1)) (l := valm mf ++ [(ln, 0, sz, 2)]); rw [hRES2, List.length_append, valm_len] at h9; exact h9
        refine xc_V (rest := []) (As := [.ref h0, .ref h2]) hf hK hA hAz hst (hw.pick [0, 0, 0, 0] rfl rfl rfl) (k_X5_join_k2 l D dT g z0 b fa u st mf h0 h1 h2 ln sz x2 x9 x10 x3 x4 x5 lf hok hlf hk) (cwV 2 hts (lw_V q1496 q1498 qs27 q55 q1499) rfl rfl rfl (by decide +kernel) ⟨Nat.le_of_ble_eq_true rfl, Nat.le_of_ble_eq_true rfl⟩) (xr_rv hK hw 0 0 rfl rfl) rfl hl.1 rfl (Nat.le_of_ble_eq_true rfl) dX5_reel_30 ⟨(by first | omega | (dsimp only; omega)), (by first | omega | (dsimp only; omega))⟩ (fun _ _ _ _ _ _ h => h.elim) (fun v9 LL1 H locs hp hw => ?_)
        obtain ⟨qa_1, dn_2, rfl, rfl⟩ := hp
        have hw : Wd D A s.heap _ _ [[ob b 4 [.ref fa]], ((ob fa 15 [.int (u + 1), .ref (al_d g (al_n st (ads mf) dn_2)), .int (nI (ads (mf ++ [(qa_1, (ln, 0, sz, 2))])).length)]) :: (al_t dT (al_n st (ads mf) dn_2) (ads (mf ++ [(qa_1, (ln, 0, sz, 2))])))), ((mf ++ [(qa_1, (ln, 0, sz, 2))]).flatMap (mfE dT)), [ob h0 10 [.int (nI ln), .int (nI sz), .int x2, .ref h1, .ref h2, .int x9, .int x10], (h1, aI dT [x3, x4, x5]), (h2, aI dT [(nI (lf.1, lf.2.1, lf.2.2 - 1).1), (nI (lf.1, lf.2.1, lf.2.2 - 1).2.1), (nI (lf.1, lf.2.1, lf.2.2 - 1).2.2)])], S0] := hw
        refine W.eq (g2 := F0 m 33 ls [.int 1]) rfl ?_
        refine lv_if_eq (tgt := 39) hx hb dX5_reel_33 (by decide) (fun c9 => absurd c9 (by decide)) (fun _ => ?_)
        refine lv_goto (tgt := 19) hx hb dX5_reel_36 (by decide) ?_
        have hw : Wd D A s.heap _ _ [[ob b 4 [.ref fa]], ((ob fa 15 [.int (u + 1), .ref (al_d g (al_n st (ads mf) dn_2)), .int (nI (ads (mf ++ [(qa_1, (ln, 0, sz, 2))])).length)]) :: (al_t dT (al_n st (ads mf) dn_2) (ads (mf ++ [(qa_1, (ln, 0, sz, 2))])))), ((mf ++ [(qa_1, (ln, 0, sz, 2))]).flatMap (mfE dT)), [ob h0 10 [.int (nI ln), .int (nI sz), .int x2, .ref h1, .ref h2, .int x9, .int x10], (h1, aI dT [x3, x4, x5]), (h2, aI dT [(nI (lf.1, lf.2.1, lf.2.2 - 1).1), (nI (lf.1, lf.2.1, lf.2.2 - 1).2.1), (nI (lf.1, lf.2.1, lf.2.2 - 1).2.2)])], S0] := Wd.take hw [0, 0, 0, 0, 0] rfl rfl
        have hl9 := lv_sub hl [0, 1, 2, 3, 4, 5, 6] rfl
        have e9 : ads (mf ++ [(qa_1, (ln, 0, sz, 2))]) = ads mf ++ [qa_1] := ads_snoc _ _
        have hG8 := al_grow (d := dn_2) (x := qa_1) hC hok (by rw [ads_len]; exact hl40)
        rw [← e9] at hG8
        have hv9 : valm (mf ++ [(qa_1, (ln, 0, sz, 2))]) = valm mf ++ [(ln, 0, sz, 2)] := valm_app _ _
        have hL9 : (mf ++ [(qa_1, (ln, 0, sz, 2))]).length = mf.length + 1 := snoc_len
        have hn9 : lfN (lf.1, lf.2.1, lf.2.2 - 1) = lfN lf - 1 := by unfold lfN; dsimp only; omega
        exact ih (lf.1, lf.2.1, lf.2.2 - 1) (mf ++ [(qa_1, (ln, 0, sz, 2))]) _ _ _ _ _ _ _ (by omega) (by omega) (by rw [hv9]; exact hRES2) (mf_all hfi (okF_new hln hsz1 hsz2 (by decide))) (by omega) hG8.2.1 hG8.1 (by omega) (by omega) hl9 hw
