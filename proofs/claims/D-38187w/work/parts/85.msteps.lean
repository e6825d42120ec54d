/-! 85.msteps (printed by gen/silk.py) -/
set_option maxRecDepth 100000
set_option maxHeartbeats 4000000 in
theorem wl_mrl {p : Program} {l : Launch} {e : Env} {s : State} {m : MethodId} {args : Array Value} {below : List Frame} {meth : Method} {c : Code} {A : Nat → Prop} {Q : State → Prop} {D : va_G} {dT g : Nat → Nat} {z0 mc ms : Nat} (hf : CallFix p m c cX5_reel 7 s args lw_all "SilkRowModel$Basin") (hK : KK D dT g z0 s s.heap) (hA : ∀ q, s.heap.size ≤ q → A q) (hAz : ∀ q, A q → zA z0 q) (hst : l.stackTraces = false) {b fa h0 h1 h2 qs ln sz T : Nat} {x2 x9 x10 x3 x4 x5 : Int32} {qb N : Nat} {RES : Lf × List FvT × (Nat → Int32)} (hln : ln < 4) (hsz1 : 2 ≤ sz) (hsz2 : sz ≤ 6) (hT : T ≤ 40) (hN : N < 2 ^ 30) (KR : ∀ (pc : Nat) (lf : Lf) (mf : MfT) (u : Int32) (st : Option (Nat × Nat)) (v : Nat → Int32) (ls : Array Slot) (H : Heap) (locs : List Loc) (kc ks : Nat), decode cX5_reel pc = .ok (.areturn, 1) → RES = (lf, valm mf, v) → (∀ q ∈ mf, okF q.2) → mf.length ≤ 40 → alOK st (ads mf) → alC st → kc ≤ mc → ks ≤ ms → Wd D A s.heap H locs [[ob b 4 [.ref fa]], ((ob fa 15 [.int u, .ref (al_d g st), .int (nI (ads mf).length)]) :: (al_t dT st (ads mf))), (mf.flatMap (mfE dT)), [ob h0 10 [.int (nI ln), .int (nI sz), .int x2, .ref h1, .ref h2, .int x9, .int x10], (h1, aI dT [x3, x4, x5]), (h2, aI dT [(nI lf.1), (nI lf.2.1), (nI lf.2.2)])], [ob qs 13 [.int (v 0), .int (v 1), .int (v 2), .int (v 3), .ref qb, .int (bz (v 4))], (qb, aI dT [v 5, v 6, v 7, v 8])]] → W p l e ({ frames := 12, cells := mc, slots := ms, locals := 300 }) s m args below meth c H locs kc ks Q (F0 m pc ls [.ref qs])) : ∀ (n i : Nat) (lf : Lf) (mf : MfT) (u : Int32) (st : Option (Nat × Nat)) (v : Nat → Int32) (ls : Array Slot) (H : Heap) (locs : List Loc) (kc ks : Nat), i + n = N → lfN lf < 2 ^ 20 → rlW T ln sz n lf (valm mf) v = RES → (∀ q ∈ mf, okF q.2) → mf.length ≤ 40 → alOK st (ads mf) → alC st → kc + rlJ T ln sz n lf (valm mf) + al_pot st ≤ mc → ks + 4 * rlJ T ln sz n lf (valm mf) + al_potS st ≤ ms → lv_has ls 7 [(6, .int (nI i)), (5, .ref qs), (4, .int (nI N)), (3, .int (nI T)), (2, .ref h2), (1, .ref h0), (0, .ref b)] → Wd D A s.heap H locs [[ob b 4 [.ref fa]], ((ob fa 15 [.int u, .ref (al_d g st), .int (nI (ads mf).length)]) :: (al_t dT st (ads mf))), (mf.flatMap (mfE dT)), [ob h0 10 [.int (nI ln), .int (nI sz), .int x2, .ref h1, .ref h2, .int x9, .int x10], (h1, aI dT [x3, x4, x5]), (h2, aI dT [(nI lf.1), (nI lf.2.1), (nI lf.2.2)])], [ob qs 13 [.int (v 0), .int (v 1), .int (v 2), .int (v 3), .ref qb, .int (bz (v 4))], (qb, aI dT [v 5, v 6, v 7, v 8])]] → W p l e ({ frames := 12, cells := mc, slots := ms, locals := 300 }) s m args below meth c H locs kc ks Q (F0 m 12 ls []) := by
  have hx := hf.1
  have hb := hf.2.1
  have hts := hf.2.2.2.2
  intro n
  induction n with
  | zero =>
    intro i lf mf u st v ls H locs kc ks hin hlf hRES hfi hlen hok hC hkc hks hl hw
    have hw : Wd D A s.heap _ _ [[ob b 4 [.ref fa]], ((ob fa 15 [.int u, .ref (al_d g st), .int (nI (ads mf).length)]) :: (al_t dT st (ads mf))), (mf.flatMap (mfE dT)), [ob h0 10 [.int (nI ln), .int (nI sz), .int x2, .ref h1, .ref h2, .int x9, .int x10], (h1, aI dT [x3, x4, x5]), (h2, aI dT [(nI lf.1), (nI lf.2.1), (nI lf.2.2)])], [ob qs 13 [.int (v 0), .int (v 1), .int (v 2), .int (v 3), .ref qb, .int (bz (v 4))], (qb, aI dT [v 5, v 6, v 7, v 8])]] := hw
    refine lv_iload hx hb dX5_reel_12 (lv_at hl 0 rfl) ?_
    refine lv_iload hx hb dX5_reel_14 (lv_at hl 2 rfl) ?_
    refine lv_icmp_ge (tgt := 73) hx hb dX5_reel_16 (by decide) (fun _ => ?_) (fun c9 => absurd c9 (not_not_intro (nI_le (by omega) (by omega))))
    refine lv_aload hx hb dX5_reel_73 (lv_at hl 1 rfl) ?_
    have hw : Wd D A s.heap _ _ [[ob b 4 [.ref fa]], ((ob fa 15 [.int u, .ref (al_d g st), .int (nI (ads mf).length)]) :: (al_t dT st (ads mf))), (mf.flatMap (mfE dT)), [ob h0 10 [.int (nI ln), .int (nI sz), .int x2, .ref h1, .ref h2, .int x9, .int x10], (h1, aI dT [x3, x4, x5]), (h2, aI dT [(nI lf.1), (nI lf.2.1), (nI lf.2.2)])], [ob qs 13 [.int (v 0), .int (v 1), .int (v 2), .int (v 3), .ref qb, .int (bz (v 4))], (qb, aI dT [v 5, v 6, v 7, v 8])]] := Wd.take hw [0, 0, 0, 0, 0] rfl rfl
    exact KR 75 lf mf u st v _ _ _ _ _ dX5_reel_75 hRES.symm hfi hlen hok hC (by omega) (by omega) hw
  | succ n ih =>
    intro i lf mf u st v ls H locs kc ks hin hlf hRES hfi hlen hok hC hkc hks hl hw
    have hw : Wd D A s.heap _ _ [[ob b 4 [.ref fa]], ((ob fa 15 [.int u, .ref (al_d g st), .int (nI (ads mf).length)]) :: (al_t dT st (ads mf))), (mf.flatMap (mfE dT)), [ob h0 10 [.int (nI ln), .int (nI sz), .int x2, .ref h1, .ref h2, .int x9, .int x10], (h1, aI dT [x3, x4, x5]), (h2, aI dT [(nI lf.1), (nI lf.2.1), (nI lf.2.2)])], [ob qs 13 [.int (v 0), .int (v 1), .int (v 2), .int (v 3), .ref qb, .int (bz (v 4))], (qb, aI dT [v 5, v 6, v 7, v 8])]] := hw
    refine lv_iload hx hb dX5_reel_12 (lv_at hl 0 rfl) ?_
    refine lv_iload hx hb dX5_reel_14 (lv_at hl 2 rfl) ?_
    refine lv_icmp_ge (tgt := 73) hx hb dX5_reel_16 (by decide) (fun c9 => absurd c9 (nI_ge (by omega) (by omega))) (fun _ => ?_)
    have hJ9 := rlJ_S T ln sz n lf (valm mf)
    rw [hJ9, valm_len] at hkc hks
    refine wl_mjn (n := lfN lf) (RES := jn T ln sz lf (valm mf)) (Y := (rlY T ln sz n (jn T ln sz lf (valm mf)))) (Z := (4 * rlY T ln sz n (jn T ln sz lf (valm mf)))) hf hK hA hAz hst hln hsz1 hsz2 hT ?_ lf mf u st _ _ _ kc ks rfl hlf rfl hfi hlen hok hC (by omega) (by omega) hl hw
    intro lf1 mf1 u1 st1 ls H locs kc1 ks1 hR1 hfi1 hlen1 hok1 hC1 hkc1 hks1 hl hw
    have hlf1 : lfN lf1 < 2 ^ 20 := by have h9 := jn_lf (T := T) (ln := ln) (sz := sz) (f := lf) (l := valm mf); rw [hR1] at h9; exact Nat.lt_of_le_of_lt h9 hlf
    have hw : Wd D A s.heap _ _ [[ob b 4 [.ref fa]], ((ob fa 15 [.int u1, .ref (al_d g st1), .int (nI (ads mf1).length)]) :: (al_t dT st1 (ads mf1))), (mf1.flatMap (mfE dT)), [ob h0 10 [.int (nI ln), .int (nI sz), .int x2, .ref h1, .ref h2, .int x9, .int x10], (h1, aI dT [x3, x4, x5]), (h2, aI dT [(nI lf1.1), (nI lf1.2.1), (nI lf1.2.2)])], [ob qs 13 [.int (v 0), .int (v 1), .int (v 2), .int (v 3), .ref qb, .int (bz (v 4))], (qb, aI dT [v 5, v 6, v 7, v 8])]] := hw
    refine lv_aload_n hx hb dX5_reel_39 rfl (lv_at hl 6 rfl) ?_
    refine xr_get hf hK hw 0 0 rfl rfl in_X5 0 (by decide) q1107 (fun _ h => h) rfl dX5_reel_40 ?_
    refine xc_V (rest := []) (As := []) hf hK hA hAz hst (hw.pick [1] rfl rfl rfl) (k_J2_isEmpty l D dT g z0 fa u1 (nI (ads mf1).length) (.ref (al_d g st1)) (al_t dT st1 (ads mf1))) (cwV 0 hts (lw_V q1501 q575 q1670 q47 q577) rfl rfl rfl (by decide +kernel) ⟨Nat.le_of_ble_eq_true rfl, Nat.le_of_ble_eq_true rfl⟩) (xr_rv hK hw 1 0 rfl rfl) rfl hl.1 rfl (Nat.le_of_ble_eq_true rfl) dX5_reel_43 ⟨(by first | omega | (dsimp only; omega)), (by first | omega | (dsimp only; omega))⟩ (fun _ _ _ _ _ _ h => h.elim) (fun v9 LL1 H locs hp hw => ?_)
    obtain ⟨rfl, rfl⟩ := hp
    have hw : Wd D A s.heap _ _ [((ob fa 15 [.int u1, .ref (al_d g st1), .int (nI (ads mf1).length)]) :: (al_t dT st1 (ads mf1))), [ob b 4 [.ref fa]], (mf1.flatMap (mfE dT)), [ob h0 10 [.int (nI ln), .int (nI sz), .int x2, .ref h1, .ref h2, .int x9, .int x10], (h1, aI dT [x3, x4, x5]), (h2, aI dT [(nI lf1.1), (nI lf1.2.1), (nI lf1.2.2)])], [ob qs 13 [.int (v 0), .int (v 1), .int (v 2), .int (v 3), .ref qb, .int (bz (v 4))], (qb, aI dT [v 5, v 6, v 7, v 8])]] := hw
    refine W.eq (g2 := F0 m 46 ls [.int (if (nI (ads mf1).length) = 0 then 1 else 0)]) rfl ?_
    refine lv_if_eq (tgt := 52) hx hb dX5_reel_46 (by decide) (fun c_46 => ?_) (fun c_46 => ?_)
    · have hn0 : 0 < mf1.length := by rcases Nat.eq_zero_or_pos mf1.length with h9 | h9; exact absurd (by rw [ads_len, h9]; rfl) (if00 c_46); exact h9
      have hnz : ¬ (valm mf1).length = 0 := by rw [valm_len]; omega
      have hY9 : rlY T ln sz n (jn T ln sz lf (valm mf)) = rlJ T ln sz n lf1 (goL (valm mf1)) := by rw [hR1]; exact if_neg hnz
      rw [hY9] at hkc1 hks1
      have hAL := ads_len mf1
      refine lv_aload hx hb dX5_reel_52 (lv_at hl 1 rfl) ?_
      refine lv_aload_n hx hb dX5_reel_54 rfl (lv_at hl 6 rfl) ?_
      refine xc_V (rest := [.ref qs]) (As := []) hf hK hA hAz hst (hw.pick [1, 0, 0] rfl rfl rfl) (k_X5_sum l D dT g z0 b fa u1 st1 mf1 hok1 hfi1) (cwV 0 hts (lw_V q1480 q1481 q1482 q55 q1483) rfl rfl rfl (by decide +kernel) ⟨Nat.le_of_ble_eq_true rfl, Nat.le_of_ble_eq_true rfl⟩) (xr_rv hK hw 1 0 rfl rfl) rfl hl.1 rfl (Nat.le_of_ble_eq_true rfl) dX5_reel_55 ⟨(by first | omega | (dsimp only; omega)), (by first | omega | (dsimp only; omega))⟩ (fun _ _ _ _ _ _ h => h.elim) (fun v9 LL1 H locs hp hw => ?_)
      obtain ⟨rfl, rfl⟩ := hp
      have hw : Wd D A s.heap _ _ [[ob b 4 [.ref fa]], ((ob fa 15 [.int u1, .ref (al_d g st1), .int (nI (ads mf1).length)]) :: (al_t dT st1 (ads mf1))), (mf1.flatMap (mfE dT)), [ob h0 10 [.int (nI ln), .int (nI sz), .int x2, .ref h1, .ref h2, .int x9, .int x10], (h1, aI dT [x3, x4, x5]), (h2, aI dT [(nI lf1.1), (nI lf1.2.1), (nI lf1.2.2)])], [ob qs 13 [.int (v 0), .int (v 1), .int (v 2), .int (v 3), .ref qb, .int (bz (v 4))], (qb, aI dT [v 5, v 6, v 7, v 8])]] := hw
      refine W.eq (g2 := F0 m 58 ls [.int (nI (sumF (valm mf1))), .ref qs]) rfl ?_
      refine xc_V (rest := []) (As := [.int (nI (sumF (valm mf1)))]) hf hK hA hAz hst (hw.pick [4] rfl rfl rfl) (k_X14_add l D dT g z0 qs qb v (nI (sumF (valm mf1)))) (cwV 1 hts (lw_V q1502 q1503 q1504 q75 q1505) rfl rfl rfl (by decide +kernel) ⟨Nat.le_of_ble_eq_true rfl, Nat.le_of_ble_eq_true rfl⟩) (xr_rv hK hw 4 0 rfl rfl) rfl hl.1 rfl (Nat.le_of_ble_eq_true rfl) dX5_reel_58 ⟨(by first | omega | (dsimp only; omega)), (by first | omega | (dsimp only; omega))⟩ (fun _ _ _ _ _ _ h => h.elim) (fun v9 LL1 H locs hp hw => ?_)
      obtain ⟨r1, hr1⟩ : ∃ z, z = f_X14_add v (nI (sumF (valm mf1))) := ⟨_, rfl⟩
      rw [← hr1] at hp
      obtain ⟨rfl, rfl⟩ := hp
      have hw : Wd D A s.heap _ _ [[ob qs 13 [.int (r1 0), .int (r1 1), .int (r1 2), .int (r1 3), .ref qb, .int (bz (r1 4))], (qb, aI dT [r1 5, r1 6, r1 7, r1 8])], [ob b 4 [.ref fa]], ((ob fa 15 [.int u1, .ref (al_d g st1), .int (nI (ads mf1).length)]) :: (al_t dT st1 (ads mf1))), (mf1.flatMap (mfE dT)), [ob h0 10 [.int (nI ln), .int (nI sz), .int x2, .ref h1, .ref h2, .int x9, .int x10], (h1, aI dT [x3, x4, x5]), (h2, aI dT [(nI lf1.1), (nI lf1.2.1), (nI lf1.2.2)])]] := hw
      refine W.eq (g2 := F0 m 61 ls []) rfl ?_
      obtain ⟨d_0, cap_0, hd0, hc0, hC0⟩ := al_some (k := 0) hok1 (by rw [ads_len]; exact hn0)
      subst hd0
      have hw : Wd D A s.heap _ _ [[ob qs 13 [.int (r1 0), .int (r1 1), .int (r1 2), .int (r1 3), .ref qb, .int (bz (r1 4))], (qb, aI dT [r1 5, r1 6, r1 7, r1 8])], [ob b 4 [.ref fa]], [ob fa 15 [.int u1, .ref d_0, .int (nI (ads mf1).length)], (d_0, aR dT 1 cap_0 (fun i => (ads mf1)[i]?))], (mf1.flatMap (mfE dT)), [ob h0 10 [.int (nI ln), .int (nI sz), .int x2, .ref h1, .ref h2, .int x9, .int x10], (h1, aI dT [x3, x4, x5]), (h2, aI dT [(nI lf1.1), (nI lf1.2.1), (nI lf1.2.2)])]] := hw
      refine lv_aload_n hx hb dX5_reel_61 rfl (lv_at hl 6 rfl) ?_
      refine lv_aload hx hb dX5_reel_62 (lv_at hl 1 rfl) ?_
      refine xc_V (rest := []) (As := [.ref qs]) hf hK hA hAz hst (hw.pick [1, 1, 1, 0] rfl rfl rfl) (k_X5_go l D dT g z0 b fa u1 d_0 cap_0 mf1 qs qb r1 hc0 hC0 hfi1) (cwV 1 hts (lw_V q1508 q1510 qs28 q55 q1511) rfl rfl rfl (by decide +kernel) ⟨Nat.le_of_ble_eq_true rfl, Nat.le_of_ble_eq_true rfl⟩) (xr_rv hK hw 1 0 rfl rfl) rfl hl.1 rfl (Nat.le_of_ble_eq_true rfl) dX5_reel_64 ⟨(by first | omega | (dsimp only; omega)), (by first | omega | (dsimp only; omega))⟩ (fun _ _ _ _ _ _ h => h.elim) (fun v9 LL1 H locs hp hw => ?_)
      obtain ⟨mf1_2, u1_3, v1_4, e_5, rfl, rfl⟩ := hp
      have hw : Wd D A s.heap _ _ [[ob b 4 [.ref fa]], [ob fa 15 [.int u1_3, .ref d_0, .int (nI (ads mf1_2).length)], (d_0, aR dT 1 cap_0 (fun i => (ads mf1_2)[i]?))], (mf1_2.flatMap (mfE dT)), [ob qs 13 [.int (v1_4 0), .int (v1_4 1), .int (v1_4 2), .int (v1_4 3), .ref qb, .int (bz (v1_4 4))], (qb, aI dT [v1_4 5, v1_4 6, v1_4 7, v1_4 8])], [ob h0 10 [.int (nI ln), .int (nI sz), .int x2, .ref h1, .ref h2, .int x9, .int x10], (h1, aI dT [x3, x4, x5]), (h2, aI dT [(nI lf1.1), (nI lf1.2.1), (nI lf1.2.2)])]] := hw
      refine W.eq (g2 := F0 m 67 ls []) rfl ?_
      refine lv_iinc (v := (nI (i + 1))) (lv' := [(6, .int (nI (i + 1))), (5, .ref qs), (4, .int (nI N)), (3, .int (nI T)), (2, .ref h2), (1, .ref h0), (0, .ref b)]) hx hb dX5_reel_67 hl (k := 0) rfl (nI_1 _) (by decide) rfl (fun ls hl => ?_)
      refine lv_goto (tgt := 12) hx hb dX5_reel_70 (by decide) ?_
      have hw : Wd D A s.heap _ _ [[ob b 4 [.ref fa]], ((ob fa 15 [.int u1_3, .ref (al_d g (some (d_0, cap_0))), .int (nI (ads mf1_2).length)]) :: (al_t dT (some (d_0, cap_0)) (ads mf1_2))), (mf1_2.flatMap (mfE dT)), [ob qs 13 [.int (v1_4 0), .int (v1_4 1), .int (v1_4 2), .int (v1_4 3), .ref qb, .int (bz (v1_4 4))], (qb, aI dT [v1_4 5, v1_4 6, v1_4 7, v1_4 8])], [ob h0 10 [.int (nI ln), .int (nI sz), .int x2, .ref h1, .ref h2, .int x9, .int x10], (h1, aI dT [x3, x4, x5]), (h2, aI dT [(nI lf1.1), (nI lf1.2.1), (nI lf1.2.2)])]] := hw
      have hw : Wd D A s.heap _ _ [[ob b 4 [.ref fa]], ((ob fa 15 [.int u1_3, .ref (al_d g (some (d_0, cap_0))), .int (nI (ads mf1_2).length)]) :: (al_t dT (some (d_0, cap_0)) (ads mf1_2))), (mf1_2.flatMap (mfE dT)), [ob h0 10 [.int (nI ln), .int (nI sz), .int x2, .ref h1, .ref h2, .int x9, .int x10], (h1, aI dT [x3, x4, x5]), (h2, aI dT [(nI lf1.1), (nI lf1.2.1), (nI lf1.2.2)])], [ob qs 13 [.int (v1_4 0), .int (v1_4 1), .int (v1_4 2), .int (v1_4 3), .ref qb, .int (bz (v1_4 4))], (qb, aI dT [v1_4 5, v1_4 6, v1_4 7, v1_4 8])]] := Wd.take hw [0, 0, 0, 1, 0] rfl rfl
      have hl9 := lv_sub hl [0, 1, 2, 3, 4, 5, 6] rfl
      have hRES2 : rlW T ln sz n lf1 (valm mf1_2) v1_4 = RES := by rw [← hRES, rlW_S hR1 hnz, e_5.1, ← e_5.2.1, hr1, add12]
      rw [e_5.1] at hkc1 hks1
      have hlen2 := e_5.2.2.2
      exact ih (i + 1) lf1 mf1_2 u1_3 (some (d_0, cap_0)) v1_4 _ _ _ _ _ (by omega) hlf1 hRES2 e_5.2.2.1 (by omega) ⟨by rw [ads_len]; rw [ads_len] at hc0; omega, by have := hC1.1; dsimp only at this; omega, hC0⟩ hC1 (by omega) (by omega) hl9 hw
    · refine lv_aload hx hb dX5_reel_49 (lv_at hl 1 rfl) ?_
      have hw : Wd D A s.heap _ _ [[ob b 4 [.ref fa]], ((ob fa 15 [.int u1, .ref (al_d g st1), .int (nI (ads mf1).length)]) :: (al_t dT st1 (ads mf1))), (mf1.flatMap (mfE dT)), [ob h0 10 [.int (nI ln), .int (nI sz), .int x2, .ref h1, .ref h2, .int x9, .int x10], (h1, aI dT [x3, x4, x5]), (h2, aI dT [(nI lf1.1), (nI lf1.2.1), (nI lf1.2.2)])], [ob qs 13 [.int (v 0), .int (v 1), .int (v 2), .int (v 3), .ref qb, .int (bz (v 4))], (qb, aI dT [v 5, v 6, v 7, v 8])]] := Wd.take hw [1, 0, 0, 0, 0] rfl rfl
      have hz9 : (valm mf1).length = 0 := by have h9 := if01 c_46; rw [ads_len] at h9; rw [valm_len]; exact (nI_eq (by omega) (by omega)).mp h9
      have hRES2 : RES = (lf1, valm mf1, v) := by rw [← hRES, rlW_0 hR1 hz9]
      exact KR 51 lf1 mf1 u1 st1 v _ _ _ _ _ dX5_reel_51 hRES2 hfi1 hlen1 hok1 hC1 (by omega) (by omega) hw
set_option maxHeartbeats 4000000 in
theorem k_X5_reel (l : Launch) (D : va_G) (dT g : Nat → Nat) (z0 : Nat) (b : Nat) (fa : Nat) (h0 : Nat) (h1 : Nat) (h2 : Nat) (ln : Nat) (sz : Nat) (T : Nat) (n : Nat) (x2 : Int32) (x9 : Int32) (x10 : Int32) (x3 : Int32) (x4 : Int32) (x5 : Int32) (lf : Lf) (u : Int32) (st : Option (Nat × Nat)) (mf : MfT) (hln : ln < 4) (hsz1 : 2 ≤ sz) (hsz2 : sz ≤ 6) (hT : T ≤ 40) (hN : n < 2 ^ 30) (hlf : lfN lf < 2 ^ 20) (hfi : ∀ q ∈ mf, okF q.2) (hlen : mf.length ≤ 40) (hok : alOK st (ads mf)) (hC : alC st) : Con l D dT g z0 yX5_reel (ws_ yX5_reel cX5_reel 7 (some (.object "SilkRowModel$Skein"))) ({ frames := 12, cells := 2 + rlJ T ln sz n lf (valm mf) + al_pot st, slots := 10 + 4 * rlJ T ln sz n lf (valm mf) + al_potS st, locals := 300 }) [.ref b, .ref h0, .ref h2, .int (nI T), .int (nI n)] [[ob b 4 [.ref fa]], ((ob fa 15 [.int u, .ref (al_d g st), .int (nI (ads mf).length)]) :: (al_t dT st (ads mf))), (mf.flatMap (mfE dT)), [ob h0 10 [.int (nI ln), .int (nI sz), .int x2, .ref h1, .ref h2, .int x9, .int x10], (h1, aI dT [x3, x4, x5]), (h2, aI dT [(nI lf.1), (nI lf.2.1), (nI lf.2.2)])]] (fun r LL => ∃ (q1 : Nat) (q2 : Nat) (lf1 : Lf) (mf1 : MfT) (u1 : Int32) (st1 : Option (Nat × Nat)) (v1 : Nat → Int32), ((rlW T ln sz n lf (valm mf) f_X12_init) = (lf1, valm mf1, v1)) ∧ (∀ q ∈ mf1, okF q.2) ∧ (mf1.length ≤ 40 ∧ alOK st1 (ads mf1) ∧ alC st1) ∧ r = some (.ref q1) ∧ LL = [[ob b 4 [.ref fa]], ((ob fa 15 [.int u1, .ref (al_d g st1), .int (nI (ads mf1).length)]) :: (al_t dT st1 (ads mf1))), (mf1.flatMap (mfE dT)), [ob h0 10 [.int (nI ln), .int (nI sz), .int x2, .ref h1, .ref h2, .int x9, .int x10], (h1, aI dT [x3, x4, x5]), (h2, aI dT [(nI lf1.1), (nI lf1.2.1), (nI lf1.2.2)])], [ob q1 13 [.int (v1 0), .int (v1 1), .int (v1 2), .int (v1 3), .ref q2, .int (bz (v1 4))], (q2, aI dT [v1 5, v1 6, v1 7, v1 8])]]) noX (2 + rlJ T ln sz n lf (valm mf) + al_pot st) (10 + 4 * rlJ T ln sz n lf (valm mf) + al_potS st) := by
  refine Con.of (maxL := 7) (ret := (some (.object "SilkRowModel$Skein"))) (by first | exact plainFor_of_name (by decide) | decide +kernel) (Nat.le_of_ble_eq_true rfl) ?_
  intro p e s m args below meth c A ls hf hr hlocks hnm hno hK hA hAz hw hl hst
  have hf : CallFix p m c cX5_reel 7 s args lw_all "SilkRowModel$Basin" := hf
  have hnm : meth.name = "reel" := hnm
  have hx := hf.1
  have hb := hf.2.1
  have hts := hf.2.2.2.2
  have hl : lv_has ls 7 [(0, .ref b), (1, .ref h0), (2, .ref h2), (3, .int (nI T)), (4, .int (nI n))] := hl
  have hw : Wd D A s.heap s.heap [] [[ob b 4 [.ref fa]], ((ob fa 15 [.int u, .ref (al_d g st), .int (nI (ads mf).length)]) :: (al_t dT st (ads mf))), (mf.flatMap (mfE dT)), [ob h0 10 [.int (nI ln), .int (nI sz), .int x2, .ref h1, .ref h2, .int x9, .int x10], (h1, aI dT [x3, x4, x5]), (h2, aI dT [(nI lf.1), (nI lf.2.1), (nI lf.2.2)])]] := hw
  refine xr_new (LL' := [[ob b 4 [.ref fa]], ((ob fa 15 [.int u, .ref (al_d g st), .int (nI (ads mf).length)]) :: (al_t dT st (ads mf))), (mf.flatMap (mfE dT)), [ob h0 10 [.int (nI ln), .int (nI sz), .int x2, .ref h1, .ref h2, .int x9, .int x10], (h1, aI dT [x3, x4, x5]), (h2, aI dT [(nI lf.1), (nI lf.2.1), (nI lf.2.2)])]]) (fs := [.int 0, .int 0, .int 0, .int 0, .null, .int 0]) hf hK hw hA 13 rfl in_X14 tyX14_ok q1449 q1450 q75 rfl (by first | omega | (dsimp only; omega)) (by first | omega | (dsimp only; omega)) (fun _ => rfl) dX5_reel_0 (fun qa1 H hw => ?_)
  have hw : Wd D A s.heap _ _ [[ob b 4 [.ref fa]], ((ob fa 15 [.int u, .ref (al_d g st), .int (nI (ads mf).length)]) :: (al_t dT st (ads mf))), (mf.flatMap (mfE dT)), [ob h0 10 [.int (nI ln), .int (nI sz), .int x2, .ref h1, .ref h2, .int x9, .int x10], (h1, aI dT [x3, x4, x5]), (h2, aI dT [(nI lf.1), (nI lf.2.1), (nI lf.2.2)])], [ob qa1 13 [.int 0, .int 0, .int 0, .int 0, .null, .int 0]]] := hw
  refine lv_dup hx hb dX5_reel_3 rfl ?_
  refine xc_IN (rest := [.ref qa1]) (As := []) hf hK hA hAz hst (hw.pick [4] rfl rfl rfl) (k_X14_init l D dT g z0 qa1) ⟨va_cnB 0 hts (lw_meth q1453) rfl rfl rfl (hK.nw q1451 rfl) (hts _ q75) (by decide +kernel) ⟨Nat.le_of_ble_eq_true rfl, Nat.le_of_ble_eq_true rfl⟩, rfl, hts _ q1452⟩ rfl hl.1 rfl (Nat.le_of_ble_eq_true rfl) dX5_reel_4 ⟨(by first | omega | (dsimp only; omega)), (by first | omega | (dsimp only; omega))⟩ (fun _ _ _ _ _ _ h => h.elim) (fun v9 LL1 H locs hp hw => ?_)
  obtain ⟨r2, hr2⟩ : ∃ z, z = f_X14_init := ⟨_, rfl⟩
  rw [← hr2] at hp
  obtain ⟨r2a1, rfl, rfl⟩ := hp
  have hw : Wd D A s.heap _ _ [[ob qa1 13 [.int (r2 0), .int (r2 1), .int (r2 2), .int (r2 3), .ref r2a1, .int (bz (r2 4))], (r2a1, aI dT [r2 5, r2 6, r2 7, r2 8])], [ob b 4 [.ref fa]], ((ob fa 15 [.int u, .ref (al_d g st), .int (nI (ads mf).length)]) :: (al_t dT st (ads mf))), (mf.flatMap (mfE dT)), [ob h0 10 [.int (nI ln), .int (nI sz), .int x2, .ref h1, .ref h2, .int x9, .int x10], (h1, aI dT [x3, x4, x5]), (h2, aI dT [(nI lf.1), (nI lf.2.1), (nI lf.2.2)])]] := hw
  refine W.eq (g2 := F0 m 7 ls [.ref qa1]) rfl ?_
  refine lv_astore (lv' := [(5, .ref qa1), (0, .ref b), (1, .ref h0), (2, .ref h2), (3, .int (nI T)), (4, .int (nI n))]) hx hb dX5_reel_7 hl (by decide) rfl (fun ls hl => ?_)
  refine lv_iconst (v := 0) hx hb dX5_reel_9 (by decide) ?_
  refine lv_as (y := (nI 0)) (by decide) ?_
  refine lv_istore (lv' := [(6, .int (nI 0)), (5, .ref qa1), (0, .ref b), (1, .ref h0), (2, .ref h2), (3, .int (nI T)), (4, .int (nI n))]) hx hb dX5_reel_10 hl (by decide) rfl (fun ls hl => ?_)
  have hw : Wd D A s.heap _ _ [[ob b 4 [.ref fa]], ((ob fa 15 [.int u, .ref (al_d g st), .int (nI (ads mf).length)]) :: (al_t dT st (ads mf))), (mf.flatMap (mfE dT)), [ob h0 10 [.int (nI ln), .int (nI sz), .int x2, .ref h1, .ref h2, .int x9, .int x10], (h1, aI dT [x3, x4, x5]), (h2, aI dT [(nI lf.1), (nI lf.2.1), (nI lf.2.2)])], [ob qa1 13 [.int (r2 0), .int (r2 1), .int (r2 2), .int (r2 3), .ref r2a1, .int (bz (r2 4))], (r2a1, aI dT [r2 5, r2 6, r2 7, r2 8])]] := Wd.take hw [1, 1, 1, 1, 0] rfl rfl
  have hl9 := lv_sub hl [0, 1, 6, 5, 4, 3, 2] rfl
  refine wl_mrl (N := n) (RES := rlW T ln sz n lf (valm mf) r2) hf hK hA hAz hst hln hsz1 hsz2 hT hN ?_ n 0 lf mf u st r2 _ _ _ _ _ (Nat.zero_add _) hlf rfl hfi hlen hok hC (by omega) (by omega) hl9 hw
  intro pc lf1 mf1 u1 st1 v1 ls H locs kc1 ks1 dR hR1 hfi1 hlen1 hok1 hC1 hkc1 hks1 hw
  rw [hr2, init12] at hR1
  exact xr_aret hf hr (by first | exact Or.inl ⟨_, rfl⟩ | exact Or.inr ⟨_, rfl⟩) (Or.inr ⟨_, rfl⟩) hlocks hw hkc1 hks1 ⟨qa1, r2a1, lf1, mf1, u1, st1, v1, hR1, hfi1, ⟨hlen1, hok1, hC1⟩, rfl, rfl⟩ dR

