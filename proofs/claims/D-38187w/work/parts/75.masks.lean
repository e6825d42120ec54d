/-! 75.masks (printed by gen/silk.py) -/
set_option maxRecDepth 100000
set_option maxHeartbeats 4000000 in
theorem k_X4_ofPlotNow (l : Launch) (D : va_G) (dT g : Nat → Nat) (z0 : Nat) (x : Nat) (th : Int32) (L : Nat → Nat) (sc : Nat → Int32) (up : Int32) (stp : Option (Nat × Nat)) (mp : List (Nat × Nat × (Nat → Int32))) (i : Int32) (w : Int32) (k : Nat) (q : Nat × Nat × (Nat → Int32)) (hokp : alOK stp (ads mp)) (hq : mp[k]? = some q) (ei : i = nI k) (hk : k < 4096) (hin : ¬ (w < 0 ∨ 5 < w)) : Con l D dT g z0 yX4_ofPlotNow (ws_ yX4_ofPlotNow cX4_ofPlotNow 4 (some .int)) ({ frames := 4, cells := 0, slots := 0, locals := 104 }) [.ref x, .int i, .int w] [[ob x 3 [.int th, .ref (L 0), .ref (L 1), .ref (L 2), .ref (L 3), .ref (L 4), .ref (L 5), .int (sc 0), .int (bz (sc 1)), .int (sc 2), .int (sc 3), .int (sc 4), .int (sc 5), .int (sc 6)]], ((ob (L 0) 15 [.int up, .ref (al_d g stp), .int (nI (ads mp).length)]) :: (al_t dT stp (ads mp))), (mp.flatMap (mpE dT))] (fun r LL => r = some (.int (pl_told q.2.2 w)) ∧ LL = [[ob x 3 [.int th, .ref (L 0), .ref (L 1), .ref (L 2), .ref (L 3), .ref (L 4), .ref (L 5), .int (sc 0), .int (bz (sc 1)), .int (sc 2), .int (sc 3), .int (sc 4), .int (sc 5), .int (sc 6)]], ((ob (L 0) 15 [.int up, .ref (al_d g stp), .int (nI (ads mp).length)]) :: (al_t dT stp (ads mp))), (mp.flatMap (mpE dT))]) noX 0 0 := by
  refine Con.of (maxL := 4) (ret := (some .int)) (by first | exact plainFor_of_name (by decide) | decide +kernel) (Nat.le_of_ble_eq_true rfl) ?_
  intro p e s m args below meth c A ls hf hr hlocks hnm hno hK hA hAz hw hl hst
  have hf : CallFix p m c cX4_ofPlotNow 4 s args lw_all "SilkRowModel" := hf
  have hnm : meth.name = "ofPlotNow" := hnm
  have hx := hf.1
  have hb := hf.2.1
  have hts := hf.2.2.2.2
  have hl : lv_has ls 4 [(0, .ref x), (1, .int i), (2, .int w)] := hl
  have hw : Wd D A s.heap s.heap [] [[ob x 3 [.int th, .ref (L 0), .ref (L 1), .ref (L 2), .ref (L 3), .ref (L 4), .ref (L 5), .int (sc 0), .int (bz (sc 1)), .int (sc 2), .int (sc 3), .int (sc 4), .int (sc 5), .int (sc 6)]], ((ob (L 0) 15 [.int up, .ref (al_d g stp), .int (nI (ads mp).length)]) :: (al_t dT stp (ads mp))), (mp.flatMap (mpE dT))] := hw
  obtain ⟨d_mp, cap_mp, hd_mp, hc_q, hC_q⟩ := al_some (k := k) hokp (ads_lt hq)
  subst hd_mp
  have hw : Wd D A s.heap _ _ [[ob x 3 [.int th, .ref (L 0), .ref (L 1), .ref (L 2), .ref (L 3), .ref (L 4), .ref (L 5), .int (sc 0), .int (bz (sc 1)), .int (sc 2), .int (sc 3), .int (sc 4), .int (sc 5), .int (sc 6)]], [ob (L 0) 15 [.int up, .ref d_mp, .int (nI (ads mp).length)], (d_mp, aR dT 1 cap_mp (fun i => (ads mp)[i]?))], (mp.flatMap (mpE dT))] := hw
  refine lv_aload_n hx hb dX4_ofPlotNow_0 rfl (lv_at hl 0 rfl) ?_
  refine xr_get hf hK hw 0 0 rfl rfl in_X4 1 (by decide) q1181 (fun _ h => h) rfl dX4_ofPlotNow_1 ?_
  refine lv_iload_n hx hb dX4_ofPlotNow_4 rfl (lv_at hl 1 rfl) ?_
  refine lv_as (y := nI k) ei ?_
  refine xc_V (rest := []) (As := [.int (nI k)]) hf hK hA hAz hst (hw.pick [1] rfl rfl rfl) (k_J2_get l D dT g z0 (L 0) d_mp cap_mp up (ads mp) k q.1 hc_q hC_q (ads_lt hq) (ads_some hq)) (cwV 1 hts (lw_V q1325 q394 q395 q47 q396) rfl rfl rfl (by decide +kernel) ⟨Nat.le_of_ble_eq_true rfl, Nat.le_of_ble_eq_true rfl⟩) (xr_rv hK hw 1 0 rfl rfl) rfl hl.1 rfl (Nat.le_of_ble_eq_true rfl) dX4_ofPlotNow_5 ⟨(Nat.le_of_ble_eq_true rfl), (Nat.le_of_ble_eq_true rfl)⟩ (fun _ _ _ _ _ _ h => h.elim) (fun v9 LL1 H locs hp hw => ?_)
  obtain ⟨rfl, rfl⟩ := hp
  have hw : Wd D A s.heap _ _ [[ob (L 0) 15 [.int up, .ref d_mp, .int (nI (ads mp).length)], (d_mp, aR dT 1 cap_mp (fun i => (ads mp)[i]?))], [ob x 3 [.int th, .ref (L 0), .ref (L 1), .ref (L 2), .ref (L 3), .ref (L 4), .ref (L 5), .int (sc 0), .int (bz (sc 1)), .int (sc 2), .int (sc 3), .int (sc 4), .int (sc 5), .int (sc 6)]], (mp.flatMap (mpE dT))] := hw
  refine W.eq (g2 := F0 m 8 ls [.ref q.1]) rfl ?_
  have hw : Wd D A s.heap _ _ [(mp.flatMap (mpE dT)), [ob (L 0) 15 [.int up, .ref d_mp, .int (nI (ads mp).length)], (d_mp, aR dT 1 cap_mp (fun i => (ads mp)[i]?))], [ob x 3 [.int th, .ref (L 0), .ref (L 1), .ref (L 2), .ref (L 3), .ref (L 4), .ref (L 5), .int (sc 0), .int (bz (sc 1)), .int (sc 2), .int (sc 3), .int (sc 4), .int (sc 5), .int (sc 6)]]] := hw.pick [2] rfl rfl rfl
  have hw : Wd D A s.heap _ _ [[ob q.1 8 [.int (q.2.2 0), .int (q.2.2 1), .ref q.2.1], (q.2.1, aI dT [q.2.2 2, q.2.2 3, q.2.2 4, q.2.2 5])], ((mp.eraseIdx k).flatMap (mpE dT)), [ob (L 0) 15 [.int up, .ref d_mp, .int (nI (ads mp).length)], (d_mp, aR dT 1 cap_mp (fun i => (ads mp)[i]?))], [ob x 3 [.int th, .ref (L 0), .ref (L 1), .ref (L 2), .ref (L 3), .ref (L 4), .ref (L 5), .int (sc 0), .int (bz (sc 1)), .int (sc 2), .int (sc 3), .int (sc 4), .int (sc 5), .int (sc 6)]]] := hw.foc hq
  refine xr_castS hf hK hw 0 0 rfl rfl q1243 dX4_ofPlotNow_8 ?_
  refine lv_astore_n (lv' := [(3, .ref q.1), (0, .ref x), (1, .int i), (2, .int w)]) hx hb dX4_ofPlotNow_11 rfl hl (by decide) rfl (fun ls hl => ?_)
  refine lv_iload_n hx hb dX4_ofPlotNow_12 rfl (lv_at hl 3 rfl) ?_
  refine lv_if_ne (tgt := 23) hx hb dX4_ofPlotNow_13 (by decide) (fun c_13 => ?_) (fun c_13 => ?_)
  · refine lv_iload_n hx hb dX4_ofPlotNow_23 rfl (lv_at hl 3 rfl) ?_
    refine lv_iconst (v := 1) hx hb dX4_ofPlotNow_24 (by decide) ?_
    refine lv_icmp_ne (tgt := 35) hx hb dX4_ofPlotNow_25 (by decide) (fun c_25 => ?_) (fun c_25 => ?_)
    · refine lv_aload_n hx hb dX4_ofPlotNow_35 rfl (lv_at hl 0 rfl) ?_
      refine xr_get hf hK hw 0 0 rfl rfl in_X9 2 (by decide) q1254 (fun _ h => h) rfl dX4_ofPlotNow_36 ?_
      refine lv_iload_n hx hb dX4_ofPlotNow_39 rfl (lv_at hl 3 rfl) ?_
      refine lv_iconst (v := 2) hx hb dX4_ofPlotNow_40 (by decide) ?_
      refine lv_isub hx hb dX4_ofPlotNow_41 ?_
      refine xr_iald hf hK hw 0 1 rfl (w - 2).toNatClampNeg (pl_ix hin c_13 c_25).1 rfl (pl_ix hin c_13 c_25).2 rfl dX4_ofPlotNow_42 ?_
      have hw : Wd D A s.heap _ _ [(mp.flatMap (mpE dT)), [ob (L 0) 15 [.int up, .ref d_mp, .int (nI (ads mp).length)], (d_mp, aR dT 1 cap_mp (fun i => (ads mp)[i]?))], [ob x 3 [.int th, .ref (L 0), .ref (L 1), .ref (L 2), .ref (L 3), .ref (L 4), .ref (L 5), .int (sc 0), .int (bz (sc 1)), .int (sc 2), .int (sc 3), .int (sc 4), .int (sc 5), .int (sc 6)]]] := Wd.unf0 (q := q) (L := mp) (k := k) hw hq
      have hw : Wd D A s.heap _ _ [(mp.flatMap (mpE dT)), ((ob (L 0) 15 [.int up, .ref (al_d g (some (d_mp, cap_mp))), .int (nI (ads mp).length)]) :: (al_t dT (some (d_mp, cap_mp)) (ads mp))), [ob x 3 [.int th, .ref (L 0), .ref (L 1), .ref (L 2), .ref (L 3), .ref (L 4), .ref (L 5), .int (sc 0), .int (bz (sc 1)), .int (sc 2), .int (sc 3), .int (sc 4), .int (sc 5), .int (sc 6)]]] := hw
      have hw : Wd D A s.heap _ _ [[ob x 3 [.int th, .ref (L 0), .ref (L 1), .ref (L 2), .ref (L 3), .ref (L 4), .ref (L 5), .int (sc 0), .int (bz (sc 1)), .int (sc 2), .int (sc 3), .int (sc 4), .int (sc 5), .int (sc 6)]], ((ob (L 0) 15 [.int up, .ref (al_d g (some (d_mp, cap_mp))), .int (nI (ads mp).length)]) :: (al_t dT (some (d_mp, cap_mp)) (ads mp))), (mp.flatMap (mpE dT))] := Wd.take hw [2, 1, 0] rfl rfl
      exact xr_iret hf hr hlocks hw (Nat.le_of_ble_eq_true rfl) (Nat.le_of_ble_eq_true rfl) ⟨congrArg (fun z => some (Value.int z)) (Eq.symm (by unfold pl_told; exact (inz c_13 (inz c_25 rfl)))), rfl⟩ dX4_ofPlotNow_43
    · refine lv_aload_n hx hb dX4_ofPlotNow_28 rfl (lv_at hl 0 rfl) ?_
      refine xr_get hf hK hw 0 0 rfl rfl in_X9 1 (by decide) q1252 (fun _ h => h) rfl dX4_ofPlotNow_29 ?_
      refine lv_goto (tgt := 43) hx hb dX4_ofPlotNow_32 (by decide) ?_
      have hw : Wd D A s.heap _ _ [(mp.flatMap (mpE dT)), [ob (L 0) 15 [.int up, .ref d_mp, .int (nI (ads mp).length)], (d_mp, aR dT 1 cap_mp (fun i => (ads mp)[i]?))], [ob x 3 [.int th, .ref (L 0), .ref (L 1), .ref (L 2), .ref (L 3), .ref (L 4), .ref (L 5), .int (sc 0), .int (bz (sc 1)), .int (sc 2), .int (sc 3), .int (sc 4), .int (sc 5), .int (sc 6)]]] := Wd.unf0 (q := q) (L := mp) (k := k) hw hq
      have hw : Wd D A s.heap _ _ [(mp.flatMap (mpE dT)), ((ob (L 0) 15 [.int up, .ref (al_d g (some (d_mp, cap_mp))), .int (nI (ads mp).length)]) :: (al_t dT (some (d_mp, cap_mp)) (ads mp))), [ob x 3 [.int th, .ref (L 0), .ref (L 1), .ref (L 2), .ref (L 3), .ref (L 4), .ref (L 5), .int (sc 0), .int (bz (sc 1)), .int (sc 2), .int (sc 3), .int (sc 4), .int (sc 5), .int (sc 6)]]] := hw
      have hw : Wd D A s.heap _ _ [[ob x 3 [.int th, .ref (L 0), .ref (L 1), .ref (L 2), .ref (L 3), .ref (L 4), .ref (L 5), .int (sc 0), .int (bz (sc 1)), .int (sc 2), .int (sc 3), .int (sc 4), .int (sc 5), .int (sc 6)]], ((ob (L 0) 15 [.int up, .ref (al_d g (some (d_mp, cap_mp))), .int (nI (ads mp).length)]) :: (al_t dT (some (d_mp, cap_mp)) (ads mp))), (mp.flatMap (mpE dT))] := Wd.take hw [2, 1, 0] rfl rfl
      exact xr_iret hf hr hlocks hw (Nat.le_of_ble_eq_true rfl) (Nat.le_of_ble_eq_true rfl) ⟨congrArg (fun z => some (Value.int z)) (Eq.symm (by unfold pl_told; exact (inz c_13 (dnr c_25 rfl)))), rfl⟩ dX4_ofPlotNow_43
  · refine lv_aload_n hx hb dX4_ofPlotNow_16 rfl (lv_at hl 0 rfl) ?_
    refine xr_get hf hK hw 0 0 rfl rfl in_X9 0 (by decide) q1250 (fun _ h => h) rfl dX4_ofPlotNow_17 ?_
    refine lv_goto (tgt := 43) hx hb dX4_ofPlotNow_20 (by decide) ?_
    have hw : Wd D A s.heap _ _ [(mp.flatMap (mpE dT)), [ob (L 0) 15 [.int up, .ref d_mp, .int (nI (ads mp).length)], (d_mp, aR dT 1 cap_mp (fun i => (ads mp)[i]?))], [ob x 3 [.int th, .ref (L 0), .ref (L 1), .ref (L 2), .ref (L 3), .ref (L 4), .ref (L 5), .int (sc 0), .int (bz (sc 1)), .int (sc 2), .int (sc 3), .int (sc 4), .int (sc 5), .int (sc 6)]]] := Wd.unf0 (q := q) (L := mp) (k := k) hw hq
    have hw : Wd D A s.heap _ _ [(mp.flatMap (mpE dT)), ((ob (L 0) 15 [.int up, .ref (al_d g (some (d_mp, cap_mp))), .int (nI (ads mp).length)]) :: (al_t dT (some (d_mp, cap_mp)) (ads mp))), [ob x 3 [.int th, .ref (L 0), .ref (L 1), .ref (L 2), .ref (L 3), .ref (L 4), .ref (L 5), .int (sc 0), .int (bz (sc 1)), .int (sc 2), .int (sc 3), .int (sc 4), .int (sc 5), .int (sc 6)]]] := hw
    have hw : Wd D A s.heap _ _ [[ob x 3 [.int th, .ref (L 0), .ref (L 1), .ref (L 2), .ref (L 3), .ref (L 4), .ref (L 5), .int (sc 0), .int (bz (sc 1)), .int (sc 2), .int (sc 3), .int (sc 4), .int (sc 5), .int (sc 6)]], ((ob (L 0) 15 [.int up, .ref (al_d g (some (d_mp, cap_mp))), .int (nI (ads mp).length)]) :: (al_t dT (some (d_mp, cap_mp)) (ads mp))), (mp.flatMap (mpE dT))] := Wd.take hw [2, 1, 0] rfl rfl
    exact xr_iret hf hr hlocks hw (Nat.le_of_ble_eq_true rfl) (Nat.le_of_ble_eq_true rfl) ⟨congrArg (fun z => some (Value.int z)) (Eq.symm (by unfold pl_told; exact (dnr c_13 rfl))), rfl⟩ dX4_ofPlotNow_43

set_option maxHeartbeats 4000000 in
theorem k_X4_ofLineNow (l : Launch) (D : va_G) (dT g : Nat → Nat) (z0 : Nat) (x : Nat) (th : Int32) (L : Nat → Nat) (sc : Nat → Int32) (ml : List (Nat × (Nat → Int32))) (i : Int32) (w : Int32) (k : Nat) (q : Nat × (Nat → Int32)) (hml : ml.length = 4) (hq : ml[k]? = some q) (ei : i = nI k) (hk : k < 4096) (hin : ¬ (w < 0 ∨ 2 < w)) : Con l D dT g z0 yX4_ofLineNow (ws_ yX4_ofLineNow cX4_ofLineNow 3 (some .int)) ({ frames := 1, cells := 0, slots := 0, locals := 40 }) [.ref x, .int i, .int w] [[ob x 3 [.int th, .ref (L 0), .ref (L 1), .ref (L 2), .ref (L 3), .ref (L 4), .ref (L 5), .int (sc 0), .int (bz (sc 1)), .int (sc 2), .int (sc 3), .int (sc 4), .int (sc 5), .int (sc 6)]], [((L 1), aR dT 3 4 (fun i => (ads ml)[i]?))], (ml.flatMap mlE)] (fun r LL => r = some (.int (ln_told q.2 w)) ∧ LL = [[ob x 3 [.int th, .ref (L 0), .ref (L 1), .ref (L 2), .ref (L 3), .ref (L 4), .ref (L 5), .int (sc 0), .int (bz (sc 1)), .int (sc 2), .int (sc 3), .int (sc 4), .int (sc 5), .int (sc 6)]], [((L 1), aR dT 3 4 (fun i => (ads ml)[i]?))], (ml.flatMap mlE)]) noX 0 0 := by
  refine Con.of (maxL := 3) (ret := (some .int)) (by first | exact plainFor_of_name (by decide) | decide +kernel) (Nat.le_of_ble_eq_true rfl) ?_
  intro p e s m args below meth c A ls hf hr hlocks hnm hno hK hA hAz hw hl hst
  have hf : CallFix p m c cX4_ofLineNow 3 s args lw_all "SilkRowModel" := hf
  have hnm : meth.name = "ofLineNow" := hnm
  have hx := hf.1
  have hb := hf.2.1
  have hts := hf.2.2.2.2
  have hl : lv_has ls 3 [(0, .ref x), (1, .int i), (2, .int w)] := hl
  have hw : Wd D A s.heap s.heap [] [[ob x 3 [.int th, .ref (L 0), .ref (L 1), .ref (L 2), .ref (L 3), .ref (L 4), .ref (L 5), .int (sc 0), .int (bz (sc 1)), .int (sc 2), .int (sc 3), .int (sc 4), .int (sc 5), .int (sc 6)]], [((L 1), aR dT 3 4 (fun i => (ads ml)[i]?))], (ml.flatMap mlE)] := hw
  refine lv_iload_n hx hb dX4_ofLineNow_0 rfl (lv_at hl 2 rfl) ?_
  refine lv_if_ne (tgt := 16) hx hb dX4_ofLineNow_1 (by decide) (fun c_1 => ?_) (fun c_1 => ?_)
  · refine lv_iload_n hx hb dX4_ofLineNow_16 rfl (lv_at hl 2 rfl) ?_
    refine lv_iconst (v := 1) hx hb dX4_ofLineNow_17 (by decide) ?_
    refine lv_icmp_ne (tgt := 33) hx hb dX4_ofLineNow_18 (by decide) (fun c_18 => ?_) (fun c_18 => ?_)
    · refine lv_aload_n hx hb dX4_ofLineNow_33 rfl (lv_at hl 0 rfl) ?_
      refine xr_get hf hK hw 0 0 rfl rfl in_X4 2 (by decide) q1182 (fun _ h => h) rfl dX4_ofLineNow_34 ?_
      refine lv_iload_n hx hb dX4_ofLineNow_37 rfl (lv_at hl 1 rfl) ?_
      refine xr_aald (r := (some q.1)) hf hK hw 1 0 rfl rfl k (ixp ei hk) (ixc ei hk) (by have := ads_lt hq; rw [ads_len] at this; omega) (ads_some hq) dX4_ofLineNow_38 ?_
      have hw : Wd D A s.heap _ _ [(ml.flatMap mlE), [ob x 3 [.int th, .ref (L 0), .ref (L 1), .ref (L 2), .ref (L 3), .ref (L 4), .ref (L 5), .int (sc 0), .int (bz (sc 1)), .int (sc 2), .int (sc 3), .int (sc 4), .int (sc 5), .int (sc 6)]], [((L 1), aR dT 3 4 (fun i => (ads ml)[i]?))]] := hw.pick [2] rfl rfl rfl
      have hw : Wd D A s.heap _ _ [[ob q.1 5 [.int (q.2 0), .int (q.2 1), .int (q.2 2)]], ((ml.eraseIdx k).flatMap mlE), [ob x 3 [.int th, .ref (L 0), .ref (L 1), .ref (L 2), .ref (L 3), .ref (L 4), .ref (L 5), .int (sc 0), .int (bz (sc 1)), .int (sc 2), .int (sc 3), .int (sc 4), .int (sc 5), .int (sc 6)]], [((L 1), aR dT 3 4 (fun i => (ads ml)[i]?))]] := hw.foc hq
      refine xr_get hf hK hw 0 0 rfl rfl in_X6 2 (by decide) q1122 (fun _ h => h) rfl dX4_ofLineNow_39 ?_
      have hw : Wd D A s.heap _ _ [(ml.flatMap mlE), [ob x 3 [.int th, .ref (L 0), .ref (L 1), .ref (L 2), .ref (L 3), .ref (L 4), .ref (L 5), .int (sc 0), .int (bz (sc 1)), .int (sc 2), .int (sc 3), .int (sc 4), .int (sc 5), .int (sc 6)]], [((L 1), aR dT 3 4 (fun i => (ads ml)[i]?))]] := Wd.unf0 (q := q) (L := ml) (k := k) hw hq
      have hw : Wd D A s.heap _ _ [[ob x 3 [.int th, .ref (L 0), .ref (L 1), .ref (L 2), .ref (L 3), .ref (L 4), .ref (L 5), .int (sc 0), .int (bz (sc 1)), .int (sc 2), .int (sc 3), .int (sc 4), .int (sc 5), .int (sc 6)]], [((L 1), aR dT 3 4 (fun i => (ads ml)[i]?))], (ml.flatMap mlE)] := Wd.take hw [1, 1, 0] rfl rfl
      exact xr_iret hf hr hlocks hw (Nat.le_of_ble_eq_true rfl) (Nat.le_of_ble_eq_true rfl) ⟨congrArg (fun z => some (Value.int z)) (Eq.symm (by unfold ln_told; exact (inz c_1 (inz c_18 rfl)))), rfl⟩ dX4_ofLineNow_42
    · refine lv_aload_n hx hb dX4_ofLineNow_21 rfl (lv_at hl 0 rfl) ?_
      refine xr_get hf hK hw 0 0 rfl rfl in_X4 2 (by decide) q1182 (fun _ h => h) rfl dX4_ofLineNow_22 ?_
      refine lv_iload_n hx hb dX4_ofLineNow_25 rfl (lv_at hl 1 rfl) ?_
      refine xr_aald (r := (some q.1)) hf hK hw 1 0 rfl rfl k (ixp ei hk) (ixc ei hk) (by have := ads_lt hq; rw [ads_len] at this; omega) (ads_some hq) dX4_ofLineNow_26 ?_
      have hw : Wd D A s.heap _ _ [(ml.flatMap mlE), [ob x 3 [.int th, .ref (L 0), .ref (L 1), .ref (L 2), .ref (L 3), .ref (L 4), .ref (L 5), .int (sc 0), .int (bz (sc 1)), .int (sc 2), .int (sc 3), .int (sc 4), .int (sc 5), .int (sc 6)]], [((L 1), aR dT 3 4 (fun i => (ads ml)[i]?))]] := hw.pick [2] rfl rfl rfl
      have hw : Wd D A s.heap _ _ [[ob q.1 5 [.int (q.2 0), .int (q.2 1), .int (q.2 2)]], ((ml.eraseIdx k).flatMap mlE), [ob x 3 [.int th, .ref (L 0), .ref (L 1), .ref (L 2), .ref (L 3), .ref (L 4), .ref (L 5), .int (sc 0), .int (bz (sc 1)), .int (sc 2), .int (sc 3), .int (sc 4), .int (sc 5), .int (sc 6)]], [((L 1), aR dT 3 4 (fun i => (ads ml)[i]?))]] := hw.foc hq
      refine xr_get hf hK hw 0 0 rfl rfl in_X6 1 (by decide) q1121 (fun _ h => h) rfl dX4_ofLineNow_27 ?_
      refine lv_goto (tgt := 42) hx hb dX4_ofLineNow_30 (by decide) ?_
      have hw : Wd D A s.heap _ _ [(ml.flatMap mlE), [ob x 3 [.int th, .ref (L 0), .ref (L 1), .ref (L 2), .ref (L 3), .ref (L 4), .ref (L 5), .int (sc 0), .int (bz (sc 1)), .int (sc 2), .int (sc 3), .int (sc 4), .int (sc 5), .int (sc 6)]], [((L 1), aR dT 3 4 (fun i => (ads ml)[i]?))]] := Wd.unf0 (q := q) (L := ml) (k := k) hw hq
      have hw : Wd D A s.heap _ _ [[ob x 3 [.int th, .ref (L 0), .ref (L 1), .ref (L 2), .ref (L 3), .ref (L 4), .ref (L 5), .int (sc 0), .int (bz (sc 1)), .int (sc 2), .int (sc 3), .int (sc 4), .int (sc 5), .int (sc 6)]], [((L 1), aR dT 3 4 (fun i => (ads ml)[i]?))], (ml.flatMap mlE)] := Wd.take hw [1, 1, 0] rfl rfl
      exact xr_iret hf hr hlocks hw (Nat.le_of_ble_eq_true rfl) (Nat.le_of_ble_eq_true rfl) ⟨congrArg (fun z => some (Value.int z)) (Eq.symm (by unfold ln_told; exact (inz c_1 (dnr c_18 rfl)))), rfl⟩ dX4_ofLineNow_42
  · refine lv_aload_n hx hb dX4_ofLineNow_4 rfl (lv_at hl 0 rfl) ?_
    refine xr_get hf hK hw 0 0 rfl rfl in_X4 2 (by decide) q1182 (fun _ h => h) rfl dX4_ofLineNow_5 ?_
    refine lv_iload_n hx hb dX4_ofLineNow_8 rfl (lv_at hl 1 rfl) ?_
    refine xr_aald (r := (some q.1)) hf hK hw 1 0 rfl rfl k (ixp ei hk) (ixc ei hk) (by have := ads_lt hq; rw [ads_len] at this; omega) (ads_some hq) dX4_ofLineNow_9 ?_
    have hw : Wd D A s.heap _ _ [(ml.flatMap mlE), [ob x 3 [.int th, .ref (L 0), .ref (L 1), .ref (L 2), .ref (L 3), .ref (L 4), .ref (L 5), .int (sc 0), .int (bz (sc 1)), .int (sc 2), .int (sc 3), .int (sc 4), .int (sc 5), .int (sc 6)]], [((L 1), aR dT 3 4 (fun i => (ads ml)[i]?))]] := hw.pick [2] rfl rfl rfl
    have hw : Wd D A s.heap _ _ [[ob q.1 5 [.int (q.2 0), .int (q.2 1), .int (q.2 2)]], ((ml.eraseIdx k).flatMap mlE), [ob x 3 [.int th, .ref (L 0), .ref (L 1), .ref (L 2), .ref (L 3), .ref (L 4), .ref (L 5), .int (sc 0), .int (bz (sc 1)), .int (sc 2), .int (sc 3), .int (sc 4), .int (sc 5), .int (sc 6)]], [((L 1), aR dT 3 4 (fun i => (ads ml)[i]?))]] := hw.foc hq
    refine xr_get hf hK hw 0 0 rfl rfl in_X6 0 (by decide) q1119 (fun _ h => h) rfl dX4_ofLineNow_10 ?_
    refine lv_goto (tgt := 42) hx hb dX4_ofLineNow_13 (by decide) ?_
    have hw : Wd D A s.heap _ _ [(ml.flatMap mlE), [ob x 3 [.int th, .ref (L 0), .ref (L 1), .ref (L 2), .ref (L 3), .ref (L 4), .ref (L 5), .int (sc 0), .int (bz (sc 1)), .int (sc 2), .int (sc 3), .int (sc 4), .int (sc 5), .int (sc 6)]], [((L 1), aR dT 3 4 (fun i => (ads ml)[i]?))]] := Wd.unf0 (q := q) (L := ml) (k := k) hw hq
    have hw : Wd D A s.heap _ _ [[ob x 3 [.int th, .ref (L 0), .ref (L 1), .ref (L 2), .ref (L 3), .ref (L 4), .ref (L 5), .int (sc 0), .int (bz (sc 1)), .int (sc 2), .int (sc 3), .int (sc 4), .int (sc 5), .int (sc 6)]], [((L 1), aR dT 3 4 (fun i => (ads ml)[i]?))], (ml.flatMap mlE)] := Wd.take hw [1, 1, 0] rfl rfl
    exact xr_iret hf hr hlocks hw (Nat.le_of_ble_eq_true rfl) (Nat.le_of_ble_eq_true rfl) ⟨congrArg (fun z => some (Value.int z)) (Eq.symm (by unfold ln_told; exact (dnr c_1 rfl))), rfl⟩ dX4_ofLineNow_42

set_option maxHeartbeats 4000000 in
theorem k_X4_ofTrayNow (l : Launch) (D : va_G) (dT g : Nat → Nat) (z0 : Nat) (x : Nat) (th : Int32) (L : Nat → Nat) (sc : Nat → Int32) (mt : List (Nat × (Nat → Int32))) (i : Int32) (w : Int32) (k : Nat) (q : Nat × (Nat → Int32)) (hmt : mt.length = 6) (hq : mt[k]? = some q) (ei : i = nI k) (hk : k < 4096) (hin : ¬ (w < 0 ∨ 11 < w)) : Con l D dT g z0 yX4_ofTrayNow (ws_ yX4_ofTrayNow cX4_ofTrayNow 5 (some .int)) ({ frames := 3, cells := 1, slots := 12, locals := 81 }) [.ref x, .int i, .int w] [[ob x 3 [.int th, .ref (L 0), .ref (L 1), .ref (L 2), .ref (L 3), .ref (L 4), .ref (L 5), .int (sc 0), .int (bz (sc 1)), .int (sc 2), .int (sc 3), .int (sc 4), .int (sc 5), .int (sc 6)]], [((L 2), aR dT 4 6 (fun i => (ads mt)[i]?))], (mt.flatMap mtE)] (fun r LL => r = some (.int (mt_told q.2 w)) ∧ LL = [[ob x 3 [.int th, .ref (L 0), .ref (L 1), .ref (L 2), .ref (L 3), .ref (L 4), .ref (L 5), .int (sc 0), .int (bz (sc 1)), .int (sc 2), .int (sc 3), .int (sc 4), .int (sc 5), .int (sc 6)]], [((L 2), aR dT 4 6 (fun i => (ads mt)[i]?))], (mt.flatMap mtE)]) noX 1 12 := by
  refine Con.of (maxL := 5) (ret := (some .int)) (by first | exact plainFor_of_name (by decide) | decide +kernel) (Nat.le_of_ble_eq_true rfl) ?_
  intro p e s m args below meth c A ls hf hr hlocks hnm hno hK hA hAz hw hl hst
  have hf : CallFix p m c cX4_ofTrayNow 5 s args lw_all "SilkRowModel" := hf
  have hnm : meth.name = "ofTrayNow" := hnm
  have hx := hf.1
  have hb := hf.2.1
  have hts := hf.2.2.2.2
  have hl : lv_has ls 5 [(0, .ref x), (1, .int i), (2, .int w)] := hl
  have hw : Wd D A s.heap s.heap [] [[ob x 3 [.int th, .ref (L 0), .ref (L 1), .ref (L 2), .ref (L 3), .ref (L 4), .ref (L 5), .int (sc 0), .int (bz (sc 1)), .int (sc 2), .int (sc 3), .int (sc 4), .int (sc 5), .int (sc 6)]], [((L 2), aR dT 4 6 (fun i => (ads mt)[i]?))], (mt.flatMap mtE)] := hw
  refine lv_aload_n hx hb dX4_ofTrayNow_0 rfl (lv_at hl 0 rfl) ?_
  refine xr_get hf hK hw 0 0 rfl rfl in_X4 3 (by decide) q1183 (fun _ h => h) rfl dX4_ofTrayNow_1 ?_
  refine lv_iload_n hx hb dX4_ofTrayNow_4 rfl (lv_at hl 1 rfl) ?_
  refine xr_aald (r := (some q.1)) hf hK hw 1 0 rfl rfl k (ixp ei hk) (ixc ei hk) (by have := ads_lt hq; rw [ads_len] at this; omega) (ads_some hq) dX4_ofTrayNow_5 ?_
  refine lv_astore_n (lv' := [(3, .ref q.1), (0, .ref x), (1, .int i), (2, .int w)]) hx hb dX4_ofTrayNow_6 rfl hl (by decide) rfl (fun ls hl => ?_)
  refine lv_bipush (v := 12) hx hb dX4_ofTrayNow_7 (by decide) ?_
  refine xr_newi hf hK hw hA q463 (N := 12) (by decide) (by decide) (Nat.le_of_ble_eq_true rfl) (Nat.le_of_ble_eq_true rfl) (Nat.le_of_ble_eq_true rfl) dX4_ofTrayNow_9 (fun qa1 H hw => ?_)
  have hw : Wd D A s.heap _ _ [[ob x 3 [.int th, .ref (L 0), .ref (L 1), .ref (L 2), .ref (L 3), .ref (L 4), .ref (L 5), .int (sc 0), .int (bz (sc 1)), .int (sc 2), .int (sc 3), .int (sc 4), .int (sc 5), .int (sc 6)]], [((L 2), aR dT 4 6 (fun i => (ads mt)[i]?))], (mt.flatMap mtE), [(qa1, aI dT [0, 0, 0, 0, 0, 0, 0, 0, 0, 0, 0, 0])]] := hw
  refine lv_dup hx hb dX4_ofTrayNow_11 rfl ?_
  refine lv_iconst (v := 0) hx hb dX4_ofTrayNow_12 (by decide) ?_
  refine lv_aload_n hx hb dX4_ofTrayNow_13 rfl (lv_at hl 0 rfl) ?_
  have hw : Wd D A s.heap _ _ [(mt.flatMap mtE), [ob x 3 [.int th, .ref (L 0), .ref (L 1), .ref (L 2), .ref (L 3), .ref (L 4), .ref (L 5), .int (sc 0), .int (bz (sc 1)), .int (sc 2), .int (sc 3), .int (sc 4), .int (sc 5), .int (sc 6)]], [((L 2), aR dT 4 6 (fun i => (ads mt)[i]?))], [(qa1, aI dT [0, 0, 0, 0, 0, 0, 0, 0, 0, 0, 0, 0])]] := hw.pick [2] rfl rfl rfl
  have hw : Wd D A s.heap _ _ [[ob q.1 6 [.int (q.2 0), .int (q.2 1), .int (q.2 2), .int (q.2 3), .int (q.2 4), .int (q.2 5), .int (q.2 6), .int (q.2 7), .int (q.2 8), .int (q.2 9), .int (bz (q.2 10))]], ((mt.eraseIdx k).flatMap mtE), [ob x 3 [.int th, .ref (L 0), .ref (L 1), .ref (L 2), .ref (L 3), .ref (L 4), .ref (L 5), .int (sc 0), .int (bz (sc 1)), .int (sc 2), .int (sc 3), .int (sc 4), .int (sc 5), .int (sc 6)]], [((L 2), aR dT 4 6 (fun i => (ads mt)[i]?))], [(qa1, aI dT [0, 0, 0, 0, 0, 0, 0, 0, 0, 0, 0, 0])]] := hw.foc hq
  refine xr_get hf hK hw 0 0 rfl rfl in_X7 0 (by decide) q1136 (fun _ h => h) rfl dX4_ofTrayNow_14 ?_
  refine xr_iast (LL' := [[ob q.1 6 [.int (q.2 0), .int (q.2 1), .int (q.2 2), .int (q.2 3), .int (q.2 4), .int (q.2 5), .int (q.2 6), .int (q.2 7), .int (q.2 8), .int (q.2 9), .int (bz (q.2 10))]], ((mt.eraseIdx k).flatMap mtE), [ob x 3 [.int th, .ref (L 0), .ref (L 1), .ref (L 2), .ref (L 3), .ref (L 4), .ref (L 5), .int (sc 0), .int (bz (sc 1)), .int (sc 2), .int (sc 3), .int (sc 4), .int (sc 5), .int (sc 6)]], [((L 2), aR dT 4 6 (fun i => (ads mt)[i]?))], [(qa1, aI dT [q.2 0, 0, 0, 0, 0, 0, 0, 0, 0, 0, 0, 0])]]) hf hK hw 4 0 rfl 0 (by decide) (by decide) (Nat.le_of_ble_eq_true rfl) rfl dX4_ofTrayNow_17 (fun H locs hw => ?_)
  refine lv_dup hx hb dX4_ofTrayNow_18 rfl ?_
  refine lv_iconst (v := 1) hx hb dX4_ofTrayNow_19 (by decide) ?_
  refine lv_aload_n hx hb dX4_ofTrayNow_20 rfl (lv_at hl 0 rfl) ?_
  refine xr_get hf hK hw 0 0 rfl rfl in_X7 1 (by decide) q1138 (fun _ h => h) rfl dX4_ofTrayNow_21 ?_
  refine xr_iast (LL' := [[ob q.1 6 [.int (q.2 0), .int (q.2 1), .int (q.2 2), .int (q.2 3), .int (q.2 4), .int (q.2 5), .int (q.2 6), .int (q.2 7), .int (q.2 8), .int (q.2 9), .int (bz (q.2 10))]], ((mt.eraseIdx k).flatMap mtE), [ob x 3 [.int th, .ref (L 0), .ref (L 1), .ref (L 2), .ref (L 3), .ref (L 4), .ref (L 5), .int (sc 0), .int (bz (sc 1)), .int (sc 2), .int (sc 3), .int (sc 4), .int (sc 5), .int (sc 6)]], [((L 2), aR dT 4 6 (fun i => (ads mt)[i]?))], [(qa1, aI dT [q.2 0, q.2 1, 0, 0, 0, 0, 0, 0, 0, 0, 0, 0])]]) hf hK hw 4 0 rfl 1 (by decide) (by decide) (Nat.le_of_ble_eq_true rfl) rfl dX4_ofTrayNow_24 (fun H locs hw => ?_)
  refine lv_dup hx hb dX4_ofTrayNow_25 rfl ?_
  refine lv_iconst (v := 2) hx hb dX4_ofTrayNow_26 (by decide) ?_
  refine lv_aload_n hx hb dX4_ofTrayNow_27 rfl (lv_at hl 0 rfl) ?_
  refine xr_get hf hK hw 0 0 rfl rfl in_X7 2 (by decide) q1140 (fun _ h => h) rfl dX4_ofTrayNow_28 ?_
  refine xr_iast (LL' := [[ob q.1 6 [.int (q.2 0), .int (q.2 1), .int (q.2 2), .int (q.2 3), .int (q.2 4), .int (q.2 5), .int (q.2 6), .int (q.2 7), .int (q.2 8), .int (q.2 9), .int (bz (q.2 10))]], ((mt.eraseIdx k).flatMap mtE), [ob x 3 [.int th, .ref (L 0), .ref (L 1), .ref (L 2), .ref (L 3), .ref (L 4), .ref (L 5), .int (sc 0), .int (bz (sc 1)), .int (sc 2), .int (sc 3), .int (sc 4), .int (sc 5), .int (sc 6)]], [((L 2), aR dT 4 6 (fun i => (ads mt)[i]?))], [(qa1, aI dT [q.2 0, q.2 1, q.2 2, 0, 0, 0, 0, 0, 0, 0, 0, 0])]]) hf hK hw 4 0 rfl 2 (by decide) (by decide) (Nat.le_of_ble_eq_true rfl) rfl dX4_ofTrayNow_31 (fun H locs hw => ?_)
  refine lv_dup hx hb dX4_ofTrayNow_32 rfl ?_
  refine lv_iconst (v := 3) hx hb dX4_ofTrayNow_33 (by decide) ?_
  refine lv_aload_n hx hb dX4_ofTrayNow_34 rfl (lv_at hl 0 rfl) ?_
  refine xr_get hf hK hw 0 0 rfl rfl in_X7 3 (by decide) q1142 (fun _ h => h) rfl dX4_ofTrayNow_35 ?_
  refine xr_iast (LL' := [[ob q.1 6 [.int (q.2 0), .int (q.2 1), .int (q.2 2), .int (q.2 3), .int (q.2 4), .int (q.2 5), .int (q.2 6), .int (q.2 7), .int (q.2 8), .int (q.2 9), .int (bz (q.2 10))]], ((mt.eraseIdx k).flatMap mtE), [ob x 3 [.int th, .ref (L 0), .ref (L 1), .ref (L 2), .ref (L 3), .ref (L 4), .ref (L 5), .int (sc 0), .int (bz (sc 1)), .int (sc 2), .int (sc 3), .int (sc 4), .int (sc 5), .int (sc 6)]], [((L 2), aR dT 4 6 (fun i => (ads mt)[i]?))], [(qa1, aI dT [q.2 0, q.2 1, q.2 2, q.2 3, 0, 0, 0, 0, 0, 0, 0, 0])]]) hf hK hw 4 0 rfl 3 (by decide) (by decide) (Nat.le_of_ble_eq_true rfl) rfl dX4_ofTrayNow_38 (fun H locs hw => ?_)
  refine lv_dup hx hb dX4_ofTrayNow_39 rfl ?_
  refine lv_iconst (v := 4) hx hb dX4_ofTrayNow_40 (by decide) ?_
  refine lv_aload_n hx hb dX4_ofTrayNow_41 rfl (lv_at hl 0 rfl) ?_
  refine xr_get hf hK hw 0 0 rfl rfl in_X7 4 (by decide) q1144 (fun _ h => h) rfl dX4_ofTrayNow_42 ?_
  refine xr_iast (LL' := [[ob q.1 6 [.int (q.2 0), .int (q.2 1), .int (q.2 2), .int (q.2 3), .int (q.2 4), .int (q.2 5), .int (q.2 6), .int (q.2 7), .int (q.2 8), .int (q.2 9), .int (bz (q.2 10))]], ((mt.eraseIdx k).flatMap mtE), [ob x 3 [.int th, .ref (L 0), .ref (L 1), .ref (L 2), .ref (L 3), .ref (L 4), .ref (L 5), .int (sc 0), .int (bz (sc 1)), .int (sc 2), .int (sc 3), .int (sc 4), .int (sc 5), .int (sc 6)]], [((L 2), aR dT 4 6 (fun i => (ads mt)[i]?))], [(qa1, aI dT [q.2 0, q.2 1, q.2 2, q.2 3, q.2 4, 0, 0, 0, 0, 0, 0, 0])]]) hf hK hw 4 0 rfl 4 (by decide) (by decide) (Nat.le_of_ble_eq_true rfl) rfl dX4_ofTrayNow_45 (fun H locs hw => ?_)
  refine lv_dup hx hb dX4_ofTrayNow_46 rfl ?_
  refine lv_iconst (v := 5) hx hb dX4_ofTrayNow_47 (by decide) ?_
  refine lv_aload_n hx hb dX4_ofTrayNow_48 rfl (lv_at hl 0 rfl) ?_
  refine xr_get hf hK hw 0 0 rfl rfl in_X7 5 (by decide) q1146 (fun _ h => h) rfl dX4_ofTrayNow_49 ?_
  refine xr_iast (LL' := [[ob q.1 6 [.int (q.2 0), .int (q.2 1), .int (q.2 2), .int (q.2 3), .int (q.2 4), .int (q.2 5), .int (q.2 6), .int (q.2 7), .int (q.2 8), .int (q.2 9), .int (bz (q.2 10))]], ((mt.eraseIdx k).flatMap mtE), [ob x 3 [.int th, .ref (L 0), .ref (L 1), .ref (L 2), .ref (L 3), .ref (L 4), .ref (L 5), .int (sc 0), .int (bz (sc 1)), .int (sc 2), .int (sc 3), .int (sc 4), .int (sc 5), .int (sc 6)]], [((L 2), aR dT 4 6 (fun i => (ads mt)[i]?))], [(qa1, aI dT [q.2 0, q.2 1, q.2 2, q.2 3, q.2 4, q.2 5, 0, 0, 0, 0, 0, 0])]]) hf hK hw 4 0 rfl 5 (by decide) (by decide) (Nat.le_of_ble_eq_true rfl) rfl dX4_ofTrayNow_52 (fun H locs hw => ?_)
  refine lv_dup hx hb dX4_ofTrayNow_53 rfl ?_
  refine lv_bipush (v := 6) hx hb dX4_ofTrayNow_54 (by decide) ?_
  refine lv_aload_n hx hb dX4_ofTrayNow_56 rfl (lv_at hl 0 rfl) ?_
  refine xr_get hf hK hw 0 0 rfl rfl in_X7 6 (by decide) q1148 (fun _ h => h) rfl dX4_ofTrayNow_57 ?_
  refine xr_iast (LL' := [[ob q.1 6 [.int (q.2 0), .int (q.2 1), .int (q.2 2), .int (q.2 3), .int (q.2 4), .int (q.2 5), .int (q.2 6), .int (q.2 7), .int (q.2 8), .int (q.2 9), .int (bz (q.2 10))]], ((mt.eraseIdx k).flatMap mtE), [ob x 3 [.int th, .ref (L 0), .ref (L 1), .ref (L 2), .ref (L 3), .ref (L 4), .ref (L 5), .int (sc 0), .int (bz (sc 1)), .int (sc 2), .int (sc 3), .int (sc 4), .int (sc 5), .int (sc 6)]], [((L 2), aR dT 4 6 (fun i => (ads mt)[i]?))], [(qa1, aI dT [q.2 0, q.2 1, q.2 2, q.2 3, q.2 4, q.2 5, q.2 6, 0, 0, 0, 0, 0])]]) hf hK hw 4 0 rfl 6 (by decide) (by decide) (Nat.le_of_ble_eq_true rfl) rfl dX4_ofTrayNow_60 (fun H locs hw => ?_)
  refine lv_dup hx hb dX4_ofTrayNow_61 rfl ?_
  refine lv_bipush (v := 7) hx hb dX4_ofTrayNow_62 (by decide) ?_
  refine lv_aload_n hx hb dX4_ofTrayNow_64 rfl (lv_at hl 0 rfl) ?_
  refine xr_get hf hK hw 0 0 rfl rfl in_X7 7 (by decide) q1150 (fun _ h => h) rfl dX4_ofTrayNow_65 ?_
  refine xr_iast (LL' := [[ob q.1 6 [.int (q.2 0), .int (q.2 1), .int (q.2 2), .int (q.2 3), .int (q.2 4), .int (q.2 5), .int (q.2 6), .int (q.2 7), .int (q.2 8), .int (q.2 9), .int (bz (q.2 10))]], ((mt.eraseIdx k).flatMap mtE), [ob x 3 [.int th, .ref (L 0), .ref (L 1), .ref (L 2), .ref (L 3), .ref (L 4), .ref (L 5), .int (sc 0), .int (bz (sc 1)), .int (sc 2), .int (sc 3), .int (sc 4), .int (sc 5), .int (sc 6)]], [((L 2), aR dT 4 6 (fun i => (ads mt)[i]?))], [(qa1, aI dT [q.2 0, q.2 1, q.2 2, q.2 3, q.2 4, q.2 5, q.2 6, q.2 7, 0, 0, 0, 0])]]) hf hK hw 4 0 rfl 7 (by decide) (by decide) (Nat.le_of_ble_eq_true rfl) rfl dX4_ofTrayNow_68 (fun H locs hw => ?_)
  refine lv_dup hx hb dX4_ofTrayNow_69 rfl ?_
  refine lv_bipush (v := 8) hx hb dX4_ofTrayNow_70 (by decide) ?_
  refine lv_aload_n hx hb dX4_ofTrayNow_72 rfl (lv_at hl 0 rfl) ?_
  refine xr_get hf hK hw 0 0 rfl rfl in_X7 8 (by decide) q1152 (fun _ h => h) rfl dX4_ofTrayNow_73 ?_
  refine xr_iast (LL' := [[ob q.1 6 [.int (q.2 0), .int (q.2 1), .int (q.2 2), .int (q.2 3), .int (q.2 4), .int (q.2 5), .int (q.2 6), .int (q.2 7), .int (q.2 8), .int (q.2 9), .int (bz (q.2 10))]], ((mt.eraseIdx k).flatMap mtE), [ob x 3 [.int th, .ref (L 0), .ref (L 1), .ref (L 2), .ref (L 3), .ref (L 4), .ref (L 5), .int (sc 0), .int (bz (sc 1)), .int (sc 2), .int (sc 3), .int (sc 4), .int (sc 5), .int (sc 6)]], [((L 2), aR dT 4 6 (fun i => (ads mt)[i]?))], [(qa1, aI dT [q.2 0, q.2 1, q.2 2, q.2 3, q.2 4, q.2 5, q.2 6, q.2 7, q.2 8, 0, 0, 0])]]) hf hK hw 4 0 rfl 8 (by decide) (by decide) (Nat.le_of_ble_eq_true rfl) rfl dX4_ofTrayNow_76 (fun H locs hw => ?_)
  refine lv_dup hx hb dX4_ofTrayNow_77 rfl ?_
  refine lv_bipush (v := 9) hx hb dX4_ofTrayNow_78 (by decide) ?_
  refine lv_aload_n hx hb dX4_ofTrayNow_80 rfl (lv_at hl 0 rfl) ?_
  refine xr_get hf hK hw 0 0 rfl rfl in_X7 9 (by decide) q1154 (fun _ h => h) rfl dX4_ofTrayNow_81 ?_
  refine xr_iast (LL' := [[ob q.1 6 [.int (q.2 0), .int (q.2 1), .int (q.2 2), .int (q.2 3), .int (q.2 4), .int (q.2 5), .int (q.2 6), .int (q.2 7), .int (q.2 8), .int (q.2 9), .int (bz (q.2 10))]], ((mt.eraseIdx k).flatMap mtE), [ob x 3 [.int th, .ref (L 0), .ref (L 1), .ref (L 2), .ref (L 3), .ref (L 4), .ref (L 5), .int (sc 0), .int (bz (sc 1)), .int (sc 2), .int (sc 3), .int (sc 4), .int (sc 5), .int (sc 6)]], [((L 2), aR dT 4 6 (fun i => (ads mt)[i]?))], [(qa1, aI dT [q.2 0, q.2 1, q.2 2, q.2 3, q.2 4, q.2 5, q.2 6, q.2 7, q.2 8, q.2 9, 0, 0])]]) hf hK hw 4 0 rfl 9 (by decide) (by decide) (Nat.le_of_ble_eq_true rfl) rfl dX4_ofTrayNow_84 (fun H locs hw => ?_)
  refine lv_dup hx hb dX4_ofTrayNow_85 rfl ?_
  refine lv_bipush (v := 10) hx hb dX4_ofTrayNow_86 (by decide) ?_
  refine lv_aload_n hx hb dX4_ofTrayNow_88 rfl (lv_at hl 0 rfl) ?_
  refine xc_V (rest := [.int 10, .ref qa1, .ref qa1]) (As := []) hf hK hA hAz hst (hw.pick [0] rfl rfl rfl) (k_X7_need l D dT g z0 q.1 q.2) (cwV 0 hts (lw_V q1561 q1294 q1295 q57 q1296) rfl rfl rfl (by decide +kernel) ⟨Nat.le_of_ble_eq_true rfl, Nat.le_of_ble_eq_true rfl⟩) (xr_rv hK hw 0 0 rfl rfl) rfl hl.1 rfl (Nat.le_of_ble_eq_true rfl) dX4_ofTrayNow_89 ⟨(Nat.le_of_ble_eq_true rfl), (Nat.le_of_ble_eq_true rfl)⟩ (fun _ _ _ _ _ _ h => h.elim) (fun v9 LL1 H locs hp hw => ?_)
  rw [fs_X7_need] at hp
  obtain ⟨r2, hr2⟩ : ∃ z, z = f_X7_need q.2 := ⟨_, rfl⟩
  rw [← hr2] at hp
  obtain ⟨rfl, rfl⟩ := hp
  have hw : Wd D A s.heap _ _ [[ob q.1 6 [.int (q.2 0), .int (q.2 1), .int (q.2 2), .int (q.2 3), .int (q.2 4), .int (q.2 5), .int (q.2 6), .int (q.2 7), .int (q.2 8), .int (q.2 9), .int (bz (q.2 10))]], ((mt.eraseIdx k).flatMap mtE), [ob x 3 [.int th, .ref (L 0), .ref (L 1), .ref (L 2), .ref (L 3), .ref (L 4), .ref (L 5), .int (sc 0), .int (bz (sc 1)), .int (sc 2), .int (sc 3), .int (sc 4), .int (sc 5), .int (sc 6)]], [((L 2), aR dT 4 6 (fun i => (ads mt)[i]?))], [(qa1, aI dT [q.2 0, q.2 1, q.2 2, q.2 3, q.2 4, q.2 5, q.2 6, q.2 7, q.2 8, q.2 9, 0, 0])]] := hw
  refine W.eq (g2 := F0 m 92 ls [.int r2.1, .int 10, .ref qa1, .ref qa1]) rfl ?_
  refine xr_iast (LL' := [[ob q.1 6 [.int (q.2 0), .int (q.2 1), .int (q.2 2), .int (q.2 3), .int (q.2 4), .int (q.2 5), .int (q.2 6), .int (q.2 7), .int (q.2 8), .int (q.2 9), .int (bz (q.2 10))]], ((mt.eraseIdx k).flatMap mtE), [ob x 3 [.int th, .ref (L 0), .ref (L 1), .ref (L 2), .ref (L 3), .ref (L 4), .ref (L 5), .int (sc 0), .int (bz (sc 1)), .int (sc 2), .int (sc 3), .int (sc 4), .int (sc 5), .int (sc 6)]], [((L 2), aR dT 4 6 (fun i => (ads mt)[i]?))], [(qa1, aI dT [q.2 0, q.2 1, q.2 2, q.2 3, q.2 4, q.2 5, q.2 6, q.2 7, q.2 8, q.2 9, r2.1, 0])]]) hf hK hw 4 0 rfl 10 (by decide) (by decide) (Nat.le_of_ble_eq_true rfl) rfl dX4_ofTrayNow_92 (fun H locs hw => ?_)
  refine lv_dup hx hb dX4_ofTrayNow_93 rfl ?_
  refine lv_bipush (v := 11) hx hb dX4_ofTrayNow_94 (by decide) ?_
  refine lv_aload_n hx hb dX4_ofTrayNow_96 rfl (lv_at hl 0 rfl) ?_
  refine xr_get hf hK hw 0 0 rfl rfl in_X7 10 (by decide) q1156 (fun _ h => h) rfl dX4_ofTrayNow_97 ?_
  refine lv_if_eq (tgt := 107) hx hb dX4_ofTrayNow_100 (by decide) (fun c_100 => ?_) (fun c_100 => ?_)
  · refine lv_iconst (v := 0) hx hb dX4_ofTrayNow_107 (by decide) ?_
    refine xr_iast (LL' := [[ob q.1 6 [.int (q.2 0), .int (q.2 1), .int (q.2 2), .int (q.2 3), .int (q.2 4), .int (q.2 5), .int (q.2 6), .int (q.2 7), .int (q.2 8), .int (q.2 9), .int (bz (q.2 10))]], ((mt.eraseIdx k).flatMap mtE), [ob x 3 [.int th, .ref (L 0), .ref (L 1), .ref (L 2), .ref (L 3), .ref (L 4), .ref (L 5), .int (sc 0), .int (bz (sc 1)), .int (sc 2), .int (sc 3), .int (sc 4), .int (sc 5), .int (sc 6)]], [((L 2), aR dT 4 6 (fun i => (ads mt)[i]?))], [(qa1, aI dT [q.2 0, q.2 1, q.2 2, q.2 3, q.2 4, q.2 5, q.2 6, q.2 7, q.2 8, q.2 9, r2.1, 0])]]) hf hK hw 4 0 rfl 11 (by decide) (by decide) (Nat.le_of_ble_eq_true rfl) rfl dX4_ofTrayNow_108 (fun H locs hw => ?_)
    refine lv_astore (lv' := [(4, .ref qa1), (3, .ref q.1), (0, .ref x), (1, .int i), (2, .int w)]) hx hb dX4_ofTrayNow_109 hl (by decide) rfl (fun ls hl => ?_)
    refine lv_aload hx hb dX4_ofTrayNow_111 (lv_at hl 0 rfl) ?_
    refine lv_iload_n hx hb dX4_ofTrayNow_113 rfl (lv_at hl 4 rfl) ?_
    refine xr_iald hf hK hw 4 0 rfl w.toNatClampNeg (fun z => hin (Or.inl z)) rfl (ix_nor 11 (by decide) hin) rfl dX4_ofTrayNow_114 ?_
    have hw : Wd D A s.heap _ _ [(mt.flatMap mtE), [ob x 3 [.int th, .ref (L 0), .ref (L 1), .ref (L 2), .ref (L 3), .ref (L 4), .ref (L 5), .int (sc 0), .int (bz (sc 1)), .int (sc 2), .int (sc 3), .int (sc 4), .int (sc 5), .int (sc 6)]], [((L 2), aR dT 4 6 (fun i => (ads mt)[i]?))], [(qa1, aI dT [q.2 0, q.2 1, q.2 2, q.2 3, q.2 4, q.2 5, q.2 6, q.2 7, q.2 8, q.2 9, r2.1, 0])]] := Wd.unf0 (q := q) (L := mt) (k := k) hw hq
    have hw : Wd D A s.heap _ _ [[ob x 3 [.int th, .ref (L 0), .ref (L 1), .ref (L 2), .ref (L 3), .ref (L 4), .ref (L 5), .int (sc 0), .int (bz (sc 1)), .int (sc 2), .int (sc 3), .int (sc 4), .int (sc 5), .int (sc 6)]], [((L 2), aR dT 4 6 (fun i => (ads mt)[i]?))], (mt.flatMap mtE)] := Wd.take hw [1, 1, 0] rfl rfl
    have hwZ := hw
    subst hr2
    have hw := hwZ
    exact xr_iret hf hr hlocks hw (Nat.le_of_ble_eq_true rfl) (Nat.le_of_ble_eq_true rfl) ⟨congrArg (fun z => some (Value.int z)) (Eq.symm (by unfold mt_told; rw [one_f c_100])), rfl⟩ dX4_ofTrayNow_115
  · refine lv_iconst (v := 1) hx hb dX4_ofTrayNow_103 (by decide) ?_
    refine lv_goto (tgt := 108) hx hb dX4_ofTrayNow_104 (by decide) ?_
    refine xr_iast (LL' := [[ob q.1 6 [.int (q.2 0), .int (q.2 1), .int (q.2 2), .int (q.2 3), .int (q.2 4), .int (q.2 5), .int (q.2 6), .int (q.2 7), .int (q.2 8), .int (q.2 9), .int (bz (q.2 10))]], ((mt.eraseIdx k).flatMap mtE), [ob x 3 [.int th, .ref (L 0), .ref (L 1), .ref (L 2), .ref (L 3), .ref (L 4), .ref (L 5), .int (sc 0), .int (bz (sc 1)), .int (sc 2), .int (sc 3), .int (sc 4), .int (sc 5), .int (sc 6)]], [((L 2), aR dT 4 6 (fun i => (ads mt)[i]?))], [(qa1, aI dT [q.2 0, q.2 1, q.2 2, q.2 3, q.2 4, q.2 5, q.2 6, q.2 7, q.2 8, q.2 9, r2.1, 1])]]) hf hK hw 4 0 rfl 11 (by decide) (by decide) (Nat.le_of_ble_eq_true rfl) rfl dX4_ofTrayNow_108 (fun H locs hw => ?_)
    refine lv_astore (lv' := [(4, .ref qa1), (3, .ref q.1), (0, .ref x), (1, .int i), (2, .int w)]) hx hb dX4_ofTrayNow_109 hl (by decide) rfl (fun ls hl => ?_)
    refine lv_aload hx hb dX4_ofTrayNow_111 (lv_at hl 0 rfl) ?_
    refine lv_iload_n hx hb dX4_ofTrayNow_113 rfl (lv_at hl 4 rfl) ?_
    refine xr_iald hf hK hw 4 0 rfl w.toNatClampNeg (fun z => hin (Or.inl z)) rfl (ix_nor 11 (by decide) hin) rfl dX4_ofTrayNow_114 ?_
    have hw : Wd D A s.heap _ _ [(mt.flatMap mtE), [ob x 3 [.int th, .ref (L 0), .ref (L 1), .ref (L 2), .ref (L 3), .ref (L 4), .ref (L 5), .int (sc 0), .int (bz (sc 1)), .int (sc 2), .int (sc 3), .int (sc 4), .int (sc 5), .int (sc 6)]], [((L 2), aR dT 4 6 (fun i => (ads mt)[i]?))], [(qa1, aI dT [q.2 0, q.2 1, q.2 2, q.2 3, q.2 4, q.2 5, q.2 6, q.2 7, q.2 8, q.2 9, r2.1, 1])]] := Wd.unf0 (q := q) (L := mt) (k := k) hw hq
    have hw : Wd D A s.heap _ _ [[ob x 3 [.int th, .ref (L 0), .ref (L 1), .ref (L 2), .ref (L 3), .ref (L 4), .ref (L 5), .int (sc 0), .int (bz (sc 1)), .int (sc 2), .int (sc 3), .int (sc 4), .int (sc 5), .int (sc 6)]], [((L 2), aR dT 4 6 (fun i => (ads mt)[i]?))], (mt.flatMap mtE)] := Wd.take hw [1, 1, 0] rfl rfl
    have hwZ := hw
    subst hr2
    have hw := hwZ
    exact xr_iret hf hr hlocks hw (Nat.le_of_ble_eq_true rfl) (Nat.le_of_ble_eq_true rfl) ⟨congrArg (fun z => some (Value.int z)) (Eq.symm (by unfold mt_told; rw [one_t c_100])), rfl⟩ dX4_ofTrayNow_115

set_option maxHeartbeats 4000000 in
theorem k_X4_ofLotNow (l : Launch) (D : va_G) (dT g : Nat → Nat) (z0 : Nat) (x : Nat) (th : Int32) (L : Nat → Nat) (sc : Nat → Int32) (uo : Int32) (sto : Option (Nat × Nat)) (mo : List (Nat × Nat × Nat × (Nat → Int32))) (i : Int32) (w : Int32) (k : Nat) (q : Nat × Nat × Nat × (Nat → Int32)) (hoko : alOK sto (ads mo)) (hq : mo[k]? = some q) (ei : i = nI k) (hk : k < 4096) (hin : ¬ (w < 0 ∨ 8 < w)) : Con l D dT g z0 yX4_ofLotNow (ws_ yX4_ofLotNow cX4_ofLotNow 5 (some .int)) ({ frames := 4, cells := 1, slots := 9, locals := 104 }) [.ref x, .int i, .int w] [[ob x 3 [.int th, .ref (L 0), .ref (L 1), .ref (L 2), .ref (L 3), .ref (L 4), .ref (L 5), .int (sc 0), .int (bz (sc 1)), .int (sc 2), .int (sc 3), .int (sc 4), .int (sc 5), .int (sc 6)]], ((ob (L 3) 15 [.int uo, .ref (al_d g sto), .int (nI (ads mo).length)]) :: (al_t dT sto (ads mo))), (mo.flatMap (moE dT))] (fun r LL => r = some (.int (lo_told q.2.2.2 w)) ∧ LL = [[ob x 3 [.int th, .ref (L 0), .ref (L 1), .ref (L 2), .ref (L 3), .ref (L 4), .ref (L 5), .int (sc 0), .int (bz (sc 1)), .int (sc 2), .int (sc 3), .int (sc 4), .int (sc 5), .int (sc 6)]], ((ob (L 3) 15 [.int uo, .ref (al_d g sto), .int (nI (ads mo).length)]) :: (al_t dT sto (ads mo))), (mo.flatMap (moE dT))]) noX 1 9 := by
  refine Con.of (maxL := 5) (ret := (some .int)) (by first | exact plainFor_of_name (by decide) | decide +kernel) (Nat.le_of_ble_eq_true rfl) ?_
  intro p e s m args below meth c A ls hf hr hlocks hnm hno hK hA hAz hw hl hst
  have hf : CallFix p m c cX4_ofLotNow 5 s args lw_all "SilkRowModel" := hf
  have hnm : meth.name = "ofLotNow" := hnm
  have hx := hf.1
  have hb := hf.2.1
  have hts := hf.2.2.2.2
  have hl : lv_has ls 5 [(0, .ref x), (1, .int i), (2, .int w)] := hl
  have hw : Wd D A s.heap s.heap [] [[ob x 3 [.int th, .ref (L 0), .ref (L 1), .ref (L 2), .ref (L 3), .ref (L 4), .ref (L 5), .int (sc 0), .int (bz (sc 1)), .int (sc 2), .int (sc 3), .int (sc 4), .int (sc 5), .int (sc 6)]], ((ob (L 3) 15 [.int uo, .ref (al_d g sto), .int (nI (ads mo).length)]) :: (al_t dT sto (ads mo))), (mo.flatMap (moE dT))] := hw
  obtain ⟨d_mo, cap_mo, hd_mo, hc_q, hC_q⟩ := al_some (k := k) hoko (ads_lt hq)
  subst hd_mo
  have hw : Wd D A s.heap _ _ [[ob x 3 [.int th, .ref (L 0), .ref (L 1), .ref (L 2), .ref (L 3), .ref (L 4), .ref (L 5), .int (sc 0), .int (bz (sc 1)), .int (sc 2), .int (sc 3), .int (sc 4), .int (sc 5), .int (sc 6)]], [ob (L 3) 15 [.int uo, .ref d_mo, .int (nI (ads mo).length)], (d_mo, aR dT 1 cap_mo (fun i => (ads mo)[i]?))], (mo.flatMap (moE dT))] := hw
  refine lv_aload_n hx hb dX4_ofLotNow_0 rfl (lv_at hl 0 rfl) ?_
  refine xr_get hf hK hw 0 0 rfl rfl in_X4 4 (by decide) q1184 (fun _ h => h) rfl dX4_ofLotNow_1 ?_
  refine lv_iload_n hx hb dX4_ofLotNow_4 rfl (lv_at hl 1 rfl) ?_
  refine lv_as (y := nI k) ei ?_
  refine xc_V (rest := []) (As := [.int (nI k)]) hf hK hA hAz hst (hw.pick [1] rfl rfl rfl) (k_J2_get l D dT g z0 (L 3) d_mo cap_mo uo (ads mo) k q.1 hc_q hC_q (ads_lt hq) (ads_some hq)) (cwV 1 hts (lw_V q1325 q394 q395 q47 q396) rfl rfl rfl (by decide +kernel) ⟨Nat.le_of_ble_eq_true rfl, Nat.le_of_ble_eq_true rfl⟩) (xr_rv hK hw 1 0 rfl rfl) rfl hl.1 rfl (Nat.le_of_ble_eq_true rfl) dX4_ofLotNow_5 ⟨(Nat.le_of_ble_eq_true rfl), (Nat.le_of_ble_eq_true rfl)⟩ (fun _ _ _ _ _ _ h => h.elim) (fun v9 LL1 H locs hp hw => ?_)
  obtain ⟨rfl, rfl⟩ := hp
  have hw : Wd D A s.heap _ _ [[ob (L 3) 15 [.int uo, .ref d_mo, .int (nI (ads mo).length)], (d_mo, aR dT 1 cap_mo (fun i => (ads mo)[i]?))], [ob x 3 [.int th, .ref (L 0), .ref (L 1), .ref (L 2), .ref (L 3), .ref (L 4), .ref (L 5), .int (sc 0), .int (bz (sc 1)), .int (sc 2), .int (sc 3), .int (sc 4), .int (sc 5), .int (sc 6)]], (mo.flatMap (moE dT))] := hw
  refine W.eq (g2 := F0 m 8 ls [.ref q.1]) rfl ?_
  have hw : Wd D A s.heap _ _ [(mo.flatMap (moE dT)), [ob (L 3) 15 [.int uo, .ref d_mo, .int (nI (ads mo).length)], (d_mo, aR dT 1 cap_mo (fun i => (ads mo)[i]?))], [ob x 3 [.int th, .ref (L 0), .ref (L 1), .ref (L 2), .ref (L 3), .ref (L 4), .ref (L 5), .int (sc 0), .int (bz (sc 1)), .int (sc 2), .int (sc 3), .int (sc 4), .int (sc 5), .int (sc 6)]]] := hw.pick [2] rfl rfl rfl
  have hw : Wd D A s.heap _ _ [[ob q.1 10 [.int (q.2.2.2 0), .int (q.2.2.2 1), .int (q.2.2.2 2), .ref q.2.1, .ref q.2.2.1, .int (q.2.2.2 9), .int (q.2.2.2 10)], (q.2.1, aI dT [q.2.2.2 3, q.2.2.2 4, q.2.2.2 5]), (q.2.2.1, aI dT [q.2.2.2 6, q.2.2.2 7, q.2.2.2 8])], ((mo.eraseIdx k).flatMap (moE dT)), [ob (L 3) 15 [.int uo, .ref d_mo, .int (nI (ads mo).length)], (d_mo, aR dT 1 cap_mo (fun i => (ads mo)[i]?))], [ob x 3 [.int th, .ref (L 0), .ref (L 1), .ref (L 2), .ref (L 3), .ref (L 4), .ref (L 5), .int (sc 0), .int (bz (sc 1)), .int (sc 2), .int (sc 3), .int (sc 4), .int (sc 5), .int (sc 6)]]] := hw.foc hq
  refine xr_castS hf hK hw 0 0 rfl rfl q1310 dX4_ofLotNow_8 ?_
  refine lv_astore_n (lv' := [(3, .ref q.1), (0, .ref x), (1, .int i), (2, .int w)]) hx hb dX4_ofLotNow_11 rfl hl (by decide) rfl (fun ls hl => ?_)
  refine lv_bipush (v := 9) hx hb dX4_ofLotNow_12 (by decide) ?_
  refine xr_newi hf hK hw hA q463 (N := 9) (by decide) (by decide) (Nat.le_of_ble_eq_true rfl) (Nat.le_of_ble_eq_true rfl) (Nat.le_of_ble_eq_true rfl) dX4_ofLotNow_14 (fun qa1 H hw => ?_)
  have hw : Wd D A s.heap _ _ [[ob q.1 10 [.int (q.2.2.2 0), .int (q.2.2.2 1), .int (q.2.2.2 2), .ref q.2.1, .ref q.2.2.1, .int (q.2.2.2 9), .int (q.2.2.2 10)], (q.2.1, aI dT [q.2.2.2 3, q.2.2.2 4, q.2.2.2 5]), (q.2.2.1, aI dT [q.2.2.2 6, q.2.2.2 7, q.2.2.2 8])], ((mo.eraseIdx k).flatMap (moE dT)), [ob (L 3) 15 [.int uo, .ref d_mo, .int (nI (ads mo).length)], (d_mo, aR dT 1 cap_mo (fun i => (ads mo)[i]?))], [ob x 3 [.int th, .ref (L 0), .ref (L 1), .ref (L 2), .ref (L 3), .ref (L 4), .ref (L 5), .int (sc 0), .int (bz (sc 1)), .int (sc 2), .int (sc 3), .int (sc 4), .int (sc 5), .int (sc 6)]], [(qa1, aI dT [0, 0, 0, 0, 0, 0, 0, 0, 0])]] := hw
  refine lv_dup hx hb dX4_ofLotNow_16 rfl ?_
  refine lv_iconst (v := 0) hx hb dX4_ofLotNow_17 (by decide) ?_
  refine lv_aload_n hx hb dX4_ofLotNow_18 rfl (lv_at hl 0 rfl) ?_
  refine xr_get hf hK hw 0 0 rfl rfl in_X11 5 (by decide) q1403 (fun _ h => h) rfl dX4_ofLotNow_19 ?_
  refine xr_iast (LL' := [[ob q.1 10 [.int (q.2.2.2 0), .int (q.2.2.2 1), .int (q.2.2.2 2), .ref q.2.1, .ref q.2.2.1, .int (q.2.2.2 9), .int (q.2.2.2 10)], (q.2.1, aI dT [q.2.2.2 3, q.2.2.2 4, q.2.2.2 5]), (q.2.2.1, aI dT [q.2.2.2 6, q.2.2.2 7, q.2.2.2 8])], ((mo.eraseIdx k).flatMap (moE dT)), [ob (L 3) 15 [.int uo, .ref d_mo, .int (nI (ads mo).length)], (d_mo, aR dT 1 cap_mo (fun i => (ads mo)[i]?))], [ob x 3 [.int th, .ref (L 0), .ref (L 1), .ref (L 2), .ref (L 3), .ref (L 4), .ref (L 5), .int (sc 0), .int (bz (sc 1)), .int (sc 2), .int (sc 3), .int (sc 4), .int (sc 5), .int (sc 6)]], [(qa1, aI dT [q.2.2.2 9, 0, 0, 0, 0, 0, 0, 0, 0])]]) hf hK hw 4 0 rfl 0 (by decide) (by decide) (Nat.le_of_ble_eq_true rfl) rfl dX4_ofLotNow_22 (fun H locs hw => ?_)
  refine lv_dup hx hb dX4_ofLotNow_23 rfl ?_
  refine lv_iconst (v := 1) hx hb dX4_ofLotNow_24 (by decide) ?_
  refine lv_aload_n hx hb dX4_ofLotNow_25 rfl (lv_at hl 0 rfl) ?_
  refine xr_get hf hK hw 0 0 rfl rfl in_X11 0 (by decide) q1390 (fun _ h => h) rfl dX4_ofLotNow_26 ?_
  refine xr_iast (LL' := [[ob q.1 10 [.int (q.2.2.2 0), .int (q.2.2.2 1), .int (q.2.2.2 2), .ref q.2.1, .ref q.2.2.1, .int (q.2.2.2 9), .int (q.2.2.2 10)], (q.2.1, aI dT [q.2.2.2 3, q.2.2.2 4, q.2.2.2 5]), (q.2.2.1, aI dT [q.2.2.2 6, q.2.2.2 7, q.2.2.2 8])], ((mo.eraseIdx k).flatMap (moE dT)), [ob (L 3) 15 [.int uo, .ref d_mo, .int (nI (ads mo).length)], (d_mo, aR dT 1 cap_mo (fun i => (ads mo)[i]?))], [ob x 3 [.int th, .ref (L 0), .ref (L 1), .ref (L 2), .ref (L 3), .ref (L 4), .ref (L 5), .int (sc 0), .int (bz (sc 1)), .int (sc 2), .int (sc 3), .int (sc 4), .int (sc 5), .int (sc 6)]], [(qa1, aI dT [q.2.2.2 9, q.2.2.2 0, 0, 0, 0, 0, 0, 0, 0])]]) hf hK hw 4 0 rfl 1 (by decide) (by decide) (Nat.le_of_ble_eq_true rfl) rfl dX4_ofLotNow_29 (fun H locs hw => ?_)
  refine lv_dup hx hb dX4_ofLotNow_30 rfl ?_
  refine lv_iconst (v := 2) hx hb dX4_ofLotNow_31 (by decide) ?_
  refine lv_aload_n hx hb dX4_ofLotNow_32 rfl (lv_at hl 0 rfl) ?_
  refine xr_get hf hK hw 0 0 rfl rfl in_X11 3 (by decide) q1398 (fun _ h => h) rfl dX4_ofLotNow_33 ?_
  refine lv_iconst (v := 0) hx hb dX4_ofLotNow_36 (by decide) ?_
  refine xr_iald hf hK hw 0 1 rfl 0 (by decide) (by decide) (Nat.le_of_ble_eq_true rfl) rfl dX4_ofLotNow_37 ?_
  refine xr_iast (LL' := [[ob q.1 10 [.int (q.2.2.2 0), .int (q.2.2.2 1), .int (q.2.2.2 2), .ref q.2.1, .ref q.2.2.1, .int (q.2.2.2 9), .int (q.2.2.2 10)], (q.2.1, aI dT [q.2.2.2 3, q.2.2.2 4, q.2.2.2 5]), (q.2.2.1, aI dT [q.2.2.2 6, q.2.2.2 7, q.2.2.2 8])], ((mo.eraseIdx k).flatMap (moE dT)), [ob (L 3) 15 [.int uo, .ref d_mo, .int (nI (ads mo).length)], (d_mo, aR dT 1 cap_mo (fun i => (ads mo)[i]?))], [ob x 3 [.int th, .ref (L 0), .ref (L 1), .ref (L 2), .ref (L 3), .ref (L 4), .ref (L 5), .int (sc 0), .int (bz (sc 1)), .int (sc 2), .int (sc 3), .int (sc 4), .int (sc 5), .int (sc 6)]], [(qa1, aI dT [q.2.2.2 9, q.2.2.2 0, q.2.2.2 3, 0, 0, 0, 0, 0, 0])]]) hf hK hw 4 0 rfl 2 (by decide) (by decide) (Nat.le_of_ble_eq_true rfl) rfl dX4_ofLotNow_38 (fun H locs hw => ?_)
  refine lv_dup hx hb dX4_ofLotNow_39 rfl ?_
  refine lv_iconst (v := 3) hx hb dX4_ofLotNow_40 (by decide) ?_
  refine lv_aload_n hx hb dX4_ofLotNow_41 rfl (lv_at hl 0 rfl) ?_
  refine xr_get hf hK hw 0 0 rfl rfl in_X11 3 (by decide) q1398 (fun _ h => h) rfl dX4_ofLotNow_42 ?_
  refine lv_iconst (v := 1) hx hb dX4_ofLotNow_45 (by decide) ?_
  refine xr_iald hf hK hw 0 1 rfl 1 (by decide) (by decide) (Nat.le_of_ble_eq_true rfl) rfl dX4_ofLotNow_46 ?_
  refine xr_iast (LL' := [[ob q.1 10 [.int (q.2.2.2 0), .int (q.2.2.2 1), .int (q.2.2.2 2), .ref q.2.1, .ref q.2.2.1, .int (q.2.2.2 9), .int (q.2.2.2 10)], (q.2.1, aI dT [q.2.2.2 3, q.2.2.2 4, q.2.2.2 5]), (q.2.2.1, aI dT [q.2.2.2 6, q.2.2.2 7, q.2.2.2 8])], ((mo.eraseIdx k).flatMap (moE dT)), [ob (L 3) 15 [.int uo, .ref d_mo, .int (nI (ads mo).length)], (d_mo, aR dT 1 cap_mo (fun i => (ads mo)[i]?))], [ob x 3 [.int th, .ref (L 0), .ref (L 1), .ref (L 2), .ref (L 3), .ref (L 4), .ref (L 5), .int (sc 0), .int (bz (sc 1)), .int (sc 2), .int (sc 3), .int (sc 4), .int (sc 5), .int (sc 6)]], [(qa1, aI dT [q.2.2.2 9, q.2.2.2 0, q.2.2.2 3, q.2.2.2 4, 0, 0, 0, 0, 0])]]) hf hK hw 4 0 rfl 3 (by decide) (by decide) (Nat.le_of_ble_eq_true rfl) rfl dX4_ofLotNow_47 (fun H locs hw => ?_)
  refine lv_dup hx hb dX4_ofLotNow_48 rfl ?_
  refine lv_iconst (v := 4) hx hb dX4_ofLotNow_49 (by decide) ?_
  refine lv_aload_n hx hb dX4_ofLotNow_50 rfl (lv_at hl 0 rfl) ?_
  refine xr_get hf hK hw 0 0 rfl rfl in_X11 3 (by decide) q1398 (fun _ h => h) rfl dX4_ofLotNow_51 ?_
  refine lv_iconst (v := 2) hx hb dX4_ofLotNow_54 (by decide) ?_
  refine xr_iald hf hK hw 0 1 rfl 2 (by decide) (by decide) (Nat.le_of_ble_eq_true rfl) rfl dX4_ofLotNow_55 ?_
  refine xr_iast (LL' := [[ob q.1 10 [.int (q.2.2.2 0), .int (q.2.2.2 1), .int (q.2.2.2 2), .ref q.2.1, .ref q.2.2.1, .int (q.2.2.2 9), .int (q.2.2.2 10)], (q.2.1, aI dT [q.2.2.2 3, q.2.2.2 4, q.2.2.2 5]), (q.2.2.1, aI dT [q.2.2.2 6, q.2.2.2 7, q.2.2.2 8])], ((mo.eraseIdx k).flatMap (moE dT)), [ob (L 3) 15 [.int uo, .ref d_mo, .int (nI (ads mo).length)], (d_mo, aR dT 1 cap_mo (fun i => (ads mo)[i]?))], [ob x 3 [.int th, .ref (L 0), .ref (L 1), .ref (L 2), .ref (L 3), .ref (L 4), .ref (L 5), .int (sc 0), .int (bz (sc 1)), .int (sc 2), .int (sc 3), .int (sc 4), .int (sc 5), .int (sc 6)]], [(qa1, aI dT [q.2.2.2 9, q.2.2.2 0, q.2.2.2 3, q.2.2.2 4, q.2.2.2 5, 0, 0, 0, 0])]]) hf hK hw 4 0 rfl 4 (by decide) (by decide) (Nat.le_of_ble_eq_true rfl) rfl dX4_ofLotNow_56 (fun H locs hw => ?_)
  refine lv_dup hx hb dX4_ofLotNow_57 rfl ?_
  refine lv_iconst (v := 5) hx hb dX4_ofLotNow_58 (by decide) ?_
  refine lv_aload_n hx hb dX4_ofLotNow_59 rfl (lv_at hl 0 rfl) ?_
  refine xr_get hf hK hw 0 0 rfl rfl in_X11 4 (by decide) q1401 (fun _ h => h) rfl dX4_ofLotNow_60 ?_
  refine lv_iconst (v := 0) hx hb dX4_ofLotNow_63 (by decide) ?_
  refine xr_iald hf hK hw 0 2 rfl 0 (by decide) (by decide) (Nat.le_of_ble_eq_true rfl) rfl dX4_ofLotNow_64 ?_
  refine xr_iast (LL' := [[ob q.1 10 [.int (q.2.2.2 0), .int (q.2.2.2 1), .int (q.2.2.2 2), .ref q.2.1, .ref q.2.2.1, .int (q.2.2.2 9), .int (q.2.2.2 10)], (q.2.1, aI dT [q.2.2.2 3, q.2.2.2 4, q.2.2.2 5]), (q.2.2.1, aI dT [q.2.2.2 6, q.2.2.2 7, q.2.2.2 8])], ((mo.eraseIdx k).flatMap (moE dT)), [ob (L 3) 15 [.int uo, .ref d_mo, .int (nI (ads mo).length)], (d_mo, aR dT 1 cap_mo (fun i => (ads mo)[i]?))], [ob x 3 [.int th, .ref (L 0), .ref (L 1), .ref (L 2), .ref (L 3), .ref (L 4), .ref (L 5), .int (sc 0), .int (bz (sc 1)), .int (sc 2), .int (sc 3), .int (sc 4), .int (sc 5), .int (sc 6)]], [(qa1, aI dT [q.2.2.2 9, q.2.2.2 0, q.2.2.2 3, q.2.2.2 4, q.2.2.2 5, q.2.2.2 6, 0, 0, 0])]]) hf hK hw 4 0 rfl 5 (by decide) (by decide) (Nat.le_of_ble_eq_true rfl) rfl dX4_ofLotNow_65 (fun H locs hw => ?_)
  refine lv_dup hx hb dX4_ofLotNow_66 rfl ?_
  refine lv_bipush (v := 6) hx hb dX4_ofLotNow_67 (by decide) ?_
  refine lv_aload_n hx hb dX4_ofLotNow_69 rfl (lv_at hl 0 rfl) ?_
  refine xr_get hf hK hw 0 0 rfl rfl in_X11 4 (by decide) q1401 (fun _ h => h) rfl dX4_ofLotNow_70 ?_
  refine lv_iconst (v := 1) hx hb dX4_ofLotNow_73 (by decide) ?_
  refine xr_iald hf hK hw 0 2 rfl 1 (by decide) (by decide) (Nat.le_of_ble_eq_true rfl) rfl dX4_ofLotNow_74 ?_
  refine xr_iast (LL' := [[ob q.1 10 [.int (q.2.2.2 0), .int (q.2.2.2 1), .int (q.2.2.2 2), .ref q.2.1, .ref q.2.2.1, .int (q.2.2.2 9), .int (q.2.2.2 10)], (q.2.1, aI dT [q.2.2.2 3, q.2.2.2 4, q.2.2.2 5]), (q.2.2.1, aI dT [q.2.2.2 6, q.2.2.2 7, q.2.2.2 8])], ((mo.eraseIdx k).flatMap (moE dT)), [ob (L 3) 15 [.int uo, .ref d_mo, .int (nI (ads mo).length)], (d_mo, aR dT 1 cap_mo (fun i => (ads mo)[i]?))], [ob x 3 [.int th, .ref (L 0), .ref (L 1), .ref (L 2), .ref (L 3), .ref (L 4), .ref (L 5), .int (sc 0), .int (bz (sc 1)), .int (sc 2), .int (sc 3), .int (sc 4), .int (sc 5), .int (sc 6)]], [(qa1, aI dT [q.2.2.2 9, q.2.2.2 0, q.2.2.2 3, q.2.2.2 4, q.2.2.2 5, q.2.2.2 6, q.2.2.2 7, 0, 0])]]) hf hK hw 4 0 rfl 6 (by decide) (by decide) (Nat.le_of_ble_eq_true rfl) rfl dX4_ofLotNow_75 (fun H locs hw => ?_)
  refine lv_dup hx hb dX4_ofLotNow_76 rfl ?_
  refine lv_bipush (v := 7) hx hb dX4_ofLotNow_77 (by decide) ?_
  refine lv_aload_n hx hb dX4_ofLotNow_79 rfl (lv_at hl 0 rfl) ?_
  refine xr_get hf hK hw 0 0 rfl rfl in_X11 4 (by decide) q1401 (fun _ h => h) rfl dX4_ofLotNow_80 ?_
  refine lv_iconst (v := 2) hx hb dX4_ofLotNow_83 (by decide) ?_
  refine xr_iald hf hK hw 0 2 rfl 2 (by decide) (by decide) (Nat.le_of_ble_eq_true rfl) rfl dX4_ofLotNow_84 ?_
  refine xr_iast (LL' := [[ob q.1 10 [.int (q.2.2.2 0), .int (q.2.2.2 1), .int (q.2.2.2 2), .ref q.2.1, .ref q.2.2.1, .int (q.2.2.2 9), .int (q.2.2.2 10)], (q.2.1, aI dT [q.2.2.2 3, q.2.2.2 4, q.2.2.2 5]), (q.2.2.1, aI dT [q.2.2.2 6, q.2.2.2 7, q.2.2.2 8])], ((mo.eraseIdx k).flatMap (moE dT)), [ob (L 3) 15 [.int uo, .ref d_mo, .int (nI (ads mo).length)], (d_mo, aR dT 1 cap_mo (fun i => (ads mo)[i]?))], [ob x 3 [.int th, .ref (L 0), .ref (L 1), .ref (L 2), .ref (L 3), .ref (L 4), .ref (L 5), .int (sc 0), .int (bz (sc 1)), .int (sc 2), .int (sc 3), .int (sc 4), .int (sc 5), .int (sc 6)]], [(qa1, aI dT [q.2.2.2 9, q.2.2.2 0, q.2.2.2 3, q.2.2.2 4, q.2.2.2 5, q.2.2.2 6, q.2.2.2 7, q.2.2.2 8, 0])]]) hf hK hw 4 0 rfl 7 (by decide) (by decide) (Nat.le_of_ble_eq_true rfl) rfl dX4_ofLotNow_85 (fun H locs hw => ?_)
  refine lv_dup hx hb dX4_ofLotNow_86 rfl ?_
  refine lv_bipush (v := 8) hx hb dX4_ofLotNow_87 (by decide) ?_
  refine lv_aload_n hx hb dX4_ofLotNow_89 rfl (lv_at hl 0 rfl) ?_
  refine xr_get hf hK hw 0 0 rfl rfl in_X11 6 (by decide) q1405 (fun _ h => h) rfl dX4_ofLotNow_90 ?_
  refine xr_iast (LL' := [[ob q.1 10 [.int (q.2.2.2 0), .int (q.2.2.2 1), .int (q.2.2.2 2), .ref q.2.1, .ref q.2.2.1, .int (q.2.2.2 9), .int (q.2.2.2 10)], (q.2.1, aI dT [q.2.2.2 3, q.2.2.2 4, q.2.2.2 5]), (q.2.2.1, aI dT [q.2.2.2 6, q.2.2.2 7, q.2.2.2 8])], ((mo.eraseIdx k).flatMap (moE dT)), [ob (L 3) 15 [.int uo, .ref d_mo, .int (nI (ads mo).length)], (d_mo, aR dT 1 cap_mo (fun i => (ads mo)[i]?))], [ob x 3 [.int th, .ref (L 0), .ref (L 1), .ref (L 2), .ref (L 3), .ref (L 4), .ref (L 5), .int (sc 0), .int (bz (sc 1)), .int (sc 2), .int (sc 3), .int (sc 4), .int (sc 5), .int (sc 6)]], [(qa1, aI dT [q.2.2.2 9, q.2.2.2 0, q.2.2.2 3, q.2.2.2 4, q.2.2.2 5, q.2.2.2 6, q.2.2.2 7, q.2.2.2 8, q.2.2.2 10])]]) hf hK hw 4 0 rfl 8 (by decide) (by decide) (Nat.le_of_ble_eq_true rfl) rfl dX4_ofLotNow_93 (fun H locs hw => ?_)
  refine lv_astore (lv' := [(4, .ref qa1), (3, .ref q.1), (0, .ref x), (1, .int i), (2, .int w)]) hx hb dX4_ofLotNow_94 hl (by decide) rfl (fun ls hl => ?_)
  refine lv_aload hx hb dX4_ofLotNow_96 (lv_at hl 0 rfl) ?_
  refine lv_iload_n hx hb dX4_ofLotNow_98 rfl (lv_at hl 4 rfl) ?_
  refine xr_iald hf hK hw 4 0 rfl w.toNatClampNeg (fun z => hin (Or.inl z)) rfl (ix_nor 8 (by decide) hin) rfl dX4_ofLotNow_99 ?_
  have hw : Wd D A s.heap _ _ [(mo.flatMap (moE dT)), [ob (L 3) 15 [.int uo, .ref d_mo, .int (nI (ads mo).length)], (d_mo, aR dT 1 cap_mo (fun i => (ads mo)[i]?))], [ob x 3 [.int th, .ref (L 0), .ref (L 1), .ref (L 2), .ref (L 3), .ref (L 4), .ref (L 5), .int (sc 0), .int (bz (sc 1)), .int (sc 2), .int (sc 3), .int (sc 4), .int (sc 5), .int (sc 6)]], [(qa1, aI dT [q.2.2.2 9, q.2.2.2 0, q.2.2.2 3, q.2.2.2 4, q.2.2.2 5, q.2.2.2 6, q.2.2.2 7, q.2.2.2 8, q.2.2.2 10])]] := Wd.unf0 (q := q) (L := mo) (k := k) hw hq
  have hw : Wd D A s.heap _ _ [(mo.flatMap (moE dT)), ((ob (L 3) 15 [.int uo, .ref (al_d g (some (d_mo, cap_mo))), .int (nI (ads mo).length)]) :: (al_t dT (some (d_mo, cap_mo)) (ads mo))), [ob x 3 [.int th, .ref (L 0), .ref (L 1), .ref (L 2), .ref (L 3), .ref (L 4), .ref (L 5), .int (sc 0), .int (bz (sc 1)), .int (sc 2), .int (sc 3), .int (sc 4), .int (sc 5), .int (sc 6)]], [(qa1, aI dT [q.2.2.2 9, q.2.2.2 0, q.2.2.2 3, q.2.2.2 4, q.2.2.2 5, q.2.2.2 6, q.2.2.2 7, q.2.2.2 8, q.2.2.2 10])]] := hw
  have hw : Wd D A s.heap _ _ [[ob x 3 [.int th, .ref (L 0), .ref (L 1), .ref (L 2), .ref (L 3), .ref (L 4), .ref (L 5), .int (sc 0), .int (bz (sc 1)), .int (sc 2), .int (sc 3), .int (sc 4), .int (sc 5), .int (sc 6)]], ((ob (L 3) 15 [.int uo, .ref (al_d g (some (d_mo, cap_mo))), .int (nI (ads mo).length)]) :: (al_t dT (some (d_mo, cap_mo)) (ads mo))), (mo.flatMap (moE dT))] := Wd.take hw [2, 1, 0] rfl rfl
  exact xr_iret hf hr hlocks hw (Nat.le_of_ble_eq_true rfl) (Nat.le_of_ble_eq_true rfl) ⟨congrArg (fun z => some (Value.int z)) (Eq.symm (rfl)), rfl⟩ dX4_ofLotNow_100

set_option maxHeartbeats 4000000 in
theorem k_X4_ofSkeinNow (l : Launch) (D : va_G) (dT g : Nat → Nat) (z0 : Nat) (x : Nat) (th : Int32) (L : Nat → Nat) (sc : Nat → Int32) (us : Int32) (sts : Option (Nat × Nat)) (ms : List (Nat × Nat × (Nat → Int32))) (i : Int32) (w : Int32) (k : Nat) (q : Nat × Nat × (Nat → Int32)) (hoks : alOK sts (ads ms)) (hq : ms[k]? = some q) (ei : i = nI k) (hk : k < 4096) (hin : ¬ (w < 0 ∨ 9 < w)) : Con l D dT g z0 yX4_ofSkeinNow (ws_ yX4_ofSkeinNow cX4_ofSkeinNow 5 (some .int)) ({ frames := 4, cells := 1, slots := 6, locals := 104 }) [.ref x, .int i, .int w] [[ob x 3 [.int th, .ref (L 0), .ref (L 1), .ref (L 2), .ref (L 3), .ref (L 4), .ref (L 5), .int (sc 0), .int (bz (sc 1)), .int (sc 2), .int (sc 3), .int (sc 4), .int (sc 5), .int (sc 6)]], ((ob (L 5) 15 [.int us, .ref (al_d g sts), .int (nI (ads ms).length)]) :: (al_t dT sts (ads ms))), (ms.flatMap (msE dT))] (fun r LL => r = some (.int (ms_told q.2.2 w)) ∧ LL = [[ob x 3 [.int th, .ref (L 0), .ref (L 1), .ref (L 2), .ref (L 3), .ref (L 4), .ref (L 5), .int (sc 0), .int (bz (sc 1)), .int (sc 2), .int (sc 3), .int (sc 4), .int (sc 5), .int (sc 6)]], ((ob (L 5) 15 [.int us, .ref (al_d g sts), .int (nI (ads ms).length)]) :: (al_t dT sts (ads ms))), (ms.flatMap (msE dT))]) noX 1 6 := by
  refine Con.of (maxL := 5) (ret := (some .int)) (by first | exact plainFor_of_name (by decide) | decide +kernel) (Nat.le_of_ble_eq_true rfl) ?_
  intro p e s m args below meth c A ls hf hr hlocks hnm hno hK hA hAz hw hl hst
  have hf : CallFix p m c cX4_ofSkeinNow 5 s args lw_all "SilkRowModel" := hf
  have hnm : meth.name = "ofSkeinNow" := hnm
  have hx := hf.1
  have hb := hf.2.1
  have hts := hf.2.2.2.2
  have hl : lv_has ls 5 [(0, .ref x), (1, .int i), (2, .int w)] := hl
  have hw : Wd D A s.heap s.heap [] [[ob x 3 [.int th, .ref (L 0), .ref (L 1), .ref (L 2), .ref (L 3), .ref (L 4), .ref (L 5), .int (sc 0), .int (bz (sc 1)), .int (sc 2), .int (sc 3), .int (sc 4), .int (sc 5), .int (sc 6)]], ((ob (L 5) 15 [.int us, .ref (al_d g sts), .int (nI (ads ms).length)]) :: (al_t dT sts (ads ms))), (ms.flatMap (msE dT))] := hw
  obtain ⟨d_ms, cap_ms, hd_ms, hc_q, hC_q⟩ := al_some (k := k) hoks (ads_lt hq)
  subst hd_ms
  have hw : Wd D A s.heap _ _ [[ob x 3 [.int th, .ref (L 0), .ref (L 1), .ref (L 2), .ref (L 3), .ref (L 4), .ref (L 5), .int (sc 0), .int (bz (sc 1)), .int (sc 2), .int (sc 3), .int (sc 4), .int (sc 5), .int (sc 6)]], [ob (L 5) 15 [.int us, .ref d_ms, .int (nI (ads ms).length)], (d_ms, aR dT 1 cap_ms (fun i => (ads ms)[i]?))], (ms.flatMap (msE dT))] := hw
  refine lv_aload_n hx hb dX4_ofSkeinNow_0 rfl (lv_at hl 0 rfl) ?_
  refine xr_get hf hK hw 0 0 rfl rfl in_X4 6 (by decide) q1186 (fun _ h => h) rfl dX4_ofSkeinNow_1 ?_
  refine lv_iload_n hx hb dX4_ofSkeinNow_4 rfl (lv_at hl 1 rfl) ?_
  refine lv_as (y := nI k) ei ?_
  refine xc_V (rest := []) (As := [.int (nI k)]) hf hK hA hAz hst (hw.pick [1] rfl rfl rfl) (k_J2_get l D dT g z0 (L 5) d_ms cap_ms us (ads ms) k q.1 hc_q hC_q (ads_lt hq) (ads_some hq)) (cwV 1 hts (lw_V q1325 q394 q395 q47 q396) rfl rfl rfl (by decide +kernel) ⟨Nat.le_of_ble_eq_true rfl, Nat.le_of_ble_eq_true rfl⟩) (xr_rv hK hw 1 0 rfl rfl) rfl hl.1 rfl (Nat.le_of_ble_eq_true rfl) dX4_ofSkeinNow_5 ⟨(Nat.le_of_ble_eq_true rfl), (Nat.le_of_ble_eq_true rfl)⟩ (fun _ _ _ _ _ _ h => h.elim) (fun v9 LL1 H locs hp hw => ?_)
  obtain ⟨rfl, rfl⟩ := hp
  have hw : Wd D A s.heap _ _ [[ob (L 5) 15 [.int us, .ref d_ms, .int (nI (ads ms).length)], (d_ms, aR dT 1 cap_ms (fun i => (ads ms)[i]?))], [ob x 3 [.int th, .ref (L 0), .ref (L 1), .ref (L 2), .ref (L 3), .ref (L 4), .ref (L 5), .int (sc 0), .int (bz (sc 1)), .int (sc 2), .int (sc 3), .int (sc 4), .int (sc 5), .int (sc 6)]], (ms.flatMap (msE dT))] := hw
  refine W.eq (g2 := F0 m 8 ls [.ref q.1]) rfl ?_
  have hw : Wd D A s.heap _ _ [(ms.flatMap (msE dT)), [ob (L 5) 15 [.int us, .ref d_ms, .int (nI (ads ms).length)], (d_ms, aR dT 1 cap_ms (fun i => (ads ms)[i]?))], [ob x 3 [.int th, .ref (L 0), .ref (L 1), .ref (L 2), .ref (L 3), .ref (L 4), .ref (L 5), .int (sc 0), .int (bz (sc 1)), .int (sc 2), .int (sc 3), .int (sc 4), .int (sc 5), .int (sc 6)]]] := hw.pick [2] rfl rfl rfl
  have hw : Wd D A s.heap _ _ [[ob q.1 13 [.int (q.2.2 0), .int (q.2.2 1), .int (q.2.2 2), .int (q.2.2 3), .ref q.2.1, .int (bz (q.2.2 4))], (q.2.1, aI dT [q.2.2 5, q.2.2 6, q.2.2 7, q.2.2 8])], ((ms.eraseIdx k).flatMap (msE dT)), [ob (L 5) 15 [.int us, .ref d_ms, .int (nI (ads ms).length)], (d_ms, aR dT 1 cap_ms (fun i => (ads ms)[i]?))], [ob x 3 [.int th, .ref (L 0), .ref (L 1), .ref (L 2), .ref (L 3), .ref (L 4), .ref (L 5), .int (sc 0), .int (bz (sc 1)), .int (sc 2), .int (sc 3), .int (sc 4), .int (sc 5), .int (sc 6)]]] := hw.foc hq
  refine xr_castS hf hK hw 0 0 rfl rfl q1524 dX4_ofSkeinNow_8 ?_
  refine lv_astore_n (lv' := [(3, .ref q.1), (0, .ref x), (1, .int i), (2, .int w)]) hx hb dX4_ofSkeinNow_11 rfl hl (by decide) rfl (fun ls hl => ?_)
  refine lv_bipush (v := 6) hx hb dX4_ofSkeinNow_12 (by decide) ?_
  refine xr_newi hf hK hw hA q463 (N := 6) (by decide) (by decide) (Nat.le_of_ble_eq_true rfl) (Nat.le_of_ble_eq_true rfl) (Nat.le_of_ble_eq_true rfl) dX4_ofSkeinNow_14 (fun qa1 H hw => ?_)
  have hw : Wd D A s.heap _ _ [[ob q.1 13 [.int (q.2.2 0), .int (q.2.2 1), .int (q.2.2 2), .int (q.2.2 3), .ref q.2.1, .int (bz (q.2.2 4))], (q.2.1, aI dT [q.2.2 5, q.2.2 6, q.2.2 7, q.2.2 8])], ((ms.eraseIdx k).flatMap (msE dT)), [ob (L 5) 15 [.int us, .ref d_ms, .int (nI (ads ms).length)], (d_ms, aR dT 1 cap_ms (fun i => (ads ms)[i]?))], [ob x 3 [.int th, .ref (L 0), .ref (L 1), .ref (L 2), .ref (L 3), .ref (L 4), .ref (L 5), .int (sc 0), .int (bz (sc 1)), .int (sc 2), .int (sc 3), .int (sc 4), .int (sc 5), .int (sc 6)]], [(qa1, aI dT [0, 0, 0, 0, 0, 0])]] := hw
  refine lv_dup hx hb dX4_ofSkeinNow_16 rfl ?_
  refine lv_iconst (v := 0) hx hb dX4_ofSkeinNow_17 (by decide) ?_
  refine lv_aload_n hx hb dX4_ofSkeinNow_18 rfl (lv_at hl 0 rfl) ?_
  refine xr_get hf hK hw 0 0 rfl rfl in_X14 0 (by decide) q1456 (fun _ h => h) rfl dX4_ofSkeinNow_19 ?_
  refine xr_iast (LL' := [[ob q.1 13 [.int (q.2.2 0), .int (q.2.2 1), .int (q.2.2 2), .int (q.2.2 3), .ref q.2.1, .int (bz (q.2.2 4))], (q.2.1, aI dT [q.2.2 5, q.2.2 6, q.2.2 7, q.2.2 8])], ((ms.eraseIdx k).flatMap (msE dT)), [ob (L 5) 15 [.int us, .ref d_ms, .int (nI (ads ms).length)], (d_ms, aR dT 1 cap_ms (fun i => (ads ms)[i]?))], [ob x 3 [.int th, .ref (L 0), .ref (L 1), .ref (L 2), .ref (L 3), .ref (L 4), .ref (L 5), .int (sc 0), .int (bz (sc 1)), .int (sc 2), .int (sc 3), .int (sc 4), .int (sc 5), .int (sc 6)]], [(qa1, aI dT [q.2.2 0, 0, 0, 0, 0, 0])]]) hf hK hw 4 0 rfl 0 (by decide) (by decide) (Nat.le_of_ble_eq_true rfl) rfl dX4_ofSkeinNow_22 (fun H locs hw => ?_)
  refine lv_dup hx hb dX4_ofSkeinNow_23 rfl ?_
  refine lv_iconst (v := 1) hx hb dX4_ofSkeinNow_24 (by decide) ?_
  refine lv_aload_n hx hb dX4_ofSkeinNow_25 rfl (lv_at hl 0 rfl) ?_
  refine xr_get hf hK hw 0 0 rfl rfl in_X14 1 (by decide) q1458 (fun _ h => h) rfl dX4_ofSkeinNow_26 ?_
  refine xr_iast (LL' := [[ob q.1 13 [.int (q.2.2 0), .int (q.2.2 1), .int (q.2.2 2), .int (q.2.2 3), .ref q.2.1, .int (bz (q.2.2 4))], (q.2.1, aI dT [q.2.2 5, q.2.2 6, q.2.2 7, q.2.2 8])], ((ms.eraseIdx k).flatMap (msE dT)), [ob (L 5) 15 [.int us, .ref d_ms, .int (nI (ads ms).length)], (d_ms, aR dT 1 cap_ms (fun i => (ads ms)[i]?))], [ob x 3 [.int th, .ref (L 0), .ref (L 1), .ref (L 2), .ref (L 3), .ref (L 4), .ref (L 5), .int (sc 0), .int (bz (sc 1)), .int (sc 2), .int (sc 3), .int (sc 4), .int (sc 5), .int (sc 6)]], [(qa1, aI dT [q.2.2 0, q.2.2 1, 0, 0, 0, 0])]]) hf hK hw 4 0 rfl 1 (by decide) (by decide) (Nat.le_of_ble_eq_true rfl) rfl dX4_ofSkeinNow_29 (fun H locs hw => ?_)
  refine lv_dup hx hb dX4_ofSkeinNow_30 rfl ?_
  refine lv_iconst (v := 2) hx hb dX4_ofSkeinNow_31 (by decide) ?_
  refine lv_aload_n hx hb dX4_ofSkeinNow_32 rfl (lv_at hl 0 rfl) ?_
  refine xr_get hf hK hw 0 0 rfl rfl in_X14 2 (by decide) q1460 (fun _ h => h) rfl dX4_ofSkeinNow_33 ?_
  refine xr_iast (LL' := [[ob q.1 13 [.int (q.2.2 0), .int (q.2.2 1), .int (q.2.2 2), .int (q.2.2 3), .ref q.2.1, .int (bz (q.2.2 4))], (q.2.1, aI dT [q.2.2 5, q.2.2 6, q.2.2 7, q.2.2 8])], ((ms.eraseIdx k).flatMap (msE dT)), [ob (L 5) 15 [.int us, .ref d_ms, .int (nI (ads ms).length)], (d_ms, aR dT 1 cap_ms (fun i => (ads ms)[i]?))], [ob x 3 [.int th, .ref (L 0), .ref (L 1), .ref (L 2), .ref (L 3), .ref (L 4), .ref (L 5), .int (sc 0), .int (bz (sc 1)), .int (sc 2), .int (sc 3), .int (sc 4), .int (sc 5), .int (sc 6)]], [(qa1, aI dT [q.2.2 0, q.2.2 1, q.2.2 2, 0, 0, 0])]]) hf hK hw 4 0 rfl 2 (by decide) (by decide) (Nat.le_of_ble_eq_true rfl) rfl dX4_ofSkeinNow_36 (fun H locs hw => ?_)
  refine lv_dup hx hb dX4_ofSkeinNow_37 rfl ?_
  refine lv_iconst (v := 3) hx hb dX4_ofSkeinNow_38 (by decide) ?_
  refine lv_aload_n hx hb dX4_ofSkeinNow_39 rfl (lv_at hl 0 rfl) ?_
  refine xr_get hf hK hw 0 0 rfl rfl in_X14 3 (by decide) q1462 (fun _ h => h) rfl dX4_ofSkeinNow_40 ?_
  refine xr_iast (LL' := [[ob q.1 13 [.int (q.2.2 0), .int (q.2.2 1), .int (q.2.2 2), .int (q.2.2 3), .ref q.2.1, .int (bz (q.2.2 4))], (q.2.1, aI dT [q.2.2 5, q.2.2 6, q.2.2 7, q.2.2 8])], ((ms.eraseIdx k).flatMap (msE dT)), [ob (L 5) 15 [.int us, .ref d_ms, .int (nI (ads ms).length)], (d_ms, aR dT 1 cap_ms (fun i => (ads ms)[i]?))], [ob x 3 [.int th, .ref (L 0), .ref (L 1), .ref (L 2), .ref (L 3), .ref (L 4), .ref (L 5), .int (sc 0), .int (bz (sc 1)), .int (sc 2), .int (sc 3), .int (sc 4), .int (sc 5), .int (sc 6)]], [(qa1, aI dT [q.2.2 0, q.2.2 1, q.2.2 2, q.2.2 3, 0, 0])]]) hf hK hw 4 0 rfl 3 (by decide) (by decide) (Nat.le_of_ble_eq_true rfl) rfl dX4_ofSkeinNow_43 (fun H locs hw => ?_)
  refine lv_dup hx hb dX4_ofSkeinNow_44 rfl ?_
  refine lv_iconst (v := 4) hx hb dX4_ofSkeinNow_45 (by decide) ?_
  refine lv_aload_n hx hb dX4_ofSkeinNow_46 rfl (lv_at hl 0 rfl) ?_
  refine xc_V (rest := [.int 4, .ref qa1, .ref qa1]) (As := []) hf hK hA hAz hst (hw.pick [0] rfl rfl rfl) (k_X14_grade l D dT g z0 q.1 q.2.1 q.2.2) (cwV 0 hts (lw_V q1525 q1526 q1527 q75 q1528) rfl rfl rfl (by decide +kernel) ⟨Nat.le_of_ble_eq_true rfl, Nat.le_of_ble_eq_true rfl⟩) (xr_rv hK hw 0 0 rfl rfl) rfl hl.1 rfl (Nat.le_of_ble_eq_true rfl) dX4_ofSkeinNow_47 ⟨(Nat.le_of_ble_eq_true rfl), (Nat.le_of_ble_eq_true rfl)⟩ (fun _ _ _ _ _ _ h => h.elim) (fun v9 LL1 H locs hp hw => ?_)
  rw [fs_X14_grade] at hp
  obtain ⟨r2, hr2⟩ : ∃ z, z = f_X14_grade q.2.2 := ⟨_, rfl⟩
  rw [← hr2] at hp
  obtain ⟨rfl, rfl⟩ := hp
  have hw : Wd D A s.heap _ _ [[ob q.1 13 [.int (q.2.2 0), .int (q.2.2 1), .int (q.2.2 2), .int (q.2.2 3), .ref q.2.1, .int (bz (q.2.2 4))], (q.2.1, aI dT [q.2.2 5, q.2.2 6, q.2.2 7, q.2.2 8])], ((ms.eraseIdx k).flatMap (msE dT)), [ob (L 5) 15 [.int us, .ref d_ms, .int (nI (ads ms).length)], (d_ms, aR dT 1 cap_ms (fun i => (ads ms)[i]?))], [ob x 3 [.int th, .ref (L 0), .ref (L 1), .ref (L 2), .ref (L 3), .ref (L 4), .ref (L 5), .int (sc 0), .int (bz (sc 1)), .int (sc 2), .int (sc 3), .int (sc 4), .int (sc 5), .int (sc 6)]], [(qa1, aI dT [q.2.2 0, q.2.2 1, q.2.2 2, q.2.2 3, 0, 0])]] := hw
  refine W.eq (g2 := F0 m 50 ls [.int r2.1, .int 4, .ref qa1, .ref qa1]) rfl ?_
  refine xr_iast (LL' := [[ob q.1 13 [.int (q.2.2 0), .int (q.2.2 1), .int (q.2.2 2), .int (q.2.2 3), .ref q.2.1, .int (bz (q.2.2 4))], (q.2.1, aI dT [q.2.2 5, q.2.2 6, q.2.2 7, q.2.2 8])], ((ms.eraseIdx k).flatMap (msE dT)), [ob (L 5) 15 [.int us, .ref d_ms, .int (nI (ads ms).length)], (d_ms, aR dT 1 cap_ms (fun i => (ads ms)[i]?))], [ob x 3 [.int th, .ref (L 0), .ref (L 1), .ref (L 2), .ref (L 3), .ref (L 4), .ref (L 5), .int (sc 0), .int (bz (sc 1)), .int (sc 2), .int (sc 3), .int (sc 4), .int (sc 5), .int (sc 6)]], [(qa1, aI dT [q.2.2 0, q.2.2 1, q.2.2 2, q.2.2 3, r2.1, 0])]]) hf hK hw 4 0 rfl 4 (by decide) (by decide) (Nat.le_of_ble_eq_true rfl) rfl dX4_ofSkeinNow_50 (fun H locs hw => ?_)
  refine lv_dup hx hb dX4_ofSkeinNow_51 rfl ?_
  refine lv_iconst (v := 5) hx hb dX4_ofSkeinNow_52 (by decide) ?_
  refine lv_aload_n hx hb dX4_ofSkeinNow_53 rfl (lv_at hl 0 rfl) ?_
  refine xr_get hf hK hw 0 0 rfl rfl in_X14 5 (by decide) q1466 (fun _ h => h) rfl dX4_ofSkeinNow_54 ?_
  refine lv_if_eq (tgt := 64) hx hb dX4_ofSkeinNow_57 (by decide) (fun c_57 => ?_) (fun c_57 => ?_)
  · refine lv_iconst (v := 0) hx hb dX4_ofSkeinNow_64 (by decide) ?_
    refine xr_iast (LL' := [[ob q.1 13 [.int (q.2.2 0), .int (q.2.2 1), .int (q.2.2 2), .int (q.2.2 3), .ref q.2.1, .int (bz (q.2.2 4))], (q.2.1, aI dT [q.2.2 5, q.2.2 6, q.2.2 7, q.2.2 8])], ((ms.eraseIdx k).flatMap (msE dT)), [ob (L 5) 15 [.int us, .ref d_ms, .int (nI (ads ms).length)], (d_ms, aR dT 1 cap_ms (fun i => (ads ms)[i]?))], [ob x 3 [.int th, .ref (L 0), .ref (L 1), .ref (L 2), .ref (L 3), .ref (L 4), .ref (L 5), .int (sc 0), .int (bz (sc 1)), .int (sc 2), .int (sc 3), .int (sc 4), .int (sc 5), .int (sc 6)]], [(qa1, aI dT [q.2.2 0, q.2.2 1, q.2.2 2, q.2.2 3, r2.1, 0])]]) hf hK hw 4 0 rfl 5 (by decide) (by decide) (Nat.le_of_ble_eq_true rfl) rfl dX4_ofSkeinNow_65 (fun H locs hw => ?_)
    refine lv_astore (lv' := [(4, .ref qa1), (3, .ref q.1), (0, .ref x), (1, .int i), (2, .int w)]) hx hb dX4_ofSkeinNow_66 hl (by decide) rfl (fun ls hl => ?_)
    refine lv_iload_n hx hb dX4_ofSkeinNow_68 rfl (lv_at hl 4 rfl) ?_
    refine lv_bipush (v := 6) hx hb dX4_ofSkeinNow_69 (by decide) ?_
    refine lv_icmp_ge (tgt := 81) hx hb dX4_ofSkeinNow_71 (by decide) (fun c_71 => ?_) (fun c_71 => ?_)
    · refine lv_aload_n hx hb dX4_ofSkeinNow_81 rfl (lv_at hl 1 rfl) ?_
      refine xr_get hf hK hw 0 0 rfl rfl in_X14 4 (by decide) q1465 (fun _ h => h) rfl dX4_ofSkeinNow_82 ?_
      refine lv_iload_n hx hb dX4_ofSkeinNow_85 rfl (lv_at hl 4 rfl) ?_
      refine lv_bipush (v := 6) hx hb dX4_ofSkeinNow_86 (by decide) ?_
      refine lv_isub hx hb dX4_ofSkeinNow_88 ?_
      refine xr_iald hf hK hw 0 1 rfl (w - 6).toNatClampNeg (sk_ix hin c_71).1 rfl (sk_ix hin c_71).2 rfl dX4_ofSkeinNow_89 ?_
      have hw : Wd D A s.heap _ _ [(ms.flatMap (msE dT)), [ob (L 5) 15 [.int us, .ref d_ms, .int (nI (ads ms).length)], (d_ms, aR dT 1 cap_ms (fun i => (ads ms)[i]?))], [ob x 3 [.int th, .ref (L 0), .ref (L 1), .ref (L 2), .ref (L 3), .ref (L 4), .ref (L 5), .int (sc 0), .int (bz (sc 1)), .int (sc 2), .int (sc 3), .int (sc 4), .int (sc 5), .int (sc 6)]], [(qa1, aI dT [q.2.2 0, q.2.2 1, q.2.2 2, q.2.2 3, r2.1, 0])]] := Wd.unf0 (q := q) (L := ms) (k := k) hw hq
      have hw : Wd D A s.heap _ _ [(ms.flatMap (msE dT)), ((ob (L 5) 15 [.int us, .ref (al_d g (some (d_ms, cap_ms))), .int (nI (ads ms).length)]) :: (al_t dT (some (d_ms, cap_ms)) (ads ms))), [ob x 3 [.int th, .ref (L 0), .ref (L 1), .ref (L 2), .ref (L 3), .ref (L 4), .ref (L 5), .int (sc 0), .int (bz (sc 1)), .int (sc 2), .int (sc 3), .int (sc 4), .int (sc 5), .int (sc 6)]], [(qa1, aI dT [q.2.2 0, q.2.2 1, q.2.2 2, q.2.2 3, r2.1, 0])]] := hw
      have hw : Wd D A s.heap _ _ [[ob x 3 [.int th, .ref (L 0), .ref (L 1), .ref (L 2), .ref (L 3), .ref (L 4), .ref (L 5), .int (sc 0), .int (bz (sc 1)), .int (sc 2), .int (sc 3), .int (sc 4), .int (sc 5), .int (sc 6)]], ((ob (L 5) 15 [.int us, .ref (al_d g (some (d_ms, cap_ms))), .int (nI (ads ms).length)]) :: (al_t dT (some (d_ms, cap_ms)) (ads ms))), (ms.flatMap (msE dT))] := Wd.take hw [2, 1, 0] rfl rfl
      have hwZ := hw
      subst hr2
      have hw := hwZ
      exact xr_iret hf hr hlocks hw (Nat.le_of_ble_eq_true rfl) (Nat.le_of_ble_eq_true rfl) ⟨congrArg (fun z => some (Value.int z)) (Eq.symm (by unfold ms_told; rw [one_f c_57]; exact (dnr c_71 rfl))), rfl⟩ dX4_ofSkeinNow_90
    · refine lv_aload hx hb dX4_ofSkeinNow_74 (lv_at hl 0 rfl) ?_
      refine lv_iload_n hx hb dX4_ofSkeinNow_76 rfl (lv_at hl 4 rfl) ?_
      refine xr_iald hf hK hw 4 0 rfl w.toNatClampNeg (fun z => hin (Or.inl z)) rfl (sk_ix6 hin c_71) rfl dX4_ofSkeinNow_77 ?_
      refine lv_goto (tgt := 90) hx hb dX4_ofSkeinNow_78 (by decide) ?_
      have hw : Wd D A s.heap _ _ [(ms.flatMap (msE dT)), [ob (L 5) 15 [.int us, .ref d_ms, .int (nI (ads ms).length)], (d_ms, aR dT 1 cap_ms (fun i => (ads ms)[i]?))], [ob x 3 [.int th, .ref (L 0), .ref (L 1), .ref (L 2), .ref (L 3), .ref (L 4), .ref (L 5), .int (sc 0), .int (bz (sc 1)), .int (sc 2), .int (sc 3), .int (sc 4), .int (sc 5), .int (sc 6)]], [(qa1, aI dT [q.2.2 0, q.2.2 1, q.2.2 2, q.2.2 3, r2.1, 0])]] := Wd.unf0 (q := q) (L := ms) (k := k) hw hq
      have hw : Wd D A s.heap _ _ [(ms.flatMap (msE dT)), ((ob (L 5) 15 [.int us, .ref (al_d g (some (d_ms, cap_ms))), .int (nI (ads ms).length)]) :: (al_t dT (some (d_ms, cap_ms)) (ads ms))), [ob x 3 [.int th, .ref (L 0), .ref (L 1), .ref (L 2), .ref (L 3), .ref (L 4), .ref (L 5), .int (sc 0), .int (bz (sc 1)), .int (sc 2), .int (sc 3), .int (sc 4), .int (sc 5), .int (sc 6)]], [(qa1, aI dT [q.2.2 0, q.2.2 1, q.2.2 2, q.2.2 3, r2.1, 0])]] := hw
      have hw : Wd D A s.heap _ _ [[ob x 3 [.int th, .ref (L 0), .ref (L 1), .ref (L 2), .ref (L 3), .ref (L 4), .ref (L 5), .int (sc 0), .int (bz (sc 1)), .int (sc 2), .int (sc 3), .int (sc 4), .int (sc 5), .int (sc 6)]], ((ob (L 5) 15 [.int us, .ref (al_d g (some (d_ms, cap_ms))), .int (nI (ads ms).length)]) :: (al_t dT (some (d_ms, cap_ms)) (ads ms))), (ms.flatMap (msE dT))] := Wd.take hw [2, 1, 0] rfl rfl
      have hwZ := hw
      subst hr2
      have hw := hwZ
      exact xr_iret hf hr hlocks hw (Nat.le_of_ble_eq_true rfl) (Nat.le_of_ble_eq_true rfl) ⟨congrArg (fun z => some (Value.int z)) (Eq.symm (by unfold ms_told; rw [one_f c_57]; exact (inz c_71 rfl))), rfl⟩ dX4_ofSkeinNow_90
  · refine lv_iconst (v := 1) hx hb dX4_ofSkeinNow_60 (by decide) ?_
    refine lv_goto (tgt := 65) hx hb dX4_ofSkeinNow_61 (by decide) ?_
    refine xr_iast (LL' := [[ob q.1 13 [.int (q.2.2 0), .int (q.2.2 1), .int (q.2.2 2), .int (q.2.2 3), .ref q.2.1, .int (bz (q.2.2 4))], (q.2.1, aI dT [q.2.2 5, q.2.2 6, q.2.2 7, q.2.2 8])], ((ms.eraseIdx k).flatMap (msE dT)), [ob (L 5) 15 [.int us, .ref d_ms, .int (nI (ads ms).length)], (d_ms, aR dT 1 cap_ms (fun i => (ads ms)[i]?))], [ob x 3 [.int th, .ref (L 0), .ref (L 1), .ref (L 2), .ref (L 3), .ref (L 4), .ref (L 5), .int (sc 0), .int (bz (sc 1)), .int (sc 2), .int (sc 3), .int (sc 4), .int (sc 5), .int (sc 6)]], [(qa1, aI dT [q.2.2 0, q.2.2 1, q.2.2 2, q.2.2 3, r2.1, 1])]]) hf hK hw 4 0 rfl 5 (by decide) (by decide) (Nat.le_of_ble_eq_true rfl) rfl dX4_ofSkeinNow_65 (fun H locs hw => ?_)
    refine lv_astore (lv' := [(4, .ref qa1), (3, .ref q.1), (0, .ref x), (1, .int i), (2, .int w)]) hx hb dX4_ofSkeinNow_66 hl (by decide) rfl (fun ls hl => ?_)
    refine lv_iload_n hx hb dX4_ofSkeinNow_68 rfl (lv_at hl 4 rfl) ?_
    refine lv_bipush (v := 6) hx hb dX4_ofSkeinNow_69 (by decide) ?_
    refine lv_icmp_ge (tgt := 81) hx hb dX4_ofSkeinNow_71 (by decide) (fun c_71 => ?_) (fun c_71 => ?_)
    · refine lv_aload_n hx hb dX4_ofSkeinNow_81 rfl (lv_at hl 1 rfl) ?_
      refine xr_get hf hK hw 0 0 rfl rfl in_X14 4 (by decide) q1465 (fun _ h => h) rfl dX4_ofSkeinNow_82 ?_
      refine lv_iload_n hx hb dX4_ofSkeinNow_85 rfl (lv_at hl 4 rfl) ?_
      refine lv_bipush (v := 6) hx hb dX4_ofSkeinNow_86 (by decide) ?_
      refine lv_isub hx hb dX4_ofSkeinNow_88 ?_
      refine xr_iald hf hK hw 0 1 rfl (w - 6).toNatClampNeg (sk_ix hin c_71).1 rfl (sk_ix hin c_71).2 rfl dX4_ofSkeinNow_89 ?_
      have hw : Wd D A s.heap _ _ [(ms.flatMap (msE dT)), [ob (L 5) 15 [.int us, .ref d_ms, .int (nI (ads ms).length)], (d_ms, aR dT 1 cap_ms (fun i => (ads ms)[i]?))], [ob x 3 [.int th, .ref (L 0), .ref (L 1), .ref (L 2), .ref (L 3), .ref (L 4), .ref (L 5), .int (sc 0), .int (bz (sc 1)), .int (sc 2), .int (sc 3), .int (sc 4), .int (sc 5), .int (sc 6)]], [(qa1, aI dT [q.2.2 0, q.2.2 1, q.2.2 2, q.2.2 3, r2.1, 1])]] := Wd.unf0 (q := q) (L := ms) (k := k) hw hq
      have hw : Wd D A s.heap _ _ [(ms.flatMap (msE dT)), ((ob (L 5) 15 [.int us, .ref (al_d g (some (d_ms, cap_ms))), .int (nI (ads ms).length)]) :: (al_t dT (some (d_ms, cap_ms)) (ads ms))), [ob x 3 [.int th, .ref (L 0), .ref (L 1), .ref (L 2), .ref (L 3), .ref (L 4), .ref (L 5), .int (sc 0), .int (bz (sc 1)), .int (sc 2), .int (sc 3), .int (sc 4), .int (sc 5), .int (sc 6)]], [(qa1, aI dT [q.2.2 0, q.2.2 1, q.2.2 2, q.2.2 3, r2.1, 1])]] := hw
      have hw : Wd D A s.heap _ _ [[ob x 3 [.int th, .ref (L 0), .ref (L 1), .ref (L 2), .ref (L 3), .ref (L 4), .ref (L 5), .int (sc 0), .int (bz (sc 1)), .int (sc 2), .int (sc 3), .int (sc 4), .int (sc 5), .int (sc 6)]], ((ob (L 5) 15 [.int us, .ref (al_d g (some (d_ms, cap_ms))), .int (nI (ads ms).length)]) :: (al_t dT (some (d_ms, cap_ms)) (ads ms))), (ms.flatMap (msE dT))] := Wd.take hw [2, 1, 0] rfl rfl
      have hwZ := hw
      subst hr2
      have hw := hwZ
      exact xr_iret hf hr hlocks hw (Nat.le_of_ble_eq_true rfl) (Nat.le_of_ble_eq_true rfl) ⟨congrArg (fun z => some (Value.int z)) (Eq.symm (by unfold ms_told; rw [one_t c_57]; exact (dnr c_71 rfl))), rfl⟩ dX4_ofSkeinNow_90
    · refine lv_aload hx hb dX4_ofSkeinNow_74 (lv_at hl 0 rfl) ?_
      refine lv_iload_n hx hb dX4_ofSkeinNow_76 rfl (lv_at hl 4 rfl) ?_
      refine xr_iald hf hK hw 4 0 rfl w.toNatClampNeg (fun z => hin (Or.inl z)) rfl (sk_ix6 hin c_71) rfl dX4_ofSkeinNow_77 ?_
      refine lv_goto (tgt := 90) hx hb dX4_ofSkeinNow_78 (by decide) ?_
      have hw : Wd D A s.heap _ _ [(ms.flatMap (msE dT)), [ob (L 5) 15 [.int us, .ref d_ms, .int (nI (ads ms).length)], (d_ms, aR dT 1 cap_ms (fun i => (ads ms)[i]?))], [ob x 3 [.int th, .ref (L 0), .ref (L 1), .ref (L 2), .ref (L 3), .ref (L 4), .ref (L 5), .int (sc 0), .int (bz (sc 1)), .int (sc 2), .int (sc 3), .int (sc 4), .int (sc 5), .int (sc 6)]], [(qa1, aI dT [q.2.2 0, q.2.2 1, q.2.2 2, q.2.2 3, r2.1, 1])]] := Wd.unf0 (q := q) (L := ms) (k := k) hw hq
      have hw : Wd D A s.heap _ _ [(ms.flatMap (msE dT)), ((ob (L 5) 15 [.int us, .ref (al_d g (some (d_ms, cap_ms))), .int (nI (ads ms).length)]) :: (al_t dT (some (d_ms, cap_ms)) (ads ms))), [ob x 3 [.int th, .ref (L 0), .ref (L 1), .ref (L 2), .ref (L 3), .ref (L 4), .ref (L 5), .int (sc 0), .int (bz (sc 1)), .int (sc 2), .int (sc 3), .int (sc 4), .int (sc 5), .int (sc 6)]], [(qa1, aI dT [q.2.2 0, q.2.2 1, q.2.2 2, q.2.2 3, r2.1, 1])]] := hw
      have hw : Wd D A s.heap _ _ [[ob x 3 [.int th, .ref (L 0), .ref (L 1), .ref (L 2), .ref (L 3), .ref (L 4), .ref (L 5), .int (sc 0), .int (bz (sc 1)), .int (sc 2), .int (sc 3), .int (sc 4), .int (sc 5), .int (sc 6)]], ((ob (L 5) 15 [.int us, .ref (al_d g (some (d_ms, cap_ms))), .int (nI (ads ms).length)]) :: (al_t dT (some (d_ms, cap_ms)) (ads ms))), (ms.flatMap (msE dT))] := Wd.take hw [2, 1, 0] rfl rfl
      have hwZ := hw
      subst hr2
      have hw := hwZ
      exact xr_iret hf hr hlocks hw (Nat.le_of_ble_eq_true rfl) (Nat.le_of_ble_eq_true rfl) ⟨congrArg (fun z => some (Value.int z)) (Eq.symm (by unfold ms_told; rw [one_t c_57]; exact (inz c_71 rfl))), rfl⟩ dX4_ofSkeinNow_90

set_option maxHeartbeats 4000000 in
theorem k_X4_ofPlot (l : Launch) (D : va_G) (dT g : Nat → Nat) (z0 : Nat) (x : Nat) (th : Int32) (L : Nat → Nat) (sc : Nat → Int32) (up : Int32) (stp : Option (Nat × Nat)) (mp : List (Nat × Nat × (Nat → Int32))) (i : Int32) (w : Int32) (hokp : alOK stp (ads mp)) : Con l D dT g z0 yX4_ofPlot (ws_ yX4_ofPlot cX4_ofPlot 3 (some .int)) ({ frames := 5, cells := 0, slots := 0, locals := 127 }) [.ref x, .int i, .int w] [[ob x 3 [.int th, .ref (L 0), .ref (L 1), .ref (L 2), .ref (L 3), .ref (L 4), .ref (L 5), .int (sc 0), .int (bz (sc 1)), .int (sc 2), .int (sc 3), .int (sc 4), .int (sc 5), .int (sc 6)]], ((ob (L 0) 15 [.int up, .ref (al_d g stp), .int (nI (ads mp).length)]) :: (al_t dT stp (ads mp))), (mp.flatMap (mpE dT))] (fun r LL => ((i < 0 ∨ ¬ i < nI (ads mp).length) ∧ r = some (.int 0) ∧ LL = [[ob x 3 [.int 1, .ref (L 0), .ref (L 1), .ref (L 2), .ref (L 3), .ref (L 4), .ref (L 5), .int (sc 0), .int (bz (sc 1)), .int (sc 2), .int (sc 3), .int (sc 4), .int (sc 5), .int (sc 6)]], ((ob (L 0) 15 [.int up, .ref (al_d g stp), .int (nI (ads mp).length)]) :: (al_t dT stp (ads mp))), (mp.flatMap (mpE dT))]) ∨ ((¬ (i < 0 ∨ ¬ i < nI (ads mp).length)) ∧ (w < 0 ∨ 5 < w) ∧ r = some (.int 0) ∧ LL = [[ob x 3 [.int 2, .ref (L 0), .ref (L 1), .ref (L 2), .ref (L 3), .ref (L 4), .ref (L 5), .int (sc 0), .int (bz (sc 1)), .int (sc 2), .int (sc 3), .int (sc 4), .int (sc 5), .int (sc 6)]], ((ob (L 0) 15 [.int up, .ref (al_d g stp), .int (nI (ads mp).length)]) :: (al_t dT stp (ads mp))), (mp.flatMap (mpE dT))]) ∨ (∃ (k : Nat) (q : Nat × Nat × (Nat → Int32)), (¬ (i < 0 ∨ ¬ i < nI (ads mp).length)) ∧ (¬ (w < 0 ∨ 5 < w)) ∧ (mp[k]? = some q ∧ i = nI k) ∧ r = some (.int (pl_told q.2.2 w)) ∧ LL = [[ob x 3 [.int 0, .ref (L 0), .ref (L 1), .ref (L 2), .ref (L 3), .ref (L 4), .ref (L 5), .int (sc 0), .int (bz (sc 1)), .int (sc 2), .int (sc 3), .int (sc 4), .int (sc 5), .int (sc 6)]], ((ob (L 0) 15 [.int up, .ref (al_d g stp), .int (nI (ads mp).length)]) :: (al_t dT stp (ads mp))), (mp.flatMap (mpE dT))])) noX 0 0 := by
  refine Con.of (maxL := 3) (ret := (some .int)) (by first | exact plainFor_of_name (by decide) | decide +kernel) (Nat.le_of_ble_eq_true rfl) ?_
  intro p e s m args below meth c A ls hf hr hlocks hnm hno hK hA hAz hw hl hst
  have hf : CallFix p m c cX4_ofPlot 3 s args lw_all "SilkRowModel" := hf
  have hnm : meth.name = "ofPlot" := hnm
  have hx := hf.1
  have hb := hf.2.1
  have hts := hf.2.2.2.2
  have hl : lv_has ls 3 [(0, .ref x), (1, .int i), (2, .int w)] := hl
  have hw : Wd D A s.heap s.heap [] [[ob x 3 [.int th, .ref (L 0), .ref (L 1), .ref (L 2), .ref (L 3), .ref (L 4), .ref (L 5), .int (sc 0), .int (bz (sc 1)), .int (sc 2), .int (sc 3), .int (sc 4), .int (sc 5), .int (sc 6)]], ((ob (L 0) 15 [.int up, .ref (al_d g stp), .int (nI (ads mp).length)]) :: (al_t dT stp (ads mp))), (mp.flatMap (mpE dT))] := hw
  refine lv_aload_n hx hb dX4_ofPlot_0 rfl (lv_at hl 0 rfl) ?_
  refine lv_aload_n hx hb dX4_ofPlot_1 rfl (lv_at hl 0 rfl) ?_
  refine lv_iload_n hx hb dX4_ofPlot_2 rfl (lv_at hl 1 rfl) ?_
  rcases Decidable.em (i < 0 ∨ ¬ i < nI (ads mp).length) with f_3 | f_3
  · refine xc_V (rest := [.ref x]) (As := [.int i]) hf hK hA hAz hst (hw.pick [0, 0] rfl rfl rfl) (k_X4_isNoPlot_yes l D dT g z0 x th L sc up (.ref (al_d g stp)) (al_t dT stp (ads mp)) (ads mp).length i (al_short hokp) f_3) (cwV 1 hts (lw_V q1321 q1323 qs25 q54 q1324) rfl rfl rfl (by decide +kernel) ⟨Nat.le_of_ble_eq_true rfl, Nat.le_of_ble_eq_true rfl⟩) (xr_rv hK hw 0 0 rfl rfl) rfl hl.1 rfl (Nat.le_of_ble_eq_true rfl) dX4_ofPlot_3 ⟨(Nat.le_of_ble_eq_true rfl), (Nat.le_of_ble_eq_true rfl)⟩ (fun _ _ _ _ _ _ h => h.elim) (fun v9 LL1 H locs hp hw => ?_)
    obtain ⟨rfl, rfl⟩ := hp
    have hw : Wd D A s.heap _ _ [[ob x 3 [.int th, .ref (L 0), .ref (L 1), .ref (L 2), .ref (L 3), .ref (L 4), .ref (L 5), .int (sc 0), .int (bz (sc 1)), .int (sc 2), .int (sc 3), .int (sc 4), .int (sc 5), .int (sc 6)]], ((ob (L 0) 15 [.int up, .ref (al_d g stp), .int (nI (ads mp).length)]) :: (al_t dT stp (ads mp))), (mp.flatMap (mpE dT))] := hw
    refine W.eq (g2 := F0 m 6 ls [.int 1, .ref x]) rfl ?_
    refine lv_iconst (v := 1) hx hb dX4_ofPlot_6 (by decide) ?_
    refine xc_V (rest := []) (As := [.int 1, .int 1]) hf hK hA hAz hst (hw.pick [0] rfl rfl rfl) (k_X4_start_yes l D dT g z0 x th (.ref (L 0)) (.ref (L 1)) (.ref (L 2)) (.ref (L 3)) (.ref (L 4)) (.ref (L 5)) (.int (sc 0)) (.int (bz (sc 1))) (.int (sc 2)) (.int (sc 3)) (.int (sc 4)) (.int (sc 5)) (.int (sc 6)) 1 (by decide)) (cwV 2 hts (lw_V q1234 q1236 qs19 q54 q1237) rfl rfl rfl (by decide +kernel) ⟨Nat.le_of_ble_eq_true rfl, Nat.le_of_ble_eq_true rfl⟩) (xr_rv hK hw 0 0 rfl rfl) rfl hl.1 rfl (Nat.le_of_ble_eq_true rfl) dX4_ofPlot_7 ⟨(Nat.le_of_ble_eq_true rfl), (Nat.le_of_ble_eq_true rfl)⟩ (fun _ _ _ _ _ _ h => h.elim) (fun v9 LL1 H locs hp hw => ?_)
    obtain ⟨rfl, rfl⟩ := hp
    have hw : Wd D A s.heap _ _ [[ob x 3 [.int 1, .ref (L 0), .ref (L 1), .ref (L 2), .ref (L 3), .ref (L 4), .ref (L 5), .int (sc 0), .int (bz (sc 1)), .int (sc 2), .int (sc 3), .int (sc 4), .int (sc 5), .int (sc 6)]], ((ob (L 0) 15 [.int up, .ref (al_d g stp), .int (nI (ads mp).length)]) :: (al_t dT stp (ads mp))), (mp.flatMap (mpE dT))] := hw
    refine W.eq (g2 := F0 m 10 ls [.int 1]) rfl ?_
    refine lv_if_ne (tgt := 35) hx hb dX4_ofPlot_10 (by decide) (fun _ => ?_) (fun c9 => absurd c9 (by decide))
    refine lv_iconst (v := 0) hx hb dX4_ofPlot_35 (by decide) ?_
    refine lv_goto (tgt := 45) hx hb dX4_ofPlot_36 (by decide) ?_
    have hw : Wd D A s.heap _ _ [[ob x 3 [.int 1, .ref (L 0), .ref (L 1), .ref (L 2), .ref (L 3), .ref (L 4), .ref (L 5), .int (sc 0), .int (bz (sc 1)), .int (sc 2), .int (sc 3), .int (sc 4), .int (sc 5), .int (sc 6)]], ((ob (L 0) 15 [.int up, .ref (al_d g stp), .int (nI (ads mp).length)]) :: (al_t dT stp (ads mp))), (mp.flatMap (mpE dT))] := Wd.take hw [0, 0, 0] rfl rfl
    exact xr_iret hf hr hlocks hw (Nat.le_of_ble_eq_true rfl) (Nat.le_of_ble_eq_true rfl) (Or.inl ⟨(by first | (simp only [f_3, true_or, or_true, false_or, or_false, not_true_eq_false, not_false_eq_true, and_true, true_and, and_self]; done) | (simp only [← Int32.not_le, f_3, true_or, or_true, false_or, or_false, not_true_eq_false, not_false_eq_true, and_true, true_and, and_self]; done)), rfl, rfl⟩) dX4_ofPlot_45
  · obtain ⟨k_mp, q_mp, hq_mp, e_mp, hk_mp⟩ := list_of hokp f_3
    obtain ⟨d_mp, cap_mp, hd_mp, hc_q_mp, hC_q_mp⟩ := al_some (k := k_mp) hokp (ads_lt hq_mp)
    subst hd_mp
    have hw : Wd D A s.heap _ _ [[ob x 3 [.int th, .ref (L 0), .ref (L 1), .ref (L 2), .ref (L 3), .ref (L 4), .ref (L 5), .int (sc 0), .int (bz (sc 1)), .int (sc 2), .int (sc 3), .int (sc 4), .int (sc 5), .int (sc 6)]], [ob (L 0) 15 [.int up, .ref d_mp, .int (nI (ads mp).length)], (d_mp, aR dT 1 cap_mp (fun i => (ads mp)[i]?))], (mp.flatMap (mpE dT))] := hw
    refine xc_V (rest := [.ref x]) (As := [.int i]) hf hK hA hAz hst (hw.pick [0, 0] rfl rfl rfl) (k_X4_isNoPlot_no l D dT g z0 x th L sc up (.ref d_mp) ((d_mp, aR dT 1 cap_mp (fun i => (ads mp)[i]?)) :: []) (ads mp).length i (al_short hokp) f_3) (cwV 1 hts (lw_V q1321 q1323 qs25 q54 q1324) rfl rfl rfl (by decide +kernel) ⟨Nat.le_of_ble_eq_true rfl, Nat.le_of_ble_eq_true rfl⟩) (xr_rv hK hw 0 0 rfl rfl) rfl hl.1 rfl (Nat.le_of_ble_eq_true rfl) dX4_ofPlot_3 ⟨(Nat.le_of_ble_eq_true rfl), (Nat.le_of_ble_eq_true rfl)⟩ (fun _ _ _ _ _ _ h => h.elim) (fun v9 LL1 H locs hp hw => ?_)
    obtain ⟨rfl, rfl⟩ := hp
    have hw : Wd D A s.heap _ _ [[ob x 3 [.int th, .ref (L 0), .ref (L 1), .ref (L 2), .ref (L 3), .ref (L 4), .ref (L 5), .int (sc 0), .int (bz (sc 1)), .int (sc 2), .int (sc 3), .int (sc 4), .int (sc 5), .int (sc 6)]], [ob (L 0) 15 [.int up, .ref d_mp, .int (nI (ads mp).length)], (d_mp, aR dT 1 cap_mp (fun i => (ads mp)[i]?))], (mp.flatMap (mpE dT))] := hw
    refine W.eq (g2 := F0 m 6 ls [.int 0, .ref x]) rfl ?_
    refine lv_iconst (v := 1) hx hb dX4_ofPlot_6 (by decide) ?_
    refine xc_V (rest := []) (As := [.int 0, .int 1]) hf hK hA hAz hst (hw.pick [0] rfl rfl rfl) (k_X4_start_no l D dT g z0 x th (.ref (L 0)) (.ref (L 1)) (.ref (L 2)) (.ref (L 3)) (.ref (L 4)) (.ref (L 5)) (.int (sc 0)) (.int (bz (sc 1))) (.int (sc 2)) (.int (sc 3)) (.int (sc 4)) (.int (sc 5)) (.int (sc 6)) 1) (cwV 2 hts (lw_V q1234 q1236 qs19 q54 q1237) rfl rfl rfl (by decide +kernel) ⟨Nat.le_of_ble_eq_true rfl, Nat.le_of_ble_eq_true rfl⟩) (xr_rv hK hw 0 0 rfl rfl) rfl hl.1 rfl (Nat.le_of_ble_eq_true rfl) dX4_ofPlot_7 ⟨(Nat.le_of_ble_eq_true rfl), (Nat.le_of_ble_eq_true rfl)⟩ (fun _ _ _ _ _ _ h => h.elim) (fun v9 LL1 H locs hp hw => ?_)
    obtain ⟨rfl, rfl⟩ := hp
    have hw : Wd D A s.heap _ _ [[ob x 3 [.int 0, .ref (L 0), .ref (L 1), .ref (L 2), .ref (L 3), .ref (L 4), .ref (L 5), .int (sc 0), .int (bz (sc 1)), .int (sc 2), .int (sc 3), .int (sc 4), .int (sc 5), .int (sc 6)]], [ob (L 0) 15 [.int up, .ref d_mp, .int (nI (ads mp).length)], (d_mp, aR dT 1 cap_mp (fun i => (ads mp)[i]?))], (mp.flatMap (mpE dT))] := hw
    refine W.eq (g2 := F0 m 10 ls [.int 0]) rfl ?_
    refine lv_if_ne (tgt := 35) hx hb dX4_ofPlot_10 (by decide) (fun c9 => absurd c9 (by decide)) (fun _ => ?_)
    refine lv_aload_n hx hb dX4_ofPlot_13 rfl (lv_at hl 0 rfl) ?_
    refine lv_iload_n hx hb dX4_ofPlot_14 rfl (lv_at hl 2 rfl) ?_
    refine lv_iconst (v := 0) hx hb dX4_ofPlot_15 (by decide) ?_
    refine lv_iconst (v := 5) hx hb dX4_ofPlot_16 (by decide) ?_
    rcases Decidable.em (w < 0 ∨ 5 < w) with f_17 | f_17
    · refine xc_S (rest := [.ref x]) (As := [.int w, .int 0, .int 5]) hf hK hA hAz hst (hw.pick [] rfl rfl rfl) (k_X4_isIn_no l D dT g z0 w 0 5 f_17) (va_cwS 3 hts (lw_S q1231 q1232 q54 q1233) rfl rfl rfl (by decide +kernel) ⟨Nat.le_of_ble_eq_true rfl, Nat.le_of_ble_eq_true rfl⟩) rfl hl.1 rfl (Nat.le_of_ble_eq_true rfl) dX4_ofPlot_17 ⟨(Nat.le_of_ble_eq_true rfl), (Nat.le_of_ble_eq_true rfl)⟩ (fun _ _ _ _ _ _ h => h.elim) (fun v9 LL1 H locs hp hw => ?_)
      obtain ⟨rfl, rfl⟩ := hp
      have hw : Wd D A s.heap _ _ [[ob x 3 [.int 0, .ref (L 0), .ref (L 1), .ref (L 2), .ref (L 3), .ref (L 4), .ref (L 5), .int (sc 0), .int (bz (sc 1)), .int (sc 2), .int (sc 3), .int (sc 4), .int (sc 5), .int (sc 6)]], [ob (L 0) 15 [.int up, .ref d_mp, .int (nI (ads mp).length)], (d_mp, aR dT 1 cap_mp (fun i => (ads mp)[i]?))], (mp.flatMap (mpE dT))] := hw
      refine W.eq (g2 := F0 m 20 ls [.int 0, .ref x]) rfl ?_
      refine lv_if_ne (tgt := 27) hx hb dX4_ofPlot_20 (by decide) (fun c9 => absurd c9 (by decide)) (fun _ => ?_)
      refine lv_iconst (v := 1) hx hb dX4_ofPlot_23 (by decide) ?_
      refine lv_goto (tgt := 28) hx hb dX4_ofPlot_24 (by decide) ?_
      refine lv_iconst (v := 2) hx hb dX4_ofPlot_28 (by decide) ?_
      refine xc_V (rest := []) (As := [.int 1, .int 2]) hf hK hA hAz hst (hw.pick [0] rfl rfl rfl) (k_X4_refuse_yes l D dT g z0 x (.ref (L 0)) (.ref (L 1)) (.ref (L 2)) (.ref (L 3)) (.ref (L 4)) (.ref (L 5)) (.int (sc 0)) (.int (bz (sc 1))) (.int (sc 2)) (.int (sc 3)) (.int (sc 4)) (.int (sc 5)) (.int (sc 6)) 2 (by decide)) (cwV 2 hts (lw_V q1238 q1240 qs20 q54 q1241) rfl rfl rfl (by decide +kernel) ⟨Nat.le_of_ble_eq_true rfl, Nat.le_of_ble_eq_true rfl⟩) (xr_rv hK hw 0 0 rfl rfl) rfl hl.1 rfl (Nat.le_of_ble_eq_true rfl) dX4_ofPlot_29 ⟨(Nat.le_of_ble_eq_true rfl), (Nat.le_of_ble_eq_true rfl)⟩ (fun _ _ _ _ _ _ h => h.elim) (fun v9 LL1 H locs hp hw => ?_)
      obtain ⟨rfl, rfl⟩ := hp
      have hw : Wd D A s.heap _ _ [[ob x 3 [.int 2, .ref (L 0), .ref (L 1), .ref (L 2), .ref (L 3), .ref (L 4), .ref (L 5), .int (sc 0), .int (bz (sc 1)), .int (sc 2), .int (sc 3), .int (sc 4), .int (sc 5), .int (sc 6)]], [ob (L 0) 15 [.int up, .ref d_mp, .int (nI (ads mp).length)], (d_mp, aR dT 1 cap_mp (fun i => (ads mp)[i]?))], (mp.flatMap (mpE dT))] := hw
      refine W.eq (g2 := F0 m 32 ls [.int 1]) rfl ?_
      refine lv_if_eq (tgt := 39) hx hb dX4_ofPlot_32 (by decide) (fun c9 => absurd c9 (by decide)) (fun _ => ?_)
      refine lv_iconst (v := 0) hx hb dX4_ofPlot_35 (by decide) ?_
      refine lv_goto (tgt := 45) hx hb dX4_ofPlot_36 (by decide) ?_
      have hw : Wd D A s.heap _ _ [[ob x 3 [.int 2, .ref (L 0), .ref (L 1), .ref (L 2), .ref (L 3), .ref (L 4), .ref (L 5), .int (sc 0), .int (bz (sc 1)), .int (sc 2), .int (sc 3), .int (sc 4), .int (sc 5), .int (sc 6)]], ((ob (L 0) 15 [.int up, .ref (al_d g (some (d_mp, cap_mp))), .int (nI (ads mp).length)]) :: (al_t dT (some (d_mp, cap_mp)) (ads mp))), (mp.flatMap (mpE dT))] := hw
      have hw : Wd D A s.heap _ _ [[ob x 3 [.int 2, .ref (L 0), .ref (L 1), .ref (L 2), .ref (L 3), .ref (L 4), .ref (L 5), .int (sc 0), .int (bz (sc 1)), .int (sc 2), .int (sc 3), .int (sc 4), .int (sc 5), .int (sc 6)]], ((ob (L 0) 15 [.int up, .ref (al_d g (some (d_mp, cap_mp))), .int (nI (ads mp).length)]) :: (al_t dT (some (d_mp, cap_mp)) (ads mp))), (mp.flatMap (mpE dT))] := Wd.take hw [0, 0, 0] rfl rfl
      exact xr_iret hf hr hlocks hw (Nat.le_of_ble_eq_true rfl) (Nat.le_of_ble_eq_true rfl) (Or.inr (Or.inl ⟨(by first | (simp only [f_3, f_17, true_or, or_true, false_or, or_false, not_true_eq_false, not_false_eq_true, and_true, true_and, and_self]; done) | (simp only [← Int32.not_le, f_3, f_17, true_or, or_true, false_or, or_false, not_true_eq_false, not_false_eq_true, and_true, true_and, and_self]; done)), (by first | (simp only [f_3, f_17, true_or, or_true, false_or, or_false, not_true_eq_false, not_false_eq_true, and_true, true_and, and_self]; done) | (simp only [← Int32.not_le, f_3, f_17, true_or, or_true, false_or, or_false, not_true_eq_false, not_false_eq_true, and_true, true_and, and_self]; done)), rfl, rfl⟩)) dX4_ofPlot_45
    · refine xc_S (rest := [.ref x]) (As := [.int w, .int 0, .int 5]) hf hK hA hAz hst (hw.pick [] rfl rfl rfl) (k_X4_isIn_in l D dT g z0 w 0 5 f_17) (va_cwS 3 hts (lw_S q1231 q1232 q54 q1233) rfl rfl rfl (by decide +kernel) ⟨Nat.le_of_ble_eq_true rfl, Nat.le_of_ble_eq_true rfl⟩) rfl hl.1 rfl (Nat.le_of_ble_eq_true rfl) dX4_ofPlot_17 ⟨(Nat.le_of_ble_eq_true rfl), (Nat.le_of_ble_eq_true rfl)⟩ (fun _ _ _ _ _ _ h => h.elim) (fun v9 LL1 H locs hp hw => ?_)
      obtain ⟨rfl, rfl⟩ := hp
      have hw : Wd D A s.heap _ _ [[ob x 3 [.int 0, .ref (L 0), .ref (L 1), .ref (L 2), .ref (L 3), .ref (L 4), .ref (L 5), .int (sc 0), .int (bz (sc 1)), .int (sc 2), .int (sc 3), .int (sc 4), .int (sc 5), .int (sc 6)]], [ob (L 0) 15 [.int up, .ref d_mp, .int (nI (ads mp).length)], (d_mp, aR dT 1 cap_mp (fun i => (ads mp)[i]?))], (mp.flatMap (mpE dT))] := hw
      refine W.eq (g2 := F0 m 20 ls [.int 1, .ref x]) rfl ?_
      refine lv_if_ne (tgt := 27) hx hb dX4_ofPlot_20 (by decide) (fun _ => ?_) (fun c9 => absurd c9 (by decide))
      refine lv_iconst (v := 0) hx hb dX4_ofPlot_27 (by decide) ?_
      refine lv_iconst (v := 2) hx hb dX4_ofPlot_28 (by decide) ?_
      refine xc_V (rest := []) (As := [.int 0, .int 2]) hf hK hA hAz hst (hw.pick [0] rfl rfl rfl) (k_X4_refuse_no l D dT g z0 x (.ref (L 0)) (.ref (L 1)) (.ref (L 2)) (.ref (L 3)) (.ref (L 4)) (.ref (L 5)) (.int (sc 0)) (.int (bz (sc 1))) (.int (sc 2)) (.int (sc 3)) (.int (sc 4)) (.int (sc 5)) (.int (sc 6)) 2) (cwV 2 hts (lw_V q1238 q1240 qs20 q54 q1241) rfl rfl rfl (by decide +kernel) ⟨Nat.le_of_ble_eq_true rfl, Nat.le_of_ble_eq_true rfl⟩) (xr_rv hK hw 0 0 rfl rfl) rfl hl.1 rfl (Nat.le_of_ble_eq_true rfl) dX4_ofPlot_29 ⟨(Nat.le_of_ble_eq_true rfl), (Nat.le_of_ble_eq_true rfl)⟩ (fun _ _ _ _ _ _ h => h.elim) (fun v9 LL1 H locs hp hw => ?_)
      obtain ⟨rfl, rfl⟩ := hp
      have hw : Wd D A s.heap _ _ [[ob x 3 [.int 0, .ref (L 0), .ref (L 1), .ref (L 2), .ref (L 3), .ref (L 4), .ref (L 5), .int (sc 0), .int (bz (sc 1)), .int (sc 2), .int (sc 3), .int (sc 4), .int (sc 5), .int (sc 6)]], [ob (L 0) 15 [.int up, .ref d_mp, .int (nI (ads mp).length)], (d_mp, aR dT 1 cap_mp (fun i => (ads mp)[i]?))], (mp.flatMap (mpE dT))] := hw
      refine W.eq (g2 := F0 m 32 ls [.int 0]) rfl ?_
      refine lv_if_eq (tgt := 39) hx hb dX4_ofPlot_32 (by decide) (fun _ => ?_) (fun c9 => absurd c9 (by decide))
      refine lv_aload_n hx hb dX4_ofPlot_39 rfl (lv_at hl 0 rfl) ?_
      refine lv_iload_n hx hb dX4_ofPlot_40 rfl (lv_at hl 1 rfl) ?_
      refine lv_iload_n hx hb dX4_ofPlot_41 rfl (lv_at hl 2 rfl) ?_
      have hw : Wd D A s.heap _ _ [[ob x 3 [.int 0, .ref (L 0), .ref (L 1), .ref (L 2), .ref (L 3), .ref (L 4), .ref (L 5), .int (sc 0), .int (bz (sc 1)), .int (sc 2), .int (sc 3), .int (sc 4), .int (sc 5), .int (sc 6)]], ((ob (L 0) 15 [.int up, .ref (al_d g (some (d_mp, cap_mp))), .int (nI (ads mp).length)]) :: (al_t dT (some (d_mp, cap_mp)) (ads mp))), (mp.flatMap (mpE dT))] := hw
      refine xc_V (rest := []) (As := [.int i, .int w]) hf hK hA hAz hst (hw.pick [0, 0, 0] rfl rfl rfl) (k_X4_ofPlotNow l D dT g z0 x 0 L sc up (some (d_mp, cap_mp)) mp i w k_mp q_mp hokp hq_mp e_mp hk_mp (by first | (simp only [f_3, f_17, true_or, or_true, false_or, or_false, not_true_eq_false, not_false_eq_true, and_true, true_and, and_self]; done) | (simp only [← Int32.not_le, f_3, f_17, true_or, or_true, false_or, or_false, not_true_eq_false, not_false_eq_true, and_true, true_and, and_self]; done))) (cwV 2 hts (lw_V q1541 q1543 qs30 q54 q1544) rfl rfl rfl (by decide +kernel) ⟨Nat.le_of_ble_eq_true rfl, Nat.le_of_ble_eq_true rfl⟩) (xr_rv hK hw 0 0 rfl rfl) rfl hl.1 rfl (Nat.le_of_ble_eq_true rfl) dX4_ofPlot_42 ⟨(Nat.le_of_ble_eq_true rfl), (Nat.le_of_ble_eq_true rfl)⟩ (fun _ _ _ _ _ _ h => h.elim) (fun v9 LL1 H locs hp hw => ?_)
      obtain ⟨rfl, rfl⟩ := hp
      have hw : Wd D A s.heap _ _ [[ob x 3 [.int 0, .ref (L 0), .ref (L 1), .ref (L 2), .ref (L 3), .ref (L 4), .ref (L 5), .int (sc 0), .int (bz (sc 1)), .int (sc 2), .int (sc 3), .int (sc 4), .int (sc 5), .int (sc 6)]], ((ob (L 0) 15 [.int up, .ref (al_d g (some (d_mp, cap_mp))), .int (nI (ads mp).length)]) :: (al_t dT (some (d_mp, cap_mp)) (ads mp))), (mp.flatMap (mpE dT))] := hw
      refine W.eq (g2 := F0 m 45 ls [.int (pl_told q_mp.2.2 w)]) rfl ?_
      have hw : Wd D A s.heap _ _ [[ob x 3 [.int 0, .ref (L 0), .ref (L 1), .ref (L 2), .ref (L 3), .ref (L 4), .ref (L 5), .int (sc 0), .int (bz (sc 1)), .int (sc 2), .int (sc 3), .int (sc 4), .int (sc 5), .int (sc 6)]], ((ob (L 0) 15 [.int up, .ref (al_d g (some (d_mp, cap_mp))), .int (nI (ads mp).length)]) :: (al_t dT (some (d_mp, cap_mp)) (ads mp))), (mp.flatMap (mpE dT))] := Wd.take hw [0, 0, 0] rfl rfl
      exact xr_iret hf hr hlocks hw (Nat.le_of_ble_eq_true rfl) (Nat.le_of_ble_eq_true rfl) (Or.inr (Or.inr ⟨k_mp, q_mp, (by first | (simp only [f_3, f_17, true_or, or_true, false_or, or_false, not_true_eq_false, not_false_eq_true, and_true, true_and, and_self]; done) | (simp only [← Int32.not_le, f_3, f_17, true_or, or_true, false_or, or_false, not_true_eq_false, not_false_eq_true, and_true, true_and, and_self]; done)), (by first | (simp only [f_3, f_17, true_or, or_true, false_or, or_false, not_true_eq_false, not_false_eq_true, and_true, true_and, and_self]; done) | (simp only [← Int32.not_le, f_3, f_17, true_or, or_true, false_or, or_false, not_true_eq_false, not_false_eq_true, and_true, true_and, and_self]; done)), ⟨hq_mp, e_mp⟩, rfl, rfl⟩)) dX4_ofPlot_45

set_option maxHeartbeats 4000000 in
theorem k_X4_ofLine (l : Launch) (D : va_G) (dT g : Nat → Nat) (z0 : Nat) (x : Nat) (th : Int32) (L : Nat → Nat) (sc : Nat → Int32) (ml : List (Nat × (Nat → Int32))) (i : Int32) (w : Int32) (hml : ml.length = 4) : Con l D dT g z0 yX4_ofLine (ws_ yX4_ofLine cX4_ofLine 3 (some .int)) ({ frames := 3, cells := 0, slots := 0, locals := 84 }) [.ref x, .int i, .int w] [[ob x 3 [.int th, .ref (L 0), .ref (L 1), .ref (L 2), .ref (L 3), .ref (L 4), .ref (L 5), .int (sc 0), .int (bz (sc 1)), .int (sc 2), .int (sc 3), .int (sc 4), .int (sc 5), .int (sc 6)]], [((L 1), aR dT 3 4 (fun i => (ads ml)[i]?))], (ml.flatMap mlE)] (fun r LL => ((i < 0 ∨ 3 < i) ∧ r = some (.int 0) ∧ LL = [[ob x 3 [.int 1, .ref (L 0), .ref (L 1), .ref (L 2), .ref (L 3), .ref (L 4), .ref (L 5), .int (sc 0), .int (bz (sc 1)), .int (sc 2), .int (sc 3), .int (sc 4), .int (sc 5), .int (sc 6)]], [((L 1), aR dT 3 4 (fun i => (ads ml)[i]?))], (ml.flatMap mlE)]) ∨ ((¬ (i < 0 ∨ 3 < i)) ∧ (w < 0 ∨ 2 < w) ∧ r = some (.int 0) ∧ LL = [[ob x 3 [.int 2, .ref (L 0), .ref (L 1), .ref (L 2), .ref (L 3), .ref (L 4), .ref (L 5), .int (sc 0), .int (bz (sc 1)), .int (sc 2), .int (sc 3), .int (sc 4), .int (sc 5), .int (sc 6)]], [((L 1), aR dT 3 4 (fun i => (ads ml)[i]?))], (ml.flatMap mlE)]) ∨ (∃ (k : Nat) (q : Nat × (Nat → Int32)), (¬ (i < 0 ∨ 3 < i)) ∧ (¬ (w < 0 ∨ 2 < w)) ∧ (ml[k]? = some q ∧ i = nI k) ∧ r = some (.int (ln_told q.2 w)) ∧ LL = [[ob x 3 [.int 0, .ref (L 0), .ref (L 1), .ref (L 2), .ref (L 3), .ref (L 4), .ref (L 5), .int (sc 0), .int (bz (sc 1)), .int (sc 2), .int (sc 3), .int (sc 4), .int (sc 5), .int (sc 6)]], [((L 1), aR dT 3 4 (fun i => (ads ml)[i]?))], (ml.flatMap mlE)])) noX 0 0 := by
  refine Con.of (maxL := 3) (ret := (some .int)) (by first | exact plainFor_of_name (by decide) | decide +kernel) (Nat.le_of_ble_eq_true rfl) ?_
  intro p e s m args below meth c A ls hf hr hlocks hnm hno hK hA hAz hw hl hst
  have hf : CallFix p m c cX4_ofLine 3 s args lw_all "SilkRowModel" := hf
  have hnm : meth.name = "ofLine" := hnm
  have hx := hf.1
  have hb := hf.2.1
  have hts := hf.2.2.2.2
  have hl : lv_has ls 3 [(0, .ref x), (1, .int i), (2, .int w)] := hl
  have hw : Wd D A s.heap s.heap [] [[ob x 3 [.int th, .ref (L 0), .ref (L 1), .ref (L 2), .ref (L 3), .ref (L 4), .ref (L 5), .int (sc 0), .int (bz (sc 1)), .int (sc 2), .int (sc 3), .int (sc 4), .int (sc 5), .int (sc 6)]], [((L 1), aR dT 3 4 (fun i => (ads ml)[i]?))], (ml.flatMap mlE)] := hw
  refine lv_aload_n hx hb dX4_ofLine_0 rfl (lv_at hl 0 rfl) ?_
  refine lv_iload_n hx hb dX4_ofLine_1 rfl (lv_at hl 1 rfl) ?_
  rcases Decidable.em (i < 0 ∨ 3 < i) with f_2 | f_2
  · refine xc_S (rest := [.ref x]) (As := [.int i]) hf hK hA hAz hst (hw.pick [] rfl rfl rfl) (k_X4_isNoLine_yes l D dT g z0 i f_2) (va_cwS 1 hts (lw_S q1346 q1347 q54 q1348) rfl rfl rfl (by decide +kernel) ⟨Nat.le_of_ble_eq_true rfl, Nat.le_of_ble_eq_true rfl⟩) rfl hl.1 rfl (Nat.le_of_ble_eq_true rfl) dX4_ofLine_2 ⟨(Nat.le_of_ble_eq_true rfl), (Nat.le_of_ble_eq_true rfl)⟩ (fun _ _ _ _ _ _ h => h.elim) (fun v9 LL1 H locs hp hw => ?_)
    obtain ⟨rfl, rfl⟩ := hp
    have hw : Wd D A s.heap _ _ [[ob x 3 [.int th, .ref (L 0), .ref (L 1), .ref (L 2), .ref (L 3), .ref (L 4), .ref (L 5), .int (sc 0), .int (bz (sc 1)), .int (sc 2), .int (sc 3), .int (sc 4), .int (sc 5), .int (sc 6)]], [((L 1), aR dT 3 4 (fun i => (ads ml)[i]?))], (ml.flatMap mlE)] := hw
    refine W.eq (g2 := F0 m 5 ls [.int 1, .ref x]) rfl ?_
    refine lv_iconst (v := 1) hx hb dX4_ofLine_5 (by decide) ?_
    refine xc_V (rest := []) (As := [.int 1, .int 1]) hf hK hA hAz hst (hw.pick [0] rfl rfl rfl) (k_X4_start_yes l D dT g z0 x th (.ref (L 0)) (.ref (L 1)) (.ref (L 2)) (.ref (L 3)) (.ref (L 4)) (.ref (L 5)) (.int (sc 0)) (.int (bz (sc 1))) (.int (sc 2)) (.int (sc 3)) (.int (sc 4)) (.int (sc 5)) (.int (sc 6)) 1 (by decide)) (cwV 2 hts (lw_V q1234 q1236 qs19 q54 q1237) rfl rfl rfl (by decide +kernel) ⟨Nat.le_of_ble_eq_true rfl, Nat.le_of_ble_eq_true rfl⟩) (xr_rv hK hw 0 0 rfl rfl) rfl hl.1 rfl (Nat.le_of_ble_eq_true rfl) dX4_ofLine_6 ⟨(Nat.le_of_ble_eq_true rfl), (Nat.le_of_ble_eq_true rfl)⟩ (fun _ _ _ _ _ _ h => h.elim) (fun v9 LL1 H locs hp hw => ?_)
    obtain ⟨rfl, rfl⟩ := hp
    have hw : Wd D A s.heap _ _ [[ob x 3 [.int 1, .ref (L 0), .ref (L 1), .ref (L 2), .ref (L 3), .ref (L 4), .ref (L 5), .int (sc 0), .int (bz (sc 1)), .int (sc 2), .int (sc 3), .int (sc 4), .int (sc 5), .int (sc 6)]], [((L 1), aR dT 3 4 (fun i => (ads ml)[i]?))], (ml.flatMap mlE)] := hw
    refine W.eq (g2 := F0 m 9 ls [.int 1]) rfl ?_
    refine lv_if_ne (tgt := 34) hx hb dX4_ofLine_9 (by decide) (fun _ => ?_) (fun c9 => absurd c9 (by decide))
    refine lv_iconst (v := 0) hx hb dX4_ofLine_34 (by decide) ?_
    refine lv_goto (tgt := 44) hx hb dX4_ofLine_35 (by decide) ?_
    have hw : Wd D A s.heap _ _ [[ob x 3 [.int 1, .ref (L 0), .ref (L 1), .ref (L 2), .ref (L 3), .ref (L 4), .ref (L 5), .int (sc 0), .int (bz (sc 1)), .int (sc 2), .int (sc 3), .int (sc 4), .int (sc 5), .int (sc 6)]], [((L 1), aR dT 3 4 (fun i => (ads ml)[i]?))], (ml.flatMap mlE)] := Wd.take hw [0, 0, 0] rfl rfl
    exact xr_iret hf hr hlocks hw (Nat.le_of_ble_eq_true rfl) (Nat.le_of_ble_eq_true rfl) (Or.inl ⟨(by first | (simp only [f_2, true_or, or_true, false_or, or_false, not_true_eq_false, not_false_eq_true, and_true, true_and, and_self]; done) | (simp only [← Int32.not_le, f_2, true_or, or_true, false_or, or_false, not_true_eq_false, not_false_eq_true, and_true, true_and, and_self]; done)), rfl, rfl⟩) dX4_ofLine_44
  · obtain ⟨kml_i, qml_i, hqml_i, eml_i, hkml_i⟩ := arr_of 3 hml (by decide) f_2
    refine xc_S (rest := [.ref x]) (As := [.int i]) hf hK hA hAz hst (hw.pick [] rfl rfl rfl) (k_X4_isNoLine_no l D dT g z0 i f_2) (va_cwS 1 hts (lw_S q1346 q1347 q54 q1348) rfl rfl rfl (by decide +kernel) ⟨Nat.le_of_ble_eq_true rfl, Nat.le_of_ble_eq_true rfl⟩) rfl hl.1 rfl (Nat.le_of_ble_eq_true rfl) dX4_ofLine_2 ⟨(Nat.le_of_ble_eq_true rfl), (Nat.le_of_ble_eq_true rfl)⟩ (fun _ _ _ _ _ _ h => h.elim) (fun v9 LL1 H locs hp hw => ?_)
    obtain ⟨rfl, rfl⟩ := hp
    have hw : Wd D A s.heap _ _ [[ob x 3 [.int th, .ref (L 0), .ref (L 1), .ref (L 2), .ref (L 3), .ref (L 4), .ref (L 5), .int (sc 0), .int (bz (sc 1)), .int (sc 2), .int (sc 3), .int (sc 4), .int (sc 5), .int (sc 6)]], [((L 1), aR dT 3 4 (fun i => (ads ml)[i]?))], (ml.flatMap mlE)] := hw
    refine W.eq (g2 := F0 m 5 ls [.int 0, .ref x]) rfl ?_
    refine lv_iconst (v := 1) hx hb dX4_ofLine_5 (by decide) ?_
    refine xc_V (rest := []) (As := [.int 0, .int 1]) hf hK hA hAz hst (hw.pick [0] rfl rfl rfl) (k_X4_start_no l D dT g z0 x th (.ref (L 0)) (.ref (L 1)) (.ref (L 2)) (.ref (L 3)) (.ref (L 4)) (.ref (L 5)) (.int (sc 0)) (.int (bz (sc 1))) (.int (sc 2)) (.int (sc 3)) (.int (sc 4)) (.int (sc 5)) (.int (sc 6)) 1) (cwV 2 hts (lw_V q1234 q1236 qs19 q54 q1237) rfl rfl rfl (by decide +kernel) ⟨Nat.le_of_ble_eq_true rfl, Nat.le_of_ble_eq_true rfl⟩) (xr_rv hK hw 0 0 rfl rfl) rfl hl.1 rfl (Nat.le_of_ble_eq_true rfl) dX4_ofLine_6 ⟨(Nat.le_of_ble_eq_true rfl), (Nat.le_of_ble_eq_true rfl)⟩ (fun _ _ _ _ _ _ h => h.elim) (fun v9 LL1 H locs hp hw => ?_)
    obtain ⟨rfl, rfl⟩ := hp
    have hw : Wd D A s.heap _ _ [[ob x 3 [.int 0, .ref (L 0), .ref (L 1), .ref (L 2), .ref (L 3), .ref (L 4), .ref (L 5), .int (sc 0), .int (bz (sc 1)), .int (sc 2), .int (sc 3), .int (sc 4), .int (sc 5), .int (sc 6)]], [((L 1), aR dT 3 4 (fun i => (ads ml)[i]?))], (ml.flatMap mlE)] := hw
    refine W.eq (g2 := F0 m 9 ls [.int 0]) rfl ?_
    refine lv_if_ne (tgt := 34) hx hb dX4_ofLine_9 (by decide) (fun c9 => absurd c9 (by decide)) (fun _ => ?_)
    refine lv_aload_n hx hb dX4_ofLine_12 rfl (lv_at hl 0 rfl) ?_
    refine lv_iload_n hx hb dX4_ofLine_13 rfl (lv_at hl 2 rfl) ?_
    refine lv_iconst (v := 0) hx hb dX4_ofLine_14 (by decide) ?_
    refine lv_iconst (v := 2) hx hb dX4_ofLine_15 (by decide) ?_
    rcases Decidable.em (w < 0 ∨ 2 < w) with f_16 | f_16
    · refine xc_S (rest := [.ref x]) (As := [.int w, .int 0, .int 2]) hf hK hA hAz hst (hw.pick [] rfl rfl rfl) (k_X4_isIn_no l D dT g z0 w 0 2 f_16) (va_cwS 3 hts (lw_S q1231 q1232 q54 q1233) rfl rfl rfl (by decide +kernel) ⟨Nat.le_of_ble_eq_true rfl, Nat.le_of_ble_eq_true rfl⟩) rfl hl.1 rfl (Nat.le_of_ble_eq_true rfl) dX4_ofLine_16 ⟨(Nat.le_of_ble_eq_true rfl), (Nat.le_of_ble_eq_true rfl)⟩ (fun _ _ _ _ _ _ h => h.elim) (fun v9 LL1 H locs hp hw => ?_)
      obtain ⟨rfl, rfl⟩ := hp
      have hw : Wd D A s.heap _ _ [[ob x 3 [.int 0, .ref (L 0), .ref (L 1), .ref (L 2), .ref (L 3), .ref (L 4), .ref (L 5), .int (sc 0), .int (bz (sc 1)), .int (sc 2), .int (sc 3), .int (sc 4), .int (sc 5), .int (sc 6)]], [((L 1), aR dT 3 4 (fun i => (ads ml)[i]?))], (ml.flatMap mlE)] := hw
      refine W.eq (g2 := F0 m 19 ls [.int 0, .ref x]) rfl ?_
      refine lv_if_ne (tgt := 26) hx hb dX4_ofLine_19 (by decide) (fun c9 => absurd c9 (by decide)) (fun _ => ?_)
      refine lv_iconst (v := 1) hx hb dX4_ofLine_22 (by decide) ?_
      refine lv_goto (tgt := 27) hx hb dX4_ofLine_23 (by decide) ?_
      refine lv_iconst (v := 2) hx hb dX4_ofLine_27 (by decide) ?_
      refine xc_V (rest := []) (As := [.int 1, .int 2]) hf hK hA hAz hst (hw.pick [0] rfl rfl rfl) (k_X4_refuse_yes l D dT g z0 x (.ref (L 0)) (.ref (L 1)) (.ref (L 2)) (.ref (L 3)) (.ref (L 4)) (.ref (L 5)) (.int (sc 0)) (.int (bz (sc 1))) (.int (sc 2)) (.int (sc 3)) (.int (sc 4)) (.int (sc 5)) (.int (sc 6)) 2 (by decide)) (cwV 2 hts (lw_V q1238 q1240 qs20 q54 q1241) rfl rfl rfl (by decide +kernel) ⟨Nat.le_of_ble_eq_true rfl, Nat.le_of_ble_eq_true rfl⟩) (xr_rv hK hw 0 0 rfl rfl) rfl hl.1 rfl (Nat.le_of_ble_eq_true rfl) dX4_ofLine_28 ⟨(Nat.le_of_ble_eq_true rfl), (Nat.le_of_ble_eq_true rfl)⟩ (fun _ _ _ _ _ _ h => h.elim) (fun v9 LL1 H locs hp hw => ?_)
      obtain ⟨rfl, rfl⟩ := hp
      have hw : Wd D A s.heap _ _ [[ob x 3 [.int 2, .ref (L 0), .ref (L 1), .ref (L 2), .ref (L 3), .ref (L 4), .ref (L 5), .int (sc 0), .int (bz (sc 1)), .int (sc 2), .int (sc 3), .int (sc 4), .int (sc 5), .int (sc 6)]], [((L 1), aR dT 3 4 (fun i => (ads ml)[i]?))], (ml.flatMap mlE)] := hw
      refine W.eq (g2 := F0 m 31 ls [.int 1]) rfl ?_
      refine lv_if_eq (tgt := 38) hx hb dX4_ofLine_31 (by decide) (fun c9 => absurd c9 (by decide)) (fun _ => ?_)
      refine lv_iconst (v := 0) hx hb dX4_ofLine_34 (by decide) ?_
      refine lv_goto (tgt := 44) hx hb dX4_ofLine_35 (by decide) ?_
      have hw : Wd D A s.heap _ _ [[ob x 3 [.int 2, .ref (L 0), .ref (L 1), .ref (L 2), .ref (L 3), .ref (L 4), .ref (L 5), .int (sc 0), .int (bz (sc 1)), .int (sc 2), .int (sc 3), .int (sc 4), .int (sc 5), .int (sc 6)]], [((L 1), aR dT 3 4 (fun i => (ads ml)[i]?))], (ml.flatMap mlE)] := Wd.take hw [0, 0, 0] rfl rfl
      exact xr_iret hf hr hlocks hw (Nat.le_of_ble_eq_true rfl) (Nat.le_of_ble_eq_true rfl) (Or.inr (Or.inl ⟨(by first | (simp only [f_2, f_16, true_or, or_true, false_or, or_false, not_true_eq_false, not_false_eq_true, and_true, true_and, and_self]; done) | (simp only [← Int32.not_le, f_2, f_16, true_or, or_true, false_or, or_false, not_true_eq_false, not_false_eq_true, and_true, true_and, and_self]; done)), (by first | (simp only [f_2, f_16, true_or, or_true, false_or, or_false, not_true_eq_false, not_false_eq_true, and_true, true_and, and_self]; done) | (simp only [← Int32.not_le, f_2, f_16, true_or, or_true, false_or, or_false, not_true_eq_false, not_false_eq_true, and_true, true_and, and_self]; done)), rfl, rfl⟩)) dX4_ofLine_44
    · refine xc_S (rest := [.ref x]) (As := [.int w, .int 0, .int 2]) hf hK hA hAz hst (hw.pick [] rfl rfl rfl) (k_X4_isIn_in l D dT g z0 w 0 2 f_16) (va_cwS 3 hts (lw_S q1231 q1232 q54 q1233) rfl rfl rfl (by decide +kernel) ⟨Nat.le_of_ble_eq_true rfl, Nat.le_of_ble_eq_true rfl⟩) rfl hl.1 rfl (Nat.le_of_ble_eq_true rfl) dX4_ofLine_16 ⟨(Nat.le_of_ble_eq_true rfl), (Nat.le_of_ble_eq_true rfl)⟩ (fun _ _ _ _ _ _ h => h.elim) (fun v9 LL1 H locs hp hw => ?_)
      obtain ⟨rfl, rfl⟩ := hp
      have hw : Wd D A s.heap _ _ [[ob x 3 [.int 0, .ref (L 0), .ref (L 1), .ref (L 2), .ref (L 3), .ref (L 4), .ref (L 5), .int (sc 0), .int (bz (sc 1)), .int (sc 2), .int (sc 3), .int (sc 4), .int (sc 5), .int (sc 6)]], [((L 1), aR dT 3 4 (fun i => (ads ml)[i]?))], (ml.flatMap mlE)] := hw
      refine W.eq (g2 := F0 m 19 ls [.int 1, .ref x]) rfl ?_
      refine lv_if_ne (tgt := 26) hx hb dX4_ofLine_19 (by decide) (fun _ => ?_) (fun c9 => absurd c9 (by decide))
      refine lv_iconst (v := 0) hx hb dX4_ofLine_26 (by decide) ?_
      refine lv_iconst (v := 2) hx hb dX4_ofLine_27 (by decide) ?_
      refine xc_V (rest := []) (As := [.int 0, .int 2]) hf hK hA hAz hst (hw.pick [0] rfl rfl rfl) (k_X4_refuse_no l D dT g z0 x (.ref (L 0)) (.ref (L 1)) (.ref (L 2)) (.ref (L 3)) (.ref (L 4)) (.ref (L 5)) (.int (sc 0)) (.int (bz (sc 1))) (.int (sc 2)) (.int (sc 3)) (.int (sc 4)) (.int (sc 5)) (.int (sc 6)) 2) (cwV 2 hts (lw_V q1238 q1240 qs20 q54 q1241) rfl rfl rfl (by decide +kernel) ⟨Nat.le_of_ble_eq_true rfl, Nat.le_of_ble_eq_true rfl⟩) (xr_rv hK hw 0 0 rfl rfl) rfl hl.1 rfl (Nat.le_of_ble_eq_true rfl) dX4_ofLine_28 ⟨(Nat.le_of_ble_eq_true rfl), (Nat.le_of_ble_eq_true rfl)⟩ (fun _ _ _ _ _ _ h => h.elim) (fun v9 LL1 H locs hp hw => ?_)
      obtain ⟨rfl, rfl⟩ := hp
      have hw : Wd D A s.heap _ _ [[ob x 3 [.int 0, .ref (L 0), .ref (L 1), .ref (L 2), .ref (L 3), .ref (L 4), .ref (L 5), .int (sc 0), .int (bz (sc 1)), .int (sc 2), .int (sc 3), .int (sc 4), .int (sc 5), .int (sc 6)]], [((L 1), aR dT 3 4 (fun i => (ads ml)[i]?))], (ml.flatMap mlE)] := hw
      refine W.eq (g2 := F0 m 31 ls [.int 0]) rfl ?_
      refine lv_if_eq (tgt := 38) hx hb dX4_ofLine_31 (by decide) (fun _ => ?_) (fun c9 => absurd c9 (by decide))
      refine lv_aload_n hx hb dX4_ofLine_38 rfl (lv_at hl 0 rfl) ?_
      refine lv_iload_n hx hb dX4_ofLine_39 rfl (lv_at hl 1 rfl) ?_
      refine lv_iload_n hx hb dX4_ofLine_40 rfl (lv_at hl 2 rfl) ?_
      refine xc_V (rest := []) (As := [.int i, .int w]) hf hK hA hAz hst (hw.pick [0, 0, 0] rfl rfl rfl) (k_X4_ofLineNow l D dT g z0 x 0 L sc ml i w kml_i qml_i hml hqml_i eml_i hkml_i (by first | (simp only [f_2, f_16, true_or, or_true, false_or, or_false, not_true_eq_false, not_false_eq_true, and_true, true_and, and_self]; done) | (simp only [← Int32.not_le, f_2, f_16, true_or, or_true, false_or, or_false, not_true_eq_false, not_false_eq_true, and_true, true_and, and_self]; done))) (cwV 2 hts (lw_V q1549 q1551 qs31 q54 q1552) rfl rfl rfl (by decide +kernel) ⟨Nat.le_of_ble_eq_true rfl, Nat.le_of_ble_eq_true rfl⟩) (xr_rv hK hw 0 0 rfl rfl) rfl hl.1 rfl (Nat.le_of_ble_eq_true rfl) dX4_ofLine_41 ⟨(Nat.le_of_ble_eq_true rfl), (Nat.le_of_ble_eq_true rfl)⟩ (fun _ _ _ _ _ _ h => h.elim) (fun v9 LL1 H locs hp hw => ?_)
      obtain ⟨rfl, rfl⟩ := hp
      have hw : Wd D A s.heap _ _ [[ob x 3 [.int 0, .ref (L 0), .ref (L 1), .ref (L 2), .ref (L 3), .ref (L 4), .ref (L 5), .int (sc 0), .int (bz (sc 1)), .int (sc 2), .int (sc 3), .int (sc 4), .int (sc 5), .int (sc 6)]], [((L 1), aR dT 3 4 (fun i => (ads ml)[i]?))], (ml.flatMap mlE)] := hw
      refine W.eq (g2 := F0 m 44 ls [.int (ln_told qml_i.2 w)]) rfl ?_
      have hw : Wd D A s.heap _ _ [[ob x 3 [.int 0, .ref (L 0), .ref (L 1), .ref (L 2), .ref (L 3), .ref (L 4), .ref (L 5), .int (sc 0), .int (bz (sc 1)), .int (sc 2), .int (sc 3), .int (sc 4), .int (sc 5), .int (sc 6)]], [((L 1), aR dT 3 4 (fun i => (ads ml)[i]?))], (ml.flatMap mlE)] := Wd.take hw [0, 0, 0] rfl rfl
      exact xr_iret hf hr hlocks hw (Nat.le_of_ble_eq_true rfl) (Nat.le_of_ble_eq_true rfl) (Or.inr (Or.inr ⟨kml_i, qml_i, (by first | (simp only [f_2, f_16, true_or, or_true, false_or, or_false, not_true_eq_false, not_false_eq_true, and_true, true_and, and_self]; done) | (simp only [← Int32.not_le, f_2, f_16, true_or, or_true, false_or, or_false, not_true_eq_false, not_false_eq_true, and_true, true_and, and_self]; done)), (by first | (simp only [f_2, f_16, true_or, or_true, false_or, or_false, not_true_eq_false, not_false_eq_true, and_true, true_and, and_self]; done) | (simp only [← Int32.not_le, f_2, f_16, true_or, or_true, false_or, or_false, not_true_eq_false, not_false_eq_true, and_true, true_and, and_self]; done)), ⟨hqml_i, eml_i⟩, rfl, rfl⟩)) dX4_ofLine_44

set_option maxHeartbeats 4000000 in
theorem k_X4_ofTray (l : Launch) (D : va_G) (dT g : Nat → Nat) (z0 : Nat) (x : Nat) (th : Int32) (L : Nat → Nat) (sc : Nat → Int32) (mt : List (Nat × (Nat → Int32))) (i : Int32) (w : Int32) (hmt : mt.length = 6) : Con l D dT g z0 yX4_ofTray (ws_ yX4_ofTray cX4_ofTray 3 (some .int)) ({ frames := 4, cells := 1, slots := 12, locals := 105 }) [.ref x, .int i, .int w] [[ob x 3 [.int th, .ref (L 0), .ref (L 1), .ref (L 2), .ref (L 3), .ref (L 4), .ref (L 5), .int (sc 0), .int (bz (sc 1)), .int (sc 2), .int (sc 3), .int (sc 4), .int (sc 5), .int (sc 6)]], [((L 2), aR dT 4 6 (fun i => (ads mt)[i]?))], (mt.flatMap mtE)] (fun r LL => ((i < 0 ∨ 5 < i) ∧ r = some (.int 0) ∧ LL = [[ob x 3 [.int 1, .ref (L 0), .ref (L 1), .ref (L 2), .ref (L 3), .ref (L 4), .ref (L 5), .int (sc 0), .int (bz (sc 1)), .int (sc 2), .int (sc 3), .int (sc 4), .int (sc 5), .int (sc 6)]], [((L 2), aR dT 4 6 (fun i => (ads mt)[i]?))], (mt.flatMap mtE)]) ∨ ((¬ (i < 0 ∨ 5 < i)) ∧ (w < 0 ∨ 11 < w) ∧ r = some (.int 0) ∧ LL = [[ob x 3 [.int 2, .ref (L 0), .ref (L 1), .ref (L 2), .ref (L 3), .ref (L 4), .ref (L 5), .int (sc 0), .int (bz (sc 1)), .int (sc 2), .int (sc 3), .int (sc 4), .int (sc 5), .int (sc 6)]], [((L 2), aR dT 4 6 (fun i => (ads mt)[i]?))], (mt.flatMap mtE)]) ∨ (∃ (k : Nat) (q : Nat × (Nat → Int32)), (¬ (i < 0 ∨ 5 < i)) ∧ (¬ (w < 0 ∨ 11 < w)) ∧ (mt[k]? = some q ∧ i = nI k) ∧ r = some (.int (mt_told q.2 w)) ∧ LL = [[ob x 3 [.int 0, .ref (L 0), .ref (L 1), .ref (L 2), .ref (L 3), .ref (L 4), .ref (L 5), .int (sc 0), .int (bz (sc 1)), .int (sc 2), .int (sc 3), .int (sc 4), .int (sc 5), .int (sc 6)]], [((L 2), aR dT 4 6 (fun i => (ads mt)[i]?))], (mt.flatMap mtE)])) noX 1 12 := by
  refine Con.of (maxL := 3) (ret := (some .int)) (by first | exact plainFor_of_name (by decide) | decide +kernel) (Nat.le_of_ble_eq_true rfl) ?_
  intro p e s m args below meth c A ls hf hr hlocks hnm hno hK hA hAz hw hl hst
  have hf : CallFix p m c cX4_ofTray 3 s args lw_all "SilkRowModel" := hf
  have hnm : meth.name = "ofTray" := hnm
  have hx := hf.1
  have hb := hf.2.1
  have hts := hf.2.2.2.2
  have hl : lv_has ls 3 [(0, .ref x), (1, .int i), (2, .int w)] := hl
  have hw : Wd D A s.heap s.heap [] [[ob x 3 [.int th, .ref (L 0), .ref (L 1), .ref (L 2), .ref (L 3), .ref (L 4), .ref (L 5), .int (sc 0), .int (bz (sc 1)), .int (sc 2), .int (sc 3), .int (sc 4), .int (sc 5), .int (sc 6)]], [((L 2), aR dT 4 6 (fun i => (ads mt)[i]?))], (mt.flatMap mtE)] := hw
  refine lv_aload_n hx hb dX4_ofTray_0 rfl (lv_at hl 0 rfl) ?_
  refine lv_iload_n hx hb dX4_ofTray_1 rfl (lv_at hl 1 rfl) ?_
  rcases Decidable.em (i < 0 ∨ 5 < i) with f_2 | f_2
  · refine xc_S (rest := [.ref x]) (As := [.int i]) hf hK hA hAz hst (hw.pick [] rfl rfl rfl) (k_X4_isNoTray_yes l D dT g z0 i f_2) (va_cwS 1 hts (lw_S q1353 q1354 q54 q1355) rfl rfl rfl (by decide +kernel) ⟨Nat.le_of_ble_eq_true rfl, Nat.le_of_ble_eq_true rfl⟩) rfl hl.1 rfl (Nat.le_of_ble_eq_true rfl) dX4_ofTray_2 ⟨(Nat.le_of_ble_eq_true rfl), (Nat.le_of_ble_eq_true rfl)⟩ (fun _ _ _ _ _ _ h => h.elim) (fun v9 LL1 H locs hp hw => ?_)
    obtain ⟨rfl, rfl⟩ := hp
    have hw : Wd D A s.heap _ _ [[ob x 3 [.int th, .ref (L 0), .ref (L 1), .ref (L 2), .ref (L 3), .ref (L 4), .ref (L 5), .int (sc 0), .int (bz (sc 1)), .int (sc 2), .int (sc 3), .int (sc 4), .int (sc 5), .int (sc 6)]], [((L 2), aR dT 4 6 (fun i => (ads mt)[i]?))], (mt.flatMap mtE)] := hw
    refine W.eq (g2 := F0 m 5 ls [.int 1, .ref x]) rfl ?_
    refine lv_iconst (v := 1) hx hb dX4_ofTray_5 (by decide) ?_
    refine xc_V (rest := []) (As := [.int 1, .int 1]) hf hK hA hAz hst (hw.pick [0] rfl rfl rfl) (k_X4_start_yes l D dT g z0 x th (.ref (L 0)) (.ref (L 1)) (.ref (L 2)) (.ref (L 3)) (.ref (L 4)) (.ref (L 5)) (.int (sc 0)) (.int (bz (sc 1))) (.int (sc 2)) (.int (sc 3)) (.int (sc 4)) (.int (sc 5)) (.int (sc 6)) 1 (by decide)) (cwV 2 hts (lw_V q1234 q1236 qs19 q54 q1237) rfl rfl rfl (by decide +kernel) ⟨Nat.le_of_ble_eq_true rfl, Nat.le_of_ble_eq_true rfl⟩) (xr_rv hK hw 0 0 rfl rfl) rfl hl.1 rfl (Nat.le_of_ble_eq_true rfl) dX4_ofTray_6 ⟨(Nat.le_of_ble_eq_true rfl), (Nat.le_of_ble_eq_true rfl)⟩ (fun _ _ _ _ _ _ h => h.elim) (fun v9 LL1 H locs hp hw => ?_)
    obtain ⟨rfl, rfl⟩ := hp
    have hw : Wd D A s.heap _ _ [[ob x 3 [.int 1, .ref (L 0), .ref (L 1), .ref (L 2), .ref (L 3), .ref (L 4), .ref (L 5), .int (sc 0), .int (bz (sc 1)), .int (sc 2), .int (sc 3), .int (sc 4), .int (sc 5), .int (sc 6)]], [((L 2), aR dT 4 6 (fun i => (ads mt)[i]?))], (mt.flatMap mtE)] := hw
    refine W.eq (g2 := F0 m 9 ls [.int 1]) rfl ?_
    refine lv_if_ne (tgt := 35) hx hb dX4_ofTray_9 (by decide) (fun _ => ?_) (fun c9 => absurd c9 (by decide))
    refine lv_iconst (v := 0) hx hb dX4_ofTray_35 (by decide) ?_
    refine lv_goto (tgt := 45) hx hb dX4_ofTray_36 (by decide) ?_
    have hw : Wd D A s.heap _ _ [[ob x 3 [.int 1, .ref (L 0), .ref (L 1), .ref (L 2), .ref (L 3), .ref (L 4), .ref (L 5), .int (sc 0), .int (bz (sc 1)), .int (sc 2), .int (sc 3), .int (sc 4), .int (sc 5), .int (sc 6)]], [((L 2), aR dT 4 6 (fun i => (ads mt)[i]?))], (mt.flatMap mtE)] := Wd.take hw [0, 0, 0] rfl rfl
    exact xr_iret hf hr hlocks hw (Nat.le_of_ble_eq_true rfl) (Nat.le_of_ble_eq_true rfl) (Or.inl ⟨(by first | (simp only [f_2, true_or, or_true, false_or, or_false, not_true_eq_false, not_false_eq_true, and_true, true_and, and_self]; done) | (simp only [← Int32.not_le, f_2, true_or, or_true, false_or, or_false, not_true_eq_false, not_false_eq_true, and_true, true_and, and_self]; done)), rfl, rfl⟩) dX4_ofTray_45
  · obtain ⟨kmt_i, qmt_i, hqmt_i, emt_i, hkmt_i⟩ := arr_of 5 hmt (by decide) f_2
    refine xc_S (rest := [.ref x]) (As := [.int i]) hf hK hA hAz hst (hw.pick [] rfl rfl rfl) (k_X4_isNoTray_no l D dT g z0 i f_2) (va_cwS 1 hts (lw_S q1353 q1354 q54 q1355) rfl rfl rfl (by decide +kernel) ⟨Nat.le_of_ble_eq_true rfl, Nat.le_of_ble_eq_true rfl⟩) rfl hl.1 rfl (Nat.le_of_ble_eq_true rfl) dX4_ofTray_2 ⟨(Nat.le_of_ble_eq_true rfl), (Nat.le_of_ble_eq_true rfl)⟩ (fun _ _ _ _ _ _ h => h.elim) (fun v9 LL1 H locs hp hw => ?_)
    obtain ⟨rfl, rfl⟩ := hp
    have hw : Wd D A s.heap _ _ [[ob x 3 [.int th, .ref (L 0), .ref (L 1), .ref (L 2), .ref (L 3), .ref (L 4), .ref (L 5), .int (sc 0), .int (bz (sc 1)), .int (sc 2), .int (sc 3), .int (sc 4), .int (sc 5), .int (sc 6)]], [((L 2), aR dT 4 6 (fun i => (ads mt)[i]?))], (mt.flatMap mtE)] := hw
    refine W.eq (g2 := F0 m 5 ls [.int 0, .ref x]) rfl ?_
    refine lv_iconst (v := 1) hx hb dX4_ofTray_5 (by decide) ?_
    refine xc_V (rest := []) (As := [.int 0, .int 1]) hf hK hA hAz hst (hw.pick [0] rfl rfl rfl) (k_X4_start_no l D dT g z0 x th (.ref (L 0)) (.ref (L 1)) (.ref (L 2)) (.ref (L 3)) (.ref (L 4)) (.ref (L 5)) (.int (sc 0)) (.int (bz (sc 1))) (.int (sc 2)) (.int (sc 3)) (.int (sc 4)) (.int (sc 5)) (.int (sc 6)) 1) (cwV 2 hts (lw_V q1234 q1236 qs19 q54 q1237) rfl rfl rfl (by decide +kernel) ⟨Nat.le_of_ble_eq_true rfl, Nat.le_of_ble_eq_true rfl⟩) (xr_rv hK hw 0 0 rfl rfl) rfl hl.1 rfl (Nat.le_of_ble_eq_true rfl) dX4_ofTray_6 ⟨(Nat.le_of_ble_eq_true rfl), (Nat.le_of_ble_eq_true rfl)⟩ (fun _ _ _ _ _ _ h => h.elim) (fun v9 LL1 H locs hp hw => ?_)
    obtain ⟨rfl, rfl⟩ := hp
    have hw : Wd D A s.heap _ _ [[ob x 3 [.int 0, .ref (L 0), .ref (L 1), .ref (L 2), .ref (L 3), .ref (L 4), .ref (L 5), .int (sc 0), .int (bz (sc 1)), .int (sc 2), .int (sc 3), .int (sc 4), .int (sc 5), .int (sc 6)]], [((L 2), aR dT 4 6 (fun i => (ads mt)[i]?))], (mt.flatMap mtE)] := hw
    refine W.eq (g2 := F0 m 9 ls [.int 0]) rfl ?_
    refine lv_if_ne (tgt := 35) hx hb dX4_ofTray_9 (by decide) (fun c9 => absurd c9 (by decide)) (fun _ => ?_)
    refine lv_aload_n hx hb dX4_ofTray_12 rfl (lv_at hl 0 rfl) ?_
    refine lv_iload_n hx hb dX4_ofTray_13 rfl (lv_at hl 2 rfl) ?_
    refine lv_iconst (v := 0) hx hb dX4_ofTray_14 (by decide) ?_
    refine lv_bipush (v := 11) hx hb dX4_ofTray_15 (by decide) ?_
    rcases Decidable.em (w < 0 ∨ 11 < w) with f_17 | f_17
    · refine xc_S (rest := [.ref x]) (As := [.int w, .int 0, .int 11]) hf hK hA hAz hst (hw.pick [] rfl rfl rfl) (k_X4_isIn_no l D dT g z0 w 0 11 f_17) (va_cwS 3 hts (lw_S q1231 q1232 q54 q1233) rfl rfl rfl (by decide +kernel) ⟨Nat.le_of_ble_eq_true rfl, Nat.le_of_ble_eq_true rfl⟩) rfl hl.1 rfl (Nat.le_of_ble_eq_true rfl) dX4_ofTray_17 ⟨(Nat.le_of_ble_eq_true rfl), (Nat.le_of_ble_eq_true rfl)⟩ (fun _ _ _ _ _ _ h => h.elim) (fun v9 LL1 H locs hp hw => ?_)
      obtain ⟨rfl, rfl⟩ := hp
      have hw : Wd D A s.heap _ _ [[ob x 3 [.int 0, .ref (L 0), .ref (L 1), .ref (L 2), .ref (L 3), .ref (L 4), .ref (L 5), .int (sc 0), .int (bz (sc 1)), .int (sc 2), .int (sc 3), .int (sc 4), .int (sc 5), .int (sc 6)]], [((L 2), aR dT 4 6 (fun i => (ads mt)[i]?))], (mt.flatMap mtE)] := hw
      refine W.eq (g2 := F0 m 20 ls [.int 0, .ref x]) rfl ?_
      refine lv_if_ne (tgt := 27) hx hb dX4_ofTray_20 (by decide) (fun c9 => absurd c9 (by decide)) (fun _ => ?_)
      refine lv_iconst (v := 1) hx hb dX4_ofTray_23 (by decide) ?_
      refine lv_goto (tgt := 28) hx hb dX4_ofTray_24 (by decide) ?_
      refine lv_iconst (v := 2) hx hb dX4_ofTray_28 (by decide) ?_
      refine xc_V (rest := []) (As := [.int 1, .int 2]) hf hK hA hAz hst (hw.pick [0] rfl rfl rfl) (k_X4_refuse_yes l D dT g z0 x (.ref (L 0)) (.ref (L 1)) (.ref (L 2)) (.ref (L 3)) (.ref (L 4)) (.ref (L 5)) (.int (sc 0)) (.int (bz (sc 1))) (.int (sc 2)) (.int (sc 3)) (.int (sc 4)) (.int (sc 5)) (.int (sc 6)) 2 (by decide)) (cwV 2 hts (lw_V q1238 q1240 qs20 q54 q1241) rfl rfl rfl (by decide +kernel) ⟨Nat.le_of_ble_eq_true rfl, Nat.le_of_ble_eq_true rfl⟩) (xr_rv hK hw 0 0 rfl rfl) rfl hl.1 rfl (Nat.le_of_ble_eq_true rfl) dX4_ofTray_29 ⟨(Nat.le_of_ble_eq_true rfl), (Nat.le_of_ble_eq_true rfl)⟩ (fun _ _ _ _ _ _ h => h.elim) (fun v9 LL1 H locs hp hw => ?_)
      obtain ⟨rfl, rfl⟩ := hp
      have hw : Wd D A s.heap _ _ [[ob x 3 [.int 2, .ref (L 0), .ref (L 1), .ref (L 2), .ref (L 3), .ref (L 4), .ref (L 5), .int (sc 0), .int (bz (sc 1)), .int (sc 2), .int (sc 3), .int (sc 4), .int (sc 5), .int (sc 6)]], [((L 2), aR dT 4 6 (fun i => (ads mt)[i]?))], (mt.flatMap mtE)] := hw
      refine W.eq (g2 := F0 m 32 ls [.int 1]) rfl ?_
      refine lv_if_eq (tgt := 39) hx hb dX4_ofTray_32 (by decide) (fun c9 => absurd c9 (by decide)) (fun _ => ?_)
      refine lv_iconst (v := 0) hx hb dX4_ofTray_35 (by decide) ?_
      refine lv_goto (tgt := 45) hx hb dX4_ofTray_36 (by decide) ?_
      have hw : Wd D A s.heap _ _ [[ob x 3 [.int 2, .ref (L 0), .ref (L 1), .ref (L 2), .ref (L 3), .ref (L 4), .ref (L 5), .int (sc 0), .int (bz (sc 1)), .int (sc 2), .int (sc 3), .int (sc 4), .int (sc 5), .int (sc 6)]], [((L 2), aR dT 4 6 (fun i => (ads mt)[i]?))], (mt.flatMap mtE)] := Wd.take hw [0, 0, 0] rfl rfl
      exact xr_iret hf hr hlocks hw (Nat.le_of_ble_eq_true rfl) (Nat.le_of_ble_eq_true rfl) (Or.inr (Or.inl ⟨(by first | (simp only [f_2, f_17, true_or, or_true, false_or, or_false, not_true_eq_false, not_false_eq_true, and_true, true_and, and_self]; done) | (simp only [← Int32.not_le, f_2, f_17, true_or, or_true, false_or, or_false, not_true_eq_false, not_false_eq_true, and_true, true_and, and_self]; done)), (by first | (simp only [f_2, f_17, true_or, or_true, false_or, or_false, not_true_eq_false, not_false_eq_true, and_true, true_and, and_self]; done) | (simp only [← Int32.not_le, f_2, f_17, true_or, or_true, false_or, or_false, not_true_eq_false, not_false_eq_true, and_true, true_and, and_self]; done)), rfl, rfl⟩)) dX4_ofTray_45
    · refine xc_S (rest := [.ref x]) (As := [.int w, .int 0, .int 11]) hf hK hA hAz hst (hw.pick [] rfl rfl rfl) (k_X4_isIn_in l D dT g z0 w 0 11 f_17) (va_cwS 3 hts (lw_S q1231 q1232 q54 q1233) rfl rfl rfl (by decide +kernel) ⟨Nat.le_of_ble_eq_true rfl, Nat.le_of_ble_eq_true rfl⟩) rfl hl.1 rfl (Nat.le_of_ble_eq_true rfl) dX4_ofTray_17 ⟨(Nat.le_of_ble_eq_true rfl), (Nat.le_of_ble_eq_true rfl)⟩ (fun _ _ _ _ _ _ h => h.elim) (fun v9 LL1 H locs hp hw => ?_)
      obtain ⟨rfl, rfl⟩ := hp
      have hw : Wd D A s.heap _ _ [[ob x 3 [.int 0, .ref (L 0), .ref (L 1), .ref (L 2), .ref (L 3), .ref (L 4), .ref (L 5), .int (sc 0), .int (bz (sc 1)), .int (sc 2), .int (sc 3), .int (sc 4), .int (sc 5), .int (sc 6)]], [((L 2), aR dT 4 6 (fun i => (ads mt)[i]?))], (mt.flatMap mtE)] := hw
      refine W.eq (g2 := F0 m 20 ls [.int 1, .ref x]) rfl ?_
      refine lv_if_ne (tgt := 27) hx hb dX4_ofTray_20 (by decide) (fun _ => ?_) (fun c9 => absurd c9 (by decide))
      refine lv_iconst (v := 0) hx hb dX4_ofTray_27 (by decide) ?_
      refine lv_iconst (v := 2) hx hb dX4_ofTray_28 (by decide) ?_
      refine xc_V (rest := []) (As := [.int 0, .int 2]) hf hK hA hAz hst (hw.pick [0] rfl rfl rfl) (k_X4_refuse_no l D dT g z0 x (.ref (L 0)) (.ref (L 1)) (.ref (L 2)) (.ref (L 3)) (.ref (L 4)) (.ref (L 5)) (.int (sc 0)) (.int (bz (sc 1))) (.int (sc 2)) (.int (sc 3)) (.int (sc 4)) (.int (sc 5)) (.int (sc 6)) 2) (cwV 2 hts (lw_V q1238 q1240 qs20 q54 q1241) rfl rfl rfl (by decide +kernel) ⟨Nat.le_of_ble_eq_true rfl, Nat.le_of_ble_eq_true rfl⟩) (xr_rv hK hw 0 0 rfl rfl) rfl hl.1 rfl (Nat.le_of_ble_eq_true rfl) dX4_ofTray_29 ⟨(Nat.le_of_ble_eq_true rfl), (Nat.le_of_ble_eq_true rfl)⟩ (fun _ _ _ _ _ _ h => h.elim) (fun v9 LL1 H locs hp hw => ?_)
      obtain ⟨rfl, rfl⟩ := hp
      have hw : Wd D A s.heap _ _ [[ob x 3 [.int 0, .ref (L 0), .ref (L 1), .ref (L 2), .ref (L 3), .ref (L 4), .ref (L 5), .int (sc 0), .int (bz (sc 1)), .int (sc 2), .int (sc 3), .int (sc 4), .int (sc 5), .int (sc 6)]], [((L 2), aR dT 4 6 (fun i => (ads mt)[i]?))], (mt.flatMap mtE)] := hw
      refine W.eq (g2 := F0 m 32 ls [.int 0]) rfl ?_
      refine lv_if_eq (tgt := 39) hx hb dX4_ofTray_32 (by decide) (fun _ => ?_) (fun c9 => absurd c9 (by decide))
      refine lv_aload_n hx hb dX4_ofTray_39 rfl (lv_at hl 0 rfl) ?_
      refine lv_iload_n hx hb dX4_ofTray_40 rfl (lv_at hl 1 rfl) ?_
      refine lv_iload_n hx hb dX4_ofTray_41 rfl (lv_at hl 2 rfl) ?_
      refine xc_V (rest := []) (As := [.int i, .int w]) hf hK hA hAz hst (hw.pick [0, 0, 0] rfl rfl rfl) (k_X4_ofTrayNow l D dT g z0 x 0 L sc mt i w kmt_i qmt_i hmt hqmt_i emt_i hkmt_i (by first | (simp only [f_2, f_17, true_or, or_true, false_or, or_false, not_true_eq_false, not_false_eq_true, and_true, true_and, and_self]; done) | (simp only [← Int32.not_le, f_2, f_17, true_or, or_true, false_or, or_false, not_true_eq_false, not_false_eq_true, and_true, true_and, and_self]; done))) (cwV 2 hts (lw_V q1557 q1559 qs32 q54 q1560) rfl rfl rfl (by decide +kernel) ⟨Nat.le_of_ble_eq_true rfl, Nat.le_of_ble_eq_true rfl⟩) (xr_rv hK hw 0 0 rfl rfl) rfl hl.1 rfl (Nat.le_of_ble_eq_true rfl) dX4_ofTray_42 ⟨(Nat.le_of_ble_eq_true rfl), (Nat.le_of_ble_eq_true rfl)⟩ (fun _ _ _ _ _ _ h => h.elim) (fun v9 LL1 H locs hp hw => ?_)
      obtain ⟨rfl, rfl⟩ := hp
      have hw : Wd D A s.heap _ _ [[ob x 3 [.int 0, .ref (L 0), .ref (L 1), .ref (L 2), .ref (L 3), .ref (L 4), .ref (L 5), .int (sc 0), .int (bz (sc 1)), .int (sc 2), .int (sc 3), .int (sc 4), .int (sc 5), .int (sc 6)]], [((L 2), aR dT 4 6 (fun i => (ads mt)[i]?))], (mt.flatMap mtE)] := hw
      refine W.eq (g2 := F0 m 45 ls [.int (mt_told qmt_i.2 w)]) rfl ?_
      have hw : Wd D A s.heap _ _ [[ob x 3 [.int 0, .ref (L 0), .ref (L 1), .ref (L 2), .ref (L 3), .ref (L 4), .ref (L 5), .int (sc 0), .int (bz (sc 1)), .int (sc 2), .int (sc 3), .int (sc 4), .int (sc 5), .int (sc 6)]], [((L 2), aR dT 4 6 (fun i => (ads mt)[i]?))], (mt.flatMap mtE)] := Wd.take hw [0, 0, 0] rfl rfl
      exact xr_iret hf hr hlocks hw (Nat.le_of_ble_eq_true rfl) (Nat.le_of_ble_eq_true rfl) (Or.inr (Or.inr ⟨kmt_i, qmt_i, (by first | (simp only [f_2, f_17, true_or, or_true, false_or, or_false, not_true_eq_false, not_false_eq_true, and_true, true_and, and_self]; done) | (simp only [← Int32.not_le, f_2, f_17, true_or, or_true, false_or, or_false, not_true_eq_false, not_false_eq_true, and_true, true_and, and_self]; done)), (by first | (simp only [f_2, f_17, true_or, or_true, false_or, or_false, not_true_eq_false, not_false_eq_true, and_true, true_and, and_self]; done) | (simp only [← Int32.not_le, f_2, f_17, true_or, or_true, false_or, or_false, not_true_eq_false, not_false_eq_true, and_true, true_and, and_self]; done)), ⟨hqmt_i, emt_i⟩, rfl, rfl⟩)) dX4_ofTray_45

set_option maxHeartbeats 4000000 in
theorem k_X4_ofLot (l : Launch) (D : va_G) (dT g : Nat → Nat) (z0 : Nat) (x : Nat) (th : Int32) (L : Nat → Nat) (sc : Nat → Int32) (uo : Int32) (sto : Option (Nat × Nat)) (mo : List (Nat × Nat × Nat × (Nat → Int32))) (i : Int32) (w : Int32) (hoko : alOK sto (ads mo)) : Con l D dT g z0 yX4_ofLot (ws_ yX4_ofLot cX4_ofLot 3 (some .int)) ({ frames := 5, cells := 1, slots := 9, locals := 128 }) [.ref x, .int i, .int w] [[ob x 3 [.int th, .ref (L 0), .ref (L 1), .ref (L 2), .ref (L 3), .ref (L 4), .ref (L 5), .int (sc 0), .int (bz (sc 1)), .int (sc 2), .int (sc 3), .int (sc 4), .int (sc 5), .int (sc 6)]], ((ob (L 3) 15 [.int uo, .ref (al_d g sto), .int (nI (ads mo).length)]) :: (al_t dT sto (ads mo))), (mo.flatMap (moE dT))] (fun r LL => ((i < 0 ∨ ¬ i < nI (ads mo).length) ∧ r = some (.int 0) ∧ LL = [[ob x 3 [.int 1, .ref (L 0), .ref (L 1), .ref (L 2), .ref (L 3), .ref (L 4), .ref (L 5), .int (sc 0), .int (bz (sc 1)), .int (sc 2), .int (sc 3), .int (sc 4), .int (sc 5), .int (sc 6)]], ((ob (L 3) 15 [.int uo, .ref (al_d g sto), .int (nI (ads mo).length)]) :: (al_t dT sto (ads mo))), (mo.flatMap (moE dT))]) ∨ ((¬ (i < 0 ∨ ¬ i < nI (ads mo).length)) ∧ (w < 0 ∨ 8 < w) ∧ r = some (.int 0) ∧ LL = [[ob x 3 [.int 2, .ref (L 0), .ref (L 1), .ref (L 2), .ref (L 3), .ref (L 4), .ref (L 5), .int (sc 0), .int (bz (sc 1)), .int (sc 2), .int (sc 3), .int (sc 4), .int (sc 5), .int (sc 6)]], ((ob (L 3) 15 [.int uo, .ref (al_d g sto), .int (nI (ads mo).length)]) :: (al_t dT sto (ads mo))), (mo.flatMap (moE dT))]) ∨ (∃ (k : Nat) (q : Nat × Nat × Nat × (Nat → Int32)), (¬ (i < 0 ∨ ¬ i < nI (ads mo).length)) ∧ (¬ (w < 0 ∨ 8 < w)) ∧ (mo[k]? = some q ∧ i = nI k) ∧ r = some (.int (lo_told q.2.2.2 w)) ∧ LL = [[ob x 3 [.int 0, .ref (L 0), .ref (L 1), .ref (L 2), .ref (L 3), .ref (L 4), .ref (L 5), .int (sc 0), .int (bz (sc 1)), .int (sc 2), .int (sc 3), .int (sc 4), .int (sc 5), .int (sc 6)]], ((ob (L 3) 15 [.int uo, .ref (al_d g sto), .int (nI (ads mo).length)]) :: (al_t dT sto (ads mo))), (mo.flatMap (moE dT))])) noX 1 9 := by
  refine Con.of (maxL := 3) (ret := (some .int)) (by first | exact plainFor_of_name (by decide) | decide +kernel) (Nat.le_of_ble_eq_true rfl) ?_
  intro p e s m args below meth c A ls hf hr hlocks hnm hno hK hA hAz hw hl hst
  have hf : CallFix p m c cX4_ofLot 3 s args lw_all "SilkRowModel" := hf
  have hnm : meth.name = "ofLot" := hnm
  have hx := hf.1
  have hb := hf.2.1
  have hts := hf.2.2.2.2
  have hl : lv_has ls 3 [(0, .ref x), (1, .int i), (2, .int w)] := hl
  have hw : Wd D A s.heap s.heap [] [[ob x 3 [.int th, .ref (L 0), .ref (L 1), .ref (L 2), .ref (L 3), .ref (L 4), .ref (L 5), .int (sc 0), .int (bz (sc 1)), .int (sc 2), .int (sc 3), .int (sc 4), .int (sc 5), .int (sc 6)]], ((ob (L 3) 15 [.int uo, .ref (al_d g sto), .int (nI (ads mo).length)]) :: (al_t dT sto (ads mo))), (mo.flatMap (moE dT))] := hw
  refine lv_aload_n hx hb dX4_ofLot_0 rfl (lv_at hl 0 rfl) ?_
  refine lv_aload_n hx hb dX4_ofLot_1 rfl (lv_at hl 0 rfl) ?_
  refine lv_iload_n hx hb dX4_ofLot_2 rfl (lv_at hl 1 rfl) ?_
  rcases Decidable.em (i < 0 ∨ ¬ i < nI (ads mo).length) with f_3 | f_3
  · refine xc_V (rest := [.ref x]) (As := [.int i]) hf hK hA hAz hst (hw.pick [0, 0] rfl rfl rfl) (k_X4_isNoLot_yes l D dT g z0 x th L sc uo (.ref (al_d g sto)) (al_t dT sto (ads mo)) (ads mo).length i (al_short hoko) f_3) (cwV 1 hts (lw_V q1426 q1428 qs26 q54 q1429) rfl rfl rfl (by decide +kernel) ⟨Nat.le_of_ble_eq_true rfl, Nat.le_of_ble_eq_true rfl⟩) (xr_rv hK hw 0 0 rfl rfl) rfl hl.1 rfl (Nat.le_of_ble_eq_true rfl) dX4_ofLot_3 ⟨(Nat.le_of_ble_eq_true rfl), (Nat.le_of_ble_eq_true rfl)⟩ (fun _ _ _ _ _ _ h => h.elim) (fun v9 LL1 H locs hp hw => ?_)
    obtain ⟨rfl, rfl⟩ := hp
    have hw : Wd D A s.heap _ _ [[ob x 3 [.int th, .ref (L 0), .ref (L 1), .ref (L 2), .ref (L 3), .ref (L 4), .ref (L 5), .int (sc 0), .int (bz (sc 1)), .int (sc 2), .int (sc 3), .int (sc 4), .int (sc 5), .int (sc 6)]], ((ob (L 3) 15 [.int uo, .ref (al_d g sto), .int (nI (ads mo).length)]) :: (al_t dT sto (ads mo))), (mo.flatMap (moE dT))] := hw
    refine W.eq (g2 := F0 m 6 ls [.int 1, .ref x]) rfl ?_
    refine lv_iconst (v := 1) hx hb dX4_ofLot_6 (by decide) ?_
    refine xc_V (rest := []) (As := [.int 1, .int 1]) hf hK hA hAz hst (hw.pick [0] rfl rfl rfl) (k_X4_start_yes l D dT g z0 x th (.ref (L 0)) (.ref (L 1)) (.ref (L 2)) (.ref (L 3)) (.ref (L 4)) (.ref (L 5)) (.int (sc 0)) (.int (bz (sc 1))) (.int (sc 2)) (.int (sc 3)) (.int (sc 4)) (.int (sc 5)) (.int (sc 6)) 1 (by decide)) (cwV 2 hts (lw_V q1234 q1236 qs19 q54 q1237) rfl rfl rfl (by decide +kernel) ⟨Nat.le_of_ble_eq_true rfl, Nat.le_of_ble_eq_true rfl⟩) (xr_rv hK hw 0 0 rfl rfl) rfl hl.1 rfl (Nat.le_of_ble_eq_true rfl) dX4_ofLot_7 ⟨(Nat.le_of_ble_eq_true rfl), (Nat.le_of_ble_eq_true rfl)⟩ (fun _ _ _ _ _ _ h => h.elim) (fun v9 LL1 H locs hp hw => ?_)
    obtain ⟨rfl, rfl⟩ := hp
    have hw : Wd D A s.heap _ _ [[ob x 3 [.int 1, .ref (L 0), .ref (L 1), .ref (L 2), .ref (L 3), .ref (L 4), .ref (L 5), .int (sc 0), .int (bz (sc 1)), .int (sc 2), .int (sc 3), .int (sc 4), .int (sc 5), .int (sc 6)]], ((ob (L 3) 15 [.int uo, .ref (al_d g sto), .int (nI (ads mo).length)]) :: (al_t dT sto (ads mo))), (mo.flatMap (moE dT))] := hw
    refine W.eq (g2 := F0 m 10 ls [.int 1]) rfl ?_
    refine lv_if_ne (tgt := 36) hx hb dX4_ofLot_10 (by decide) (fun _ => ?_) (fun c9 => absurd c9 (by decide))
    refine lv_iconst (v := 0) hx hb dX4_ofLot_36 (by decide) ?_
    refine lv_goto (tgt := 46) hx hb dX4_ofLot_37 (by decide) ?_
    have hw : Wd D A s.heap _ _ [[ob x 3 [.int 1, .ref (L 0), .ref (L 1), .ref (L 2), .ref (L 3), .ref (L 4), .ref (L 5), .int (sc 0), .int (bz (sc 1)), .int (sc 2), .int (sc 3), .int (sc 4), .int (sc 5), .int (sc 6)]], ((ob (L 3) 15 [.int uo, .ref (al_d g sto), .int (nI (ads mo).length)]) :: (al_t dT sto (ads mo))), (mo.flatMap (moE dT))] := Wd.take hw [0, 0, 0] rfl rfl
    exact xr_iret hf hr hlocks hw (Nat.le_of_ble_eq_true rfl) (Nat.le_of_ble_eq_true rfl) (Or.inl ⟨(by first | (simp only [f_3, true_or, or_true, false_or, or_false, not_true_eq_false, not_false_eq_true, and_true, true_and, and_self]; done) | (simp only [← Int32.not_le, f_3, true_or, or_true, false_or, or_false, not_true_eq_false, not_false_eq_true, and_true, true_and, and_self]; done)), rfl, rfl⟩) dX4_ofLot_46
  · obtain ⟨k_mo, q_mo, hq_mo, e_mo, hk_mo⟩ := list_of hoko f_3
    obtain ⟨d_mo, cap_mo, hd_mo, hc_q_mo, hC_q_mo⟩ := al_some (k := k_mo) hoko (ads_lt hq_mo)
    subst hd_mo
    have hw : Wd D A s.heap _ _ [[ob x 3 [.int th, .ref (L 0), .ref (L 1), .ref (L 2), .ref (L 3), .ref (L 4), .ref (L 5), .int (sc 0), .int (bz (sc 1)), .int (sc 2), .int (sc 3), .int (sc 4), .int (sc 5), .int (sc 6)]], [ob (L 3) 15 [.int uo, .ref d_mo, .int (nI (ads mo).length)], (d_mo, aR dT 1 cap_mo (fun i => (ads mo)[i]?))], (mo.flatMap (moE dT))] := hw
    refine xc_V (rest := [.ref x]) (As := [.int i]) hf hK hA hAz hst (hw.pick [0, 0] rfl rfl rfl) (k_X4_isNoLot_no l D dT g z0 x th L sc uo (.ref d_mo) ((d_mo, aR dT 1 cap_mo (fun i => (ads mo)[i]?)) :: []) (ads mo).length i (al_short hoko) f_3) (cwV 1 hts (lw_V q1426 q1428 qs26 q54 q1429) rfl rfl rfl (by decide +kernel) ⟨Nat.le_of_ble_eq_true rfl, Nat.le_of_ble_eq_true rfl⟩) (xr_rv hK hw 0 0 rfl rfl) rfl hl.1 rfl (Nat.le_of_ble_eq_true rfl) dX4_ofLot_3 ⟨(Nat.le_of_ble_eq_true rfl), (Nat.le_of_ble_eq_true rfl)⟩ (fun _ _ _ _ _ _ h => h.elim) (fun v9 LL1 H locs hp hw => ?_)
    obtain ⟨rfl, rfl⟩ := hp
    have hw : Wd D A s.heap _ _ [[ob x 3 [.int th, .ref (L 0), .ref (L 1), .ref (L 2), .ref (L 3), .ref (L 4), .ref (L 5), .int (sc 0), .int (bz (sc 1)), .int (sc 2), .int (sc 3), .int (sc 4), .int (sc 5), .int (sc 6)]], [ob (L 3) 15 [.int uo, .ref d_mo, .int (nI (ads mo).length)], (d_mo, aR dT 1 cap_mo (fun i => (ads mo)[i]?))], (mo.flatMap (moE dT))] := hw
    refine W.eq (g2 := F0 m 6 ls [.int 0, .ref x]) rfl ?_
    refine lv_iconst (v := 1) hx hb dX4_ofLot_6 (by decide) ?_
    refine xc_V (rest := []) (As := [.int 0, .int 1]) hf hK hA hAz hst (hw.pick [0] rfl rfl rfl) (k_X4_start_no l D dT g z0 x th (.ref (L 0)) (.ref (L 1)) (.ref (L 2)) (.ref (L 3)) (.ref (L 4)) (.ref (L 5)) (.int (sc 0)) (.int (bz (sc 1))) (.int (sc 2)) (.int (sc 3)) (.int (sc 4)) (.int (sc 5)) (.int (sc 6)) 1) (cwV 2 hts (lw_V q1234 q1236 qs19 q54 q1237) rfl rfl rfl (by decide +kernel) ⟨Nat.le_of_ble_eq_true rfl, Nat.le_of_ble_eq_true rfl⟩) (xr_rv hK hw 0 0 rfl rfl) rfl hl.1 rfl (Nat.le_of_ble_eq_true rfl) dX4_ofLot_7 ⟨(Nat.le_of_ble_eq_true rfl), (Nat.le_of_ble_eq_true rfl)⟩ (fun _ _ _ _ _ _ h => h.elim) (fun v9 LL1 H locs hp hw => ?_)
    obtain ⟨rfl, rfl⟩ := hp
    have hw : Wd D A s.heap _ _ [[ob x 3 [.int 0, .ref (L 0), .ref (L 1), .ref (L 2), .ref (L 3), .ref (L 4), .ref (L 5), .int (sc 0), .int (bz (sc 1)), .int (sc 2), .int (sc 3), .int (sc 4), .int (sc 5), .int (sc 6)]], [ob (L 3) 15 [.int uo, .ref d_mo, .int (nI (ads mo).length)], (d_mo, aR dT 1 cap_mo (fun i => (ads mo)[i]?))], (mo.flatMap (moE dT))] := hw
    refine W.eq (g2 := F0 m 10 ls [.int 0]) rfl ?_
    refine lv_if_ne (tgt := 36) hx hb dX4_ofLot_10 (by decide) (fun c9 => absurd c9 (by decide)) (fun _ => ?_)
    refine lv_aload_n hx hb dX4_ofLot_13 rfl (lv_at hl 0 rfl) ?_
    refine lv_iload_n hx hb dX4_ofLot_14 rfl (lv_at hl 2 rfl) ?_
    refine lv_iconst (v := 0) hx hb dX4_ofLot_15 (by decide) ?_
    refine lv_bipush (v := 8) hx hb dX4_ofLot_16 (by decide) ?_
    rcases Decidable.em (w < 0 ∨ 8 < w) with f_18 | f_18
    · refine xc_S (rest := [.ref x]) (As := [.int w, .int 0, .int 8]) hf hK hA hAz hst (hw.pick [] rfl rfl rfl) (k_X4_isIn_no l D dT g z0 w 0 8 f_18) (va_cwS 3 hts (lw_S q1231 q1232 q54 q1233) rfl rfl rfl (by decide +kernel) ⟨Nat.le_of_ble_eq_true rfl, Nat.le_of_ble_eq_true rfl⟩) rfl hl.1 rfl (Nat.le_of_ble_eq_true rfl) dX4_ofLot_18 ⟨(Nat.le_of_ble_eq_true rfl), (Nat.le_of_ble_eq_true rfl)⟩ (fun _ _ _ _ _ _ h => h.elim) (fun v9 LL1 H locs hp hw => ?_)
      obtain ⟨rfl, rfl⟩ := hp
      have hw : Wd D A s.heap _ _ [[ob x 3 [.int 0, .ref (L 0), .ref (L 1), .ref (L 2), .ref (L 3), .ref (L 4), .ref (L 5), .int (sc 0), .int (bz (sc 1)), .int (sc 2), .int (sc 3), .int (sc 4), .int (sc 5), .int (sc 6)]], [ob (L 3) 15 [.int uo, .ref d_mo, .int (nI (ads mo).length)], (d_mo, aR dT 1 cap_mo (fun i => (ads mo)[i]?))], (mo.flatMap (moE dT))] := hw
      refine W.eq (g2 := F0 m 21 ls [.int 0, .ref x]) rfl ?_
      refine lv_if_ne (tgt := 28) hx hb dX4_ofLot_21 (by decide) (fun c9 => absurd c9 (by decide)) (fun _ => ?_)
      refine lv_iconst (v := 1) hx hb dX4_ofLot_24 (by decide) ?_
      refine lv_goto (tgt := 29) hx hb dX4_ofLot_25 (by decide) ?_
      refine lv_iconst (v := 2) hx hb dX4_ofLot_29 (by decide) ?_
      refine xc_V (rest := []) (As := [.int 1, .int 2]) hf hK hA hAz hst (hw.pick [0] rfl rfl rfl) (k_X4_refuse_yes l D dT g z0 x (.ref (L 0)) (.ref (L 1)) (.ref (L 2)) (.ref (L 3)) (.ref (L 4)) (.ref (L 5)) (.int (sc 0)) (.int (bz (sc 1))) (.int (sc 2)) (.int (sc 3)) (.int (sc 4)) (.int (sc 5)) (.int (sc 6)) 2 (by decide)) (cwV 2 hts (lw_V q1238 q1240 qs20 q54 q1241) rfl rfl rfl (by decide +kernel) ⟨Nat.le_of_ble_eq_true rfl, Nat.le_of_ble_eq_true rfl⟩) (xr_rv hK hw 0 0 rfl rfl) rfl hl.1 rfl (Nat.le_of_ble_eq_true rfl) dX4_ofLot_30 ⟨(Nat.le_of_ble_eq_true rfl), (Nat.le_of_ble_eq_true rfl)⟩ (fun _ _ _ _ _ _ h => h.elim) (fun v9 LL1 H locs hp hw => ?_)
      obtain ⟨rfl, rfl⟩ := hp
      have hw : Wd D A s.heap _ _ [[ob x 3 [.int 2, .ref (L 0), .ref (L 1), .ref (L 2), .ref (L 3), .ref (L 4), .ref (L 5), .int (sc 0), .int (bz (sc 1)), .int (sc 2), .int (sc 3), .int (sc 4), .int (sc 5), .int (sc 6)]], [ob (L 3) 15 [.int uo, .ref d_mo, .int (nI (ads mo).length)], (d_mo, aR dT 1 cap_mo (fun i => (ads mo)[i]?))], (mo.flatMap (moE dT))] := hw
      refine W.eq (g2 := F0 m 33 ls [.int 1]) rfl ?_
      refine lv_if_eq (tgt := 40) hx hb dX4_ofLot_33 (by decide) (fun c9 => absurd c9 (by decide)) (fun _ => ?_)
      refine lv_iconst (v := 0) hx hb dX4_ofLot_36 (by decide) ?_
      refine lv_goto (tgt := 46) hx hb dX4_ofLot_37 (by decide) ?_
      have hw : Wd D A s.heap _ _ [[ob x 3 [.int 2, .ref (L 0), .ref (L 1), .ref (L 2), .ref (L 3), .ref (L 4), .ref (L 5), .int (sc 0), .int (bz (sc 1)), .int (sc 2), .int (sc 3), .int (sc 4), .int (sc 5), .int (sc 6)]], ((ob (L 3) 15 [.int uo, .ref (al_d g (some (d_mo, cap_mo))), .int (nI (ads mo).length)]) :: (al_t dT (some (d_mo, cap_mo)) (ads mo))), (mo.flatMap (moE dT))] := hw
      have hw : Wd D A s.heap _ _ [[ob x 3 [.int 2, .ref (L 0), .ref (L 1), .ref (L 2), .ref (L 3), .ref (L 4), .ref (L 5), .int (sc 0), .int (bz (sc 1)), .int (sc 2), .int (sc 3), .int (sc 4), .int (sc 5), .int (sc 6)]], ((ob (L 3) 15 [.int uo, .ref (al_d g (some (d_mo, cap_mo))), .int (nI (ads mo).length)]) :: (al_t dT (some (d_mo, cap_mo)) (ads mo))), (mo.flatMap (moE dT))] := Wd.take hw [0, 0, 0] rfl rfl
      exact xr_iret hf hr hlocks hw (Nat.le_of_ble_eq_true rfl) (Nat.le_of_ble_eq_true rfl) (Or.inr (Or.inl ⟨(by first | (simp only [f_3, f_18, true_or, or_true, false_or, or_false, not_true_eq_false, not_false_eq_true, and_true, true_and, and_self]; done) | (simp only [← Int32.not_le, f_3, f_18, true_or, or_true, false_or, or_false, not_true_eq_false, not_false_eq_true, and_true, true_and, and_self]; done)), (by first | (simp only [f_3, f_18, true_or, or_true, false_or, or_false, not_true_eq_false, not_false_eq_true, and_true, true_and, and_self]; done) | (simp only [← Int32.not_le, f_3, f_18, true_or, or_true, false_or, or_false, not_true_eq_false, not_false_eq_true, and_true, true_and, and_self]; done)), rfl, rfl⟩)) dX4_ofLot_46
    · refine xc_S (rest := [.ref x]) (As := [.int w, .int 0, .int 8]) hf hK hA hAz hst (hw.pick [] rfl rfl rfl) (k_X4_isIn_in l D dT g z0 w 0 8 f_18) (va_cwS 3 hts (lw_S q1231 q1232 q54 q1233) rfl rfl rfl (by decide +kernel) ⟨Nat.le_of_ble_eq_true rfl, Nat.le_of_ble_eq_true rfl⟩) rfl hl.1 rfl (Nat.le_of_ble_eq_true rfl) dX4_ofLot_18 ⟨(Nat.le_of_ble_eq_true rfl), (Nat.le_of_ble_eq_true rfl)⟩ (fun _ _ _ _ _ _ h => h.elim) (fun v9 LL1 H locs hp hw => ?_)
      obtain ⟨rfl, rfl⟩ := hp
      have hw : Wd D A s.heap _ _ [[ob x 3 [.int 0, .ref (L 0), .ref (L 1), .ref (L 2), .ref (L 3), .ref (L 4), .ref (L 5), .int (sc 0), .int (bz (sc 1)), .int (sc 2), .int (sc 3), .int (sc 4), .int (sc 5), .int (sc 6)]], [ob (L 3) 15 [.int uo, .ref d_mo, .int (nI (ads mo).length)], (d_mo, aR dT 1 cap_mo (fun i => (ads mo)[i]?))], (mo.flatMap (moE dT))] := hw
      refine W.eq (g2 := F0 m 21 ls [.int 1, .ref x]) rfl ?_
      refine lv_if_ne (tgt := 28) hx hb dX4_ofLot_21 (by decide) (fun _ => ?_) (fun c9 => absurd c9 (by decide))
      refine lv_iconst (v := 0) hx hb dX4_ofLot_28 (by decide) ?_
      refine lv_iconst (v := 2) hx hb dX4_ofLot_29 (by decide) ?_
      refine xc_V (rest := []) (As := [.int 0, .int 2]) hf hK hA hAz hst (hw.pick [0] rfl rfl rfl) (k_X4_refuse_no l D dT g z0 x (.ref (L 0)) (.ref (L 1)) (.ref (L 2)) (.ref (L 3)) (.ref (L 4)) (.ref (L 5)) (.int (sc 0)) (.int (bz (sc 1))) (.int (sc 2)) (.int (sc 3)) (.int (sc 4)) (.int (sc 5)) (.int (sc 6)) 2) (cwV 2 hts (lw_V q1238 q1240 qs20 q54 q1241) rfl rfl rfl (by decide +kernel) ⟨Nat.le_of_ble_eq_true rfl, Nat.le_of_ble_eq_true rfl⟩) (xr_rv hK hw 0 0 rfl rfl) rfl hl.1 rfl (Nat.le_of_ble_eq_true rfl) dX4_ofLot_30 ⟨(Nat.le_of_ble_eq_true rfl), (Nat.le_of_ble_eq_true rfl)⟩ (fun _ _ _ _ _ _ h => h.elim) (fun v9 LL1 H locs hp hw => ?_)
      obtain ⟨rfl, rfl⟩ := hp
      have hw : Wd D A s.heap _ _ [[ob x 3 [.int 0, .ref (L 0), .ref (L 1), .ref (L 2), .ref (L 3), .ref (L 4), .ref (L 5), .int (sc 0), .int (bz (sc 1)), .int (sc 2), .int (sc 3), .int (sc 4), .int (sc 5), .int (sc 6)]], [ob (L 3) 15 [.int uo, .ref d_mo, .int (nI (ads mo).length)], (d_mo, aR dT 1 cap_mo (fun i => (ads mo)[i]?))], (mo.flatMap (moE dT))] := hw
      refine W.eq (g2 := F0 m 33 ls [.int 0]) rfl ?_
      refine lv_if_eq (tgt := 40) hx hb dX4_ofLot_33 (by decide) (fun _ => ?_) (fun c9 => absurd c9 (by decide))
      refine lv_aload_n hx hb dX4_ofLot_40 rfl (lv_at hl 0 rfl) ?_
      refine lv_iload_n hx hb dX4_ofLot_41 rfl (lv_at hl 1 rfl) ?_
      refine lv_iload_n hx hb dX4_ofLot_42 rfl (lv_at hl 2 rfl) ?_
      have hw : Wd D A s.heap _ _ [[ob x 3 [.int 0, .ref (L 0), .ref (L 1), .ref (L 2), .ref (L 3), .ref (L 4), .ref (L 5), .int (sc 0), .int (bz (sc 1)), .int (sc 2), .int (sc 3), .int (sc 4), .int (sc 5), .int (sc 6)]], ((ob (L 3) 15 [.int uo, .ref (al_d g (some (d_mo, cap_mo))), .int (nI (ads mo).length)]) :: (al_t dT (some (d_mo, cap_mo)) (ads mo))), (mo.flatMap (moE dT))] := hw
      refine xc_V (rest := []) (As := [.int i, .int w]) hf hK hA hAz hst (hw.pick [0, 0, 0] rfl rfl rfl) (k_X4_ofLotNow l D dT g z0 x 0 L sc uo (some (d_mo, cap_mo)) mo i w k_mo q_mo hoko hq_mo e_mo hk_mo (by first | (simp only [f_3, f_18, true_or, or_true, false_or, or_false, not_true_eq_false, not_false_eq_true, and_true, true_and, and_self]; done) | (simp only [← Int32.not_le, f_3, f_18, true_or, or_true, false_or, or_false, not_true_eq_false, not_false_eq_true, and_true, true_and, and_self]; done))) (cwV 2 hts (lw_V q1566 q1568 qs33 q54 q1569) rfl rfl rfl (by decide +kernel) ⟨Nat.le_of_ble_eq_true rfl, Nat.le_of_ble_eq_true rfl⟩) (xr_rv hK hw 0 0 rfl rfl) rfl hl.1 rfl (Nat.le_of_ble_eq_true rfl) dX4_ofLot_43 ⟨(Nat.le_of_ble_eq_true rfl), (Nat.le_of_ble_eq_true rfl)⟩ (fun _ _ _ _ _ _ h => h.elim) (fun v9 LL1 H locs hp hw => ?_)
      obtain ⟨rfl, rfl⟩ := hp
      have hw : Wd D A s.heap _ _ [[ob x 3 [.int 0, .ref (L 0), .ref (L 1), .ref (L 2), .ref (L 3), .ref (L 4), .ref (L 5), .int (sc 0), .int (bz (sc 1)), .int (sc 2), .int (sc 3), .int (sc 4), .int (sc 5), .int (sc 6)]], ((ob (L 3) 15 [.int uo, .ref (al_d g (some (d_mo, cap_mo))), .int (nI (ads mo).length)]) :: (al_t dT (some (d_mo, cap_mo)) (ads mo))), (mo.flatMap (moE dT))] := hw
      refine W.eq (g2 := F0 m 46 ls [.int (lo_told q_mo.2.2.2 w)]) rfl ?_
      have hw : Wd D A s.heap _ _ [[ob x 3 [.int 0, .ref (L 0), .ref (L 1), .ref (L 2), .ref (L 3), .ref (L 4), .ref (L 5), .int (sc 0), .int (bz (sc 1)), .int (sc 2), .int (sc 3), .int (sc 4), .int (sc 5), .int (sc 6)]], ((ob (L 3) 15 [.int uo, .ref (al_d g (some (d_mo, cap_mo))), .int (nI (ads mo).length)]) :: (al_t dT (some (d_mo, cap_mo)) (ads mo))), (mo.flatMap (moE dT))] := Wd.take hw [0, 0, 0] rfl rfl
      exact xr_iret hf hr hlocks hw (Nat.le_of_ble_eq_true rfl) (Nat.le_of_ble_eq_true rfl) (Or.inr (Or.inr ⟨k_mo, q_mo, (by first | (simp only [f_3, f_18, true_or, or_true, false_or, or_false, not_true_eq_false, not_false_eq_true, and_true, true_and, and_self]; done) | (simp only [← Int32.not_le, f_3, f_18, true_or, or_true, false_or, or_false, not_true_eq_false, not_false_eq_true, and_true, true_and, and_self]; done)), (by first | (simp only [f_3, f_18, true_or, or_true, false_or, or_false, not_true_eq_false, not_false_eq_true, and_true, true_and, and_self]; done) | (simp only [← Int32.not_le, f_3, f_18, true_or, or_true, false_or, or_false, not_true_eq_false, not_false_eq_true, and_true, true_and, and_self]; done)), ⟨hq_mo, e_mo⟩, rfl, rfl⟩)) dX4_ofLot_46

set_option maxHeartbeats 4000000 in
theorem k_X4_ofSkein (l : Launch) (D : va_G) (dT g : Nat → Nat) (z0 : Nat) (x : Nat) (th : Int32) (L : Nat → Nat) (sc : Nat → Int32) (us : Int32) (sts : Option (Nat × Nat)) (ms : List (Nat × Nat × (Nat → Int32))) (i : Int32) (w : Int32) (hoks : alOK sts (ads ms)) : Con l D dT g z0 yX4_ofSkein (ws_ yX4_ofSkein cX4_ofSkein 3 (some .int)) ({ frames := 5, cells := 1, slots := 6, locals := 128 }) [.ref x, .int i, .int w] [[ob x 3 [.int th, .ref (L 0), .ref (L 1), .ref (L 2), .ref (L 3), .ref (L 4), .ref (L 5), .int (sc 0), .int (bz (sc 1)), .int (sc 2), .int (sc 3), .int (sc 4), .int (sc 5), .int (sc 6)]], ((ob (L 5) 15 [.int us, .ref (al_d g sts), .int (nI (ads ms).length)]) :: (al_t dT sts (ads ms))), (ms.flatMap (msE dT))] (fun r LL => ((i < 0 ∨ ¬ i < nI (ads ms).length) ∧ r = some (.int 0) ∧ LL = [[ob x 3 [.int 1, .ref (L 0), .ref (L 1), .ref (L 2), .ref (L 3), .ref (L 4), .ref (L 5), .int (sc 0), .int (bz (sc 1)), .int (sc 2), .int (sc 3), .int (sc 4), .int (sc 5), .int (sc 6)]], ((ob (L 5) 15 [.int us, .ref (al_d g sts), .int (nI (ads ms).length)]) :: (al_t dT sts (ads ms))), (ms.flatMap (msE dT))]) ∨ ((¬ (i < 0 ∨ ¬ i < nI (ads ms).length)) ∧ (w < 0 ∨ 9 < w) ∧ r = some (.int 0) ∧ LL = [[ob x 3 [.int 2, .ref (L 0), .ref (L 1), .ref (L 2), .ref (L 3), .ref (L 4), .ref (L 5), .int (sc 0), .int (bz (sc 1)), .int (sc 2), .int (sc 3), .int (sc 4), .int (sc 5), .int (sc 6)]], ((ob (L 5) 15 [.int us, .ref (al_d g sts), .int (nI (ads ms).length)]) :: (al_t dT sts (ads ms))), (ms.flatMap (msE dT))]) ∨ (∃ (k : Nat) (q : Nat × Nat × (Nat → Int32)), (¬ (i < 0 ∨ ¬ i < nI (ads ms).length)) ∧ (¬ (w < 0 ∨ 9 < w)) ∧ (ms[k]? = some q ∧ i = nI k) ∧ r = some (.int (ms_told q.2.2 w)) ∧ LL = [[ob x 3 [.int 0, .ref (L 0), .ref (L 1), .ref (L 2), .ref (L 3), .ref (L 4), .ref (L 5), .int (sc 0), .int (bz (sc 1)), .int (sc 2), .int (sc 3), .int (sc 4), .int (sc 5), .int (sc 6)]], ((ob (L 5) 15 [.int us, .ref (al_d g sts), .int (nI (ads ms).length)]) :: (al_t dT sts (ads ms))), (ms.flatMap (msE dT))])) noX 1 6 := by
  refine Con.of (maxL := 3) (ret := (some .int)) (by first | exact plainFor_of_name (by decide) | decide +kernel) (Nat.le_of_ble_eq_true rfl) ?_
  intro p e s m args below meth c A ls hf hr hlocks hnm hno hK hA hAz hw hl hst
  have hf : CallFix p m c cX4_ofSkein 3 s args lw_all "SilkRowModel" := hf
  have hnm : meth.name = "ofSkein" := hnm
  have hx := hf.1
  have hb := hf.2.1
  have hts := hf.2.2.2.2
  have hl : lv_has ls 3 [(0, .ref x), (1, .int i), (2, .int w)] := hl
  have hw : Wd D A s.heap s.heap [] [[ob x 3 [.int th, .ref (L 0), .ref (L 1), .ref (L 2), .ref (L 3), .ref (L 4), .ref (L 5), .int (sc 0), .int (bz (sc 1)), .int (sc 2), .int (sc 3), .int (sc 4), .int (sc 5), .int (sc 6)]], ((ob (L 5) 15 [.int us, .ref (al_d g sts), .int (nI (ads ms).length)]) :: (al_t dT sts (ads ms))), (ms.flatMap (msE dT))] := hw
  refine lv_aload_n hx hb dX4_ofSkein_0 rfl (lv_at hl 0 rfl) ?_
  refine lv_aload_n hx hb dX4_ofSkein_1 rfl (lv_at hl 0 rfl) ?_
  refine lv_iload_n hx hb dX4_ofSkein_2 rfl (lv_at hl 1 rfl) ?_
  rcases Decidable.em (i < 0 ∨ ¬ i < nI (ads ms).length) with f_3 | f_3
  · refine xc_V (rest := [.ref x]) (As := [.int i]) hf hK hA hAz hst (hw.pick [0, 0] rfl rfl rfl) (k_X4_isNoSkein_yes l D dT g z0 x th L sc us (.ref (al_d g sts)) (al_t dT sts (ads ms)) (ads ms).length i (al_short hoks) f_3) (cwV 1 hts (lw_V q1520 q1522 qs29 q54 q1523) rfl rfl rfl (by decide +kernel) ⟨Nat.le_of_ble_eq_true rfl, Nat.le_of_ble_eq_true rfl⟩) (xr_rv hK hw 0 0 rfl rfl) rfl hl.1 rfl (Nat.le_of_ble_eq_true rfl) dX4_ofSkein_3 ⟨(Nat.le_of_ble_eq_true rfl), (Nat.le_of_ble_eq_true rfl)⟩ (fun _ _ _ _ _ _ h => h.elim) (fun v9 LL1 H locs hp hw => ?_)
    obtain ⟨rfl, rfl⟩ := hp
    have hw : Wd D A s.heap _ _ [[ob x 3 [.int th, .ref (L 0), .ref (L 1), .ref (L 2), .ref (L 3), .ref (L 4), .ref (L 5), .int (sc 0), .int (bz (sc 1)), .int (sc 2), .int (sc 3), .int (sc 4), .int (sc 5), .int (sc 6)]], ((ob (L 5) 15 [.int us, .ref (al_d g sts), .int (nI (ads ms).length)]) :: (al_t dT sts (ads ms))), (ms.flatMap (msE dT))] := hw
    refine W.eq (g2 := F0 m 6 ls [.int 1, .ref x]) rfl ?_
    refine lv_iconst (v := 1) hx hb dX4_ofSkein_6 (by decide) ?_
    refine xc_V (rest := []) (As := [.int 1, .int 1]) hf hK hA hAz hst (hw.pick [0] rfl rfl rfl) (k_X4_start_yes l D dT g z0 x th (.ref (L 0)) (.ref (L 1)) (.ref (L 2)) (.ref (L 3)) (.ref (L 4)) (.ref (L 5)) (.int (sc 0)) (.int (bz (sc 1))) (.int (sc 2)) (.int (sc 3)) (.int (sc 4)) (.int (sc 5)) (.int (sc 6)) 1 (by decide)) (cwV 2 hts (lw_V q1234 q1236 qs19 q54 q1237) rfl rfl rfl (by decide +kernel) ⟨Nat.le_of_ble_eq_true rfl, Nat.le_of_ble_eq_true rfl⟩) (xr_rv hK hw 0 0 rfl rfl) rfl hl.1 rfl (Nat.le_of_ble_eq_true rfl) dX4_ofSkein_7 ⟨(Nat.le_of_ble_eq_true rfl), (Nat.le_of_ble_eq_true rfl)⟩ (fun _ _ _ _ _ _ h => h.elim) (fun v9 LL1 H locs hp hw => ?_)
    obtain ⟨rfl, rfl⟩ := hp
    have hw : Wd D A s.heap _ _ [[ob x 3 [.int 1, .ref (L 0), .ref (L 1), .ref (L 2), .ref (L 3), .ref (L 4), .ref (L 5), .int (sc 0), .int (bz (sc 1)), .int (sc 2), .int (sc 3), .int (sc 4), .int (sc 5), .int (sc 6)]], ((ob (L 5) 15 [.int us, .ref (al_d g sts), .int (nI (ads ms).length)]) :: (al_t dT sts (ads ms))), (ms.flatMap (msE dT))] := hw
    refine W.eq (g2 := F0 m 10 ls [.int 1]) rfl ?_
    refine lv_if_ne (tgt := 36) hx hb dX4_ofSkein_10 (by decide) (fun _ => ?_) (fun c9 => absurd c9 (by decide))
    refine lv_iconst (v := 0) hx hb dX4_ofSkein_36 (by decide) ?_
    refine lv_goto (tgt := 46) hx hb dX4_ofSkein_37 (by decide) ?_
    have hw : Wd D A s.heap _ _ [[ob x 3 [.int 1, .ref (L 0), .ref (L 1), .ref (L 2), .ref (L 3), .ref (L 4), .ref (L 5), .int (sc 0), .int (bz (sc 1)), .int (sc 2), .int (sc 3), .int (sc 4), .int (sc 5), .int (sc 6)]], ((ob (L 5) 15 [.int us, .ref (al_d g sts), .int (nI (ads ms).length)]) :: (al_t dT sts (ads ms))), (ms.flatMap (msE dT))] := Wd.take hw [0, 0, 0] rfl rfl
    exact xr_iret hf hr hlocks hw (Nat.le_of_ble_eq_true rfl) (Nat.le_of_ble_eq_true rfl) (Or.inl ⟨(by first | (simp only [f_3, true_or, or_true, false_or, or_false, not_true_eq_false, not_false_eq_true, and_true, true_and, and_self]; done) | (simp only [← Int32.not_le, f_3, true_or, or_true, false_or, or_false, not_true_eq_false, not_false_eq_true, and_true, true_and, and_self]; done)), rfl, rfl⟩) dX4_ofSkein_46
  · obtain ⟨k_ms, q_ms, hq_ms, e_ms, hk_ms⟩ := list_of hoks f_3
    obtain ⟨d_ms, cap_ms, hd_ms, hc_q_ms, hC_q_ms⟩ := al_some (k := k_ms) hoks (ads_lt hq_ms)
    subst hd_ms
    have hw : Wd D A s.heap _ _ [[ob x 3 [.int th, .ref (L 0), .ref (L 1), .ref (L 2), .ref (L 3), .ref (L 4), .ref (L 5), .int (sc 0), .int (bz (sc 1)), .int (sc 2), .int (sc 3), .int (sc 4), .int (sc 5), .int (sc 6)]], [ob (L 5) 15 [.int us, .ref d_ms, .int (nI (ads ms).length)], (d_ms, aR dT 1 cap_ms (fun i => (ads ms)[i]?))], (ms.flatMap (msE dT))] := hw
    refine xc_V (rest := [.ref x]) (As := [.int i]) hf hK hA hAz hst (hw.pick [0, 0] rfl rfl rfl) (k_X4_isNoSkein_no l D dT g z0 x th L sc us (.ref d_ms) ((d_ms, aR dT 1 cap_ms (fun i => (ads ms)[i]?)) :: []) (ads ms).length i (al_short hoks) f_3) (cwV 1 hts (lw_V q1520 q1522 qs29 q54 q1523) rfl rfl rfl (by decide +kernel) ⟨Nat.le_of_ble_eq_true rfl, Nat.le_of_ble_eq_true rfl⟩) (xr_rv hK hw 0 0 rfl rfl) rfl hl.1 rfl (Nat.le_of_ble_eq_true rfl) dX4_ofSkein_3 ⟨(Nat.le_of_ble_eq_true rfl), (Nat.le_of_ble_eq_true rfl)⟩ (fun _ _ _ _ _ _ h => h.elim) (fun v9 LL1 H locs hp hw => ?_)
    obtain ⟨rfl, rfl⟩ := hp
    have hw : Wd D A s.heap _ _ [[ob x 3 [.int th, .ref (L 0), .ref (L 1), .ref (L 2), .ref (L 3), .ref (L 4), .ref (L 5), .int (sc 0), .int (bz (sc 1)), .int (sc 2), .int (sc 3), .int (sc 4), .int (sc 5), .int (sc 6)]], [ob (L 5) 15 [.int us, .ref d_ms, .int (nI (ads ms).length)], (d_ms, aR dT 1 cap_ms (fun i => (ads ms)[i]?))], (ms.flatMap (msE dT))] := hw
    refine W.eq (g2 := F0 m 6 ls [.int 0, .ref x]) rfl ?_
    refine lv_iconst (v := 1) hx hb dX4_ofSkein_6 (by decide) ?_
    refine xc_V (rest := []) (As := [.int 0, .int 1]) hf hK hA hAz hst (hw.pick [0] rfl rfl rfl) (k_X4_start_no l D dT g z0 x th (.ref (L 0)) (.ref (L 1)) (.ref (L 2)) (.ref (L 3)) (.ref (L 4)) (.ref (L 5)) (.int (sc 0)) (.int (bz (sc 1))) (.int (sc 2)) (.int (sc 3)) (.int (sc 4)) (.int (sc 5)) (.int (sc 6)) 1) (cwV 2 hts (lw_V q1234 q1236 qs19 q54 q1237) rfl rfl rfl (by decide +kernel) ⟨Nat.le_of_ble_eq_true rfl, Nat.le_of_ble_eq_true rfl⟩) (xr_rv hK hw 0 0 rfl rfl) rfl hl.1 rfl (Nat.le_of_ble_eq_true rfl) dX4_ofSkein_7 ⟨(Nat.le_of_ble_eq_true rfl), (Nat.le_of_ble_eq_true rfl)⟩ (fun _ _ _ _ _ _ h => h.elim) (fun v9 LL1 H locs hp hw => ?_)
    obtain ⟨rfl, rfl⟩ := hp
    have hw : Wd D A s.heap _ _ [[ob x 3 [.int 0, .ref (L 0), .ref (L 1), .ref (L 2), .ref (L 3), .ref (L 4), .ref (L 5), .int (sc 0), .int (bz (sc 1)), .int (sc 2), .int (sc 3), .int (sc 4), .int (sc 5), .int (sc 6)]], [ob (L 5) 15 [.int us, .ref d_ms, .int (nI (ads ms).length)], (d_ms, aR dT 1 cap_ms (fun i => (ads ms)[i]?))], (ms.flatMap (msE dT))] := hw
    refine W.eq (g2 := F0 m 10 ls [.int 0]) rfl ?_
    refine lv_if_ne (tgt := 36) hx hb dX4_ofSkein_10 (by decide) (fun c9 => absurd c9 (by decide)) (fun _ => ?_)
    refine lv_aload_n hx hb dX4_ofSkein_13 rfl (lv_at hl 0 rfl) ?_
    refine lv_iload_n hx hb dX4_ofSkein_14 rfl (lv_at hl 2 rfl) ?_
    refine lv_iconst (v := 0) hx hb dX4_ofSkein_15 (by decide) ?_
    refine lv_bipush (v := 9) hx hb dX4_ofSkein_16 (by decide) ?_
    rcases Decidable.em (w < 0 ∨ 9 < w) with f_18 | f_18
    · refine xc_S (rest := [.ref x]) (As := [.int w, .int 0, .int 9]) hf hK hA hAz hst (hw.pick [] rfl rfl rfl) (k_X4_isIn_no l D dT g z0 w 0 9 f_18) (va_cwS 3 hts (lw_S q1231 q1232 q54 q1233) rfl rfl rfl (by decide +kernel) ⟨Nat.le_of_ble_eq_true rfl, Nat.le_of_ble_eq_true rfl⟩) rfl hl.1 rfl (Nat.le_of_ble_eq_true rfl) dX4_ofSkein_18 ⟨(Nat.le_of_ble_eq_true rfl), (Nat.le_of_ble_eq_true rfl)⟩ (fun _ _ _ _ _ _ h => h.elim) (fun v9 LL1 H locs hp hw => ?_)
      obtain ⟨rfl, rfl⟩ := hp
      have hw : Wd D A s.heap _ _ [[ob x 3 [.int 0, .ref (L 0), .ref (L 1), .ref (L 2), .ref (L 3), .ref (L 4), .ref (L 5), .int (sc 0), .int (bz (sc 1)), .int (sc 2), .int (sc 3), .int (sc 4), .int (sc 5), .int (sc 6)]], [ob (L 5) 15 [.int us, .ref d_ms, .int (nI (ads ms).length)], (d_ms, aR dT 1 cap_ms (fun i => (ads ms)[i]?))], (ms.flatMap (msE dT))] := hw
      refine W.eq (g2 := F0 m 21 ls [.int 0, .ref x]) rfl ?_
      refine lv_if_ne (tgt := 28) hx hb dX4_ofSkein_21 (by decide) (fun c9 => absurd c9 (by decide)) (fun _ => ?_)
      refine lv_iconst (v := 1) hx hb dX4_ofSkein_24 (by decide) ?_
      refine lv_goto (tgt := 29) hx hb dX4_ofSkein_25 (by decide) ?_
      refine lv_iconst (v := 2) hx hb dX4_ofSkein_29 (by decide) ?_
      refine xc_V (rest := []) (As := [.int 1, .int 2]) hf hK hA hAz hst (hw.pick [0] rfl rfl rfl) (k_X4_refuse_yes l D dT g z0 x (.ref (L 0)) (.ref (L 1)) (.ref (L 2)) (.ref (L 3)) (.ref (L 4)) (.ref (L 5)) (.int (sc 0)) (.int (bz (sc 1))) (.int (sc 2)) (.int (sc 3)) (.int (sc 4)) (.int (sc 5)) (.int (sc 6)) 2 (by decide)) (cwV 2 hts (lw_V q1238 q1240 qs20 q54 q1241) rfl rfl rfl (by decide +kernel) ⟨Nat.le_of_ble_eq_true rfl, Nat.le_of_ble_eq_true rfl⟩) (xr_rv hK hw 0 0 rfl rfl) rfl hl.1 rfl (Nat.le_of_ble_eq_true rfl) dX4_ofSkein_30 ⟨(Nat.le_of_ble_eq_true rfl), (Nat.le_of_ble_eq_true rfl)⟩ (fun _ _ _ _ _ _ h => h.elim) (fun v9 LL1 H locs hp hw => ?_)
      obtain ⟨rfl, rfl⟩ := hp
      have hw : Wd D A s.heap _ _ [[ob x 3 [.int 2, .ref (L 0), .ref (L 1), .ref (L 2), .ref (L 3), .ref (L 4), .ref (L 5), .int (sc 0), .int (bz (sc 1)), .int (sc 2), .int (sc 3), .int (sc 4), .int (sc 5), .int (sc 6)]], [ob (L 5) 15 [.int us, .ref d_ms, .int (nI (ads ms).length)], (d_ms, aR dT 1 cap_ms (fun i => (ads ms)[i]?))], (ms.flatMap (msE dT))] := hw
      refine W.eq (g2 := F0 m 33 ls [.int 1]) rfl ?_
      refine lv_if_eq (tgt := 40) hx hb dX4_ofSkein_33 (by decide) (fun c9 => absurd c9 (by decide)) (fun _ => ?_)
      refine lv_iconst (v := 0) hx hb dX4_ofSkein_36 (by decide) ?_
      refine lv_goto (tgt := 46) hx hb dX4_ofSkein_37 (by decide) ?_
      have hw : Wd D A s.heap _ _ [[ob x 3 [.int 2, .ref (L 0), .ref (L 1), .ref (L 2), .ref (L 3), .ref (L 4), .ref (L 5), .int (sc 0), .int (bz (sc 1)), .int (sc 2), .int (sc 3), .int (sc 4), .int (sc 5), .int (sc 6)]], ((ob (L 5) 15 [.int us, .ref (al_d g (some (d_ms, cap_ms))), .int (nI (ads ms).length)]) :: (al_t dT (some (d_ms, cap_ms)) (ads ms))), (ms.flatMap (msE dT))] := hw
      have hw : Wd D A s.heap _ _ [[ob x 3 [.int 2, .ref (L 0), .ref (L 1), .ref (L 2), .ref (L 3), .ref (L 4), .ref (L 5), .int (sc 0), .int (bz (sc 1)), .int (sc 2), .int (sc 3), .int (sc 4), .int (sc 5), .int (sc 6)]], ((ob (L 5) 15 [.int us, .ref (al_d g (some (d_ms, cap_ms))), .int (nI (ads ms).length)]) :: (al_t dT (some (d_ms, cap_ms)) (ads ms))), (ms.flatMap (msE dT))] := Wd.take hw [0, 0, 0] rfl rfl
      exact xr_iret hf hr hlocks hw (Nat.le_of_ble_eq_true rfl) (Nat.le_of_ble_eq_true rfl) (Or.inr (Or.inl ⟨(by first | (simp only [f_3, f_18, true_or, or_true, false_or, or_false, not_true_eq_false, not_false_eq_true, and_true, true_and, and_self]; done) | (simp only [← Int32.not_le, f_3, f_18, true_or, or_true, false_or, or_false, not_true_eq_false, not_false_eq_true, and_true, true_and, and_self]; done)), (by first | (simp only [f_3, f_18, true_or, or_true, false_or, or_false, not_true_eq_false, not_false_eq_true, and_true, true_and, and_self]; done) | (simp only [← Int32.not_le, f_3, f_18, true_or, or_true, false_or, or_false, not_true_eq_false, not_false_eq_true, and_true, true_and, and_self]; done)), rfl, rfl⟩)) dX4_ofSkein_46
    · refine xc_S (rest := [.ref x]) (As := [.int w, .int 0, .int 9]) hf hK hA hAz hst (hw.pick [] rfl rfl rfl) (k_X4_isIn_in l D dT g z0 w 0 9 f_18) (va_cwS 3 hts (lw_S q1231 q1232 q54 q1233) rfl rfl rfl (by decide +kernel) ⟨Nat.le_of_ble_eq_true rfl, Nat.le_of_ble_eq_true rfl⟩) rfl hl.1 rfl (Nat.le_of_ble_eq_true rfl) dX4_ofSkein_18 ⟨(Nat.le_of_ble_eq_true rfl), (Nat.le_of_ble_eq_true rfl)⟩ (fun _ _ _ _ _ _ h => h.elim) (fun v9 LL1 H locs hp hw => ?_)
      obtain ⟨rfl, rfl⟩ := hp
      have hw : Wd D A s.heap _ _ [[ob x 3 [.int 0, .ref (L 0), .ref (L 1), .ref (L 2), .ref (L 3), .ref (L 4), .ref (L 5), .int (sc 0), .int (bz (sc 1)), .int (sc 2), .int (sc 3), .int (sc 4), .int (sc 5), .int (sc 6)]], [ob (L 5) 15 [.int us, .ref d_ms, .int (nI (ads ms).length)], (d_ms, aR dT 1 cap_ms (fun i => (ads ms)[i]?))], (ms.flatMap (msE dT))] := hw
      refine W.eq (g2 := F0 m 21 ls [.int 1, .ref x]) rfl ?_
      refine lv_if_ne (tgt := 28) hx hb dX4_ofSkein_21 (by decide) (fun _ => ?_) (fun c9 => absurd c9 (by decide))
      refine lv_iconst (v := 0) hx hb dX4_ofSkein_28 (by decide) ?_
      refine lv_iconst (v := 2) hx hb dX4_ofSkein_29 (by decide) ?_
      refine xc_V (rest := []) (As := [.int 0, .int 2]) hf hK hA hAz hst (hw.pick [0] rfl rfl rfl) (k_X4_refuse_no l D dT g z0 x (.ref (L 0)) (.ref (L 1)) (.ref (L 2)) (.ref (L 3)) (.ref (L 4)) (.ref (L 5)) (.int (sc 0)) (.int (bz (sc 1))) (.int (sc 2)) (.int (sc 3)) (.int (sc 4)) (.int (sc 5)) (.int (sc 6)) 2) (cwV 2 hts (lw_V q1238 q1240 qs20 q54 q1241) rfl rfl rfl (by decide +kernel) ⟨Nat.le_of_ble_eq_true rfl, Nat.le_of_ble_eq_true rfl⟩) (xr_rv hK hw 0 0 rfl rfl) rfl hl.1 rfl (Nat.le_of_ble_eq_true rfl) dX4_ofSkein_30 ⟨(Nat.le_of_ble_eq_true rfl), (Nat.le_of_ble_eq_true rfl)⟩ (fun _ _ _ _ _ _ h => h.elim) (fun v9 LL1 H locs hp hw => ?_)
      obtain ⟨rfl, rfl⟩ := hp
      have hw : Wd D A s.heap _ _ [[ob x 3 [.int 0, .ref (L 0), .ref (L 1), .ref (L 2), .ref (L 3), .ref (L 4), .ref (L 5), .int (sc 0), .int (bz (sc 1)), .int (sc 2), .int (sc 3), .int (sc 4), .int (sc 5), .int (sc 6)]], [ob (L 5) 15 [.int us, .ref d_ms, .int (nI (ads ms).length)], (d_ms, aR dT 1 cap_ms (fun i => (ads ms)[i]?))], (ms.flatMap (msE dT))] := hw
      refine W.eq (g2 := F0 m 33 ls [.int 0]) rfl ?_
      refine lv_if_eq (tgt := 40) hx hb dX4_ofSkein_33 (by decide) (fun _ => ?_) (fun c9 => absurd c9 (by decide))
      refine lv_aload_n hx hb dX4_ofSkein_40 rfl (lv_at hl 0 rfl) ?_
      refine lv_iload_n hx hb dX4_ofSkein_41 rfl (lv_at hl 1 rfl) ?_
      refine lv_iload_n hx hb dX4_ofSkein_42 rfl (lv_at hl 2 rfl) ?_
      have hw : Wd D A s.heap _ _ [[ob x 3 [.int 0, .ref (L 0), .ref (L 1), .ref (L 2), .ref (L 3), .ref (L 4), .ref (L 5), .int (sc 0), .int (bz (sc 1)), .int (sc 2), .int (sc 3), .int (sc 4), .int (sc 5), .int (sc 6)]], ((ob (L 5) 15 [.int us, .ref (al_d g (some (d_ms, cap_ms))), .int (nI (ads ms).length)]) :: (al_t dT (some (d_ms, cap_ms)) (ads ms))), (ms.flatMap (msE dT))] := hw
      refine xc_V (rest := []) (As := [.int i, .int w]) hf hK hA hAz hst (hw.pick [0, 0, 0] rfl rfl rfl) (k_X4_ofSkeinNow l D dT g z0 x 0 L sc us (some (d_ms, cap_ms)) ms i w k_ms q_ms hoks hq_ms e_ms hk_ms (by first | (simp only [f_3, f_18, true_or, or_true, false_or, or_false, not_true_eq_false, not_false_eq_true, and_true, true_and, and_self]; done) | (simp only [← Int32.not_le, f_3, f_18, true_or, or_true, false_or, or_false, not_true_eq_false, not_false_eq_true, and_true, true_and, and_self]; done))) (cwV 2 hts (lw_V q1584 q1586 qs35 q54 q1587) rfl rfl rfl (by decide +kernel) ⟨Nat.le_of_ble_eq_true rfl, Nat.le_of_ble_eq_true rfl⟩) (xr_rv hK hw 0 0 rfl rfl) rfl hl.1 rfl (Nat.le_of_ble_eq_true rfl) dX4_ofSkein_43 ⟨(Nat.le_of_ble_eq_true rfl), (Nat.le_of_ble_eq_true rfl)⟩ (fun _ _ _ _ _ _ h => h.elim) (fun v9 LL1 H locs hp hw => ?_)
      obtain ⟨rfl, rfl⟩ := hp
      have hw : Wd D A s.heap _ _ [[ob x 3 [.int 0, .ref (L 0), .ref (L 1), .ref (L 2), .ref (L 3), .ref (L 4), .ref (L 5), .int (sc 0), .int (bz (sc 1)), .int (sc 2), .int (sc 3), .int (sc 4), .int (sc 5), .int (sc 6)]], ((ob (L 5) 15 [.int us, .ref (al_d g (some (d_ms, cap_ms))), .int (nI (ads ms).length)]) :: (al_t dT (some (d_ms, cap_ms)) (ads ms))), (ms.flatMap (msE dT))] := hw
      refine W.eq (g2 := F0 m 46 ls [.int (ms_told q_ms.2.2 w)]) rfl ?_
      have hw : Wd D A s.heap _ _ [[ob x 3 [.int 0, .ref (L 0), .ref (L 1), .ref (L 2), .ref (L 3), .ref (L 4), .ref (L 5), .int (sc 0), .int (bz (sc 1)), .int (sc 2), .int (sc 3), .int (sc 4), .int (sc 5), .int (sc 6)]], ((ob (L 5) 15 [.int us, .ref (al_d g (some (d_ms, cap_ms))), .int (nI (ads ms).length)]) :: (al_t dT (some (d_ms, cap_ms)) (ads ms))), (ms.flatMap (msE dT))] := Wd.take hw [0, 0, 0] rfl rfl
      exact xr_iret hf hr hlocks hw (Nat.le_of_ble_eq_true rfl) (Nat.le_of_ble_eq_true rfl) (Or.inr (Or.inr ⟨k_ms, q_ms, (by first | (simp only [f_3, f_18, true_or, or_true, false_or, or_false, not_true_eq_false, not_false_eq_true, and_true, true_and, and_self]; done) | (simp only [← Int32.not_le, f_3, f_18, true_or, or_true, false_or, or_false, not_true_eq_false, not_false_eq_true, and_true, true_and, and_self]; done)), (by first | (simp only [f_3, f_18, true_or, or_true, false_or, or_false, not_true_eq_false, not_false_eq_true, and_true, true_and, and_self]; done) | (simp only [← Int32.not_le, f_3, f_18, true_or, or_true, false_or, or_false, not_true_eq_false, not_false_eq_true, and_true, true_and, and_self]; done)), ⟨hq_ms, e_ms⟩, rfl, rfl⟩)) dX4_ofSkein_46

