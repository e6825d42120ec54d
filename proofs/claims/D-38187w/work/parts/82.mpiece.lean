/-! 82.mpiece (printed by gen/silk.py) -/
set_option maxRecDepth 100000
set_option maxHeartbeats 4000000 in
theorem k_X4_piece (l : Launch) (D : va_G) (dT g : Nat → Nat) (z0 : Nat) (k : Nat) (sz : Nat) (a : Nat) (hk : k ≤ 2) (h2 : 2 ≤ sz) (h6 : sz ≤ 6) (ha : a < 6) : Con l D dT g z0 yX4_piece (ws_ yX4_piece cX4_piece 3 (some .int)) ({ frames := 1, cells := 0, slots := 0, locals := 40 }) [.int (nI k), .int (nI sz), .int (nI a)] [] (fun r LL => r = some (.int (nI ((pcs k sz).getD a 0))) ∧ LL = []) noX 0 0 := by
  refine Con.of (maxL := 3) (ret := (some .int)) (by first | exact plainFor_of_name (by decide) | decide +kernel) (Nat.le_of_ble_eq_true rfl) ?_
  intro p e s m args below meth c A ls hf hr hlocks hnm hno hK hA hAz hw hl hst
  have hf : CallFix p m c cX4_piece 3 s args lw_all "SilkRowModel" := hf
  have hnm : meth.name = "piece" := hnm
  have hx := hf.1
  have hb := hf.2.1
  have hts := hf.2.2.2.2
  have hl : lv_has ls 3 [(0, .int (nI k)), (1, .int (nI sz)), (2, .int (nI a))] := hl
  have hw : Wd D A s.heap s.heap [] [] := hw
  have hk3 : k = 0 ∨ k = 1 ∨ k = 2 := by omega
  rcases hk3 with rfl | rfl | rfl
  · have hl : lv_has ls 3 [(0, .int 0), (1, .int (nI sz)), (2, .int (nI a))] := hl
    refine lv_iload_n hx hb dX4_piece_0 rfl (lv_at hl 0 rfl) ?_
    refine lv_iconst (v := 2) hx hb dX4_piece_1 (by decide) ?_
    refine lv_icmp_ne (tgt := 16) hx hb dX4_piece_2 (by decide) (fun _ => ?_) (fun c9 => absurd c9 (by decide))
    refine lv_iload_n hx hb dX4_piece_16 rfl (lv_at hl 0 rfl) ?_
    refine lv_iconst (v := 1) hx hb dX4_piece_17 (by decide) ?_
    refine lv_icmp_ne (tgt := 32) hx hb dX4_piece_18 (by decide) (fun _ => ?_) (fun c9 => absurd c9 (by decide))
    refine lv_iload_n hx hb dX4_piece_32 rfl (lv_at hl 2 rfl) ?_
    refine lv_iconst (v := 5) hx hb dX4_piece_33 (by decide) ?_
    refine lv_icmp_ge (tgt := 51) hx hb dX4_piece_34 (by decide) (fun c_34 => ?_) (fun c_34 => ?_)
    · refine lv_iconst (v := 0) hx hb dX4_piece_51 (by decide) ?_
      exact xr_iret hf hr hlocks hw (Nat.le_of_ble_eq_true rfl) (Nat.le_of_ble_eq_true rfl) ⟨congrArg (fun z => some (Value.int z)) (pc0_ge ha c_34), rfl⟩ dX4_piece_52
    · refine lv_iconst (v := 1) hx hb dX4_piece_37 (by decide) ?_
      refine lv_iload_n hx hb dX4_piece_38 rfl (lv_at hl 1 rfl) ?_
      refine xr_gets hf hAz hK.2.2.2.2.2.2.1.1 hw q1493 (fun _ h => h) dX4_piece_39 ?_
      refine lv_iload_n hx hb dX4_piece_42 rfl (lv_at hl 2 rfl) ?_
      refine xr_sld (v := .int (ofGood a)) hf hAz hK.2.2.2.2.2.2.1.2 hw (a5_in ha c_34) (by rw [nI_clamp (by omega)]) dX4_piece_43 ?_
      refine lv_iadd hx hb dX4_piece_44 ?_
      refine va_mmax hx hb (by rw [hf.2.2.1]; exact hl.1.symm) hf.2.2.2.1 (hts _ q1495) (hts _ q152) (hts _ q50) (hts _ q153) (Nat.le_of_ble_eq_true rfl) (Nat.le_of_ble_eq_true rfl) (Nat.le_of_ble_eq_true rfl) (Nat.le_of_ble_eq_true rfl) dX4_piece_45 ?_
      refine lv_as (y := imax 1 ((nI sz) + (ofGood a))) rfl ?_
      refine lv_goto (tgt := 52) hx hb dX4_piece_48 (by decide) ?_
      exact xr_iret hf hr hlocks hw (Nat.le_of_ble_eq_true rfl) (Nat.le_of_ble_eq_true rfl) ⟨congrArg (fun z => some (Value.int z)) (pc0_lt ha h2 h6 c_34), rfl⟩ dX4_piece_52
  · have hl : lv_has ls 3 [(0, .int 1), (1, .int (nI sz)), (2, .int (nI a))] := hl
    refine lv_iload_n hx hb dX4_piece_0 rfl (lv_at hl 0 rfl) ?_
    refine lv_iconst (v := 2) hx hb dX4_piece_1 (by decide) ?_
    refine lv_icmp_ne (tgt := 16) hx hb dX4_piece_2 (by decide) (fun _ => ?_) (fun c9 => absurd c9 (by decide))
    refine lv_iload_n hx hb dX4_piece_16 rfl (lv_at hl 0 rfl) ?_
    refine lv_iconst (v := 1) hx hb dX4_piece_17 (by decide) ?_
    refine lv_icmp_ne (tgt := 32) hx hb dX4_piece_18 (by decide) (fun c9 => absurd c9 (by decide)) (fun _ => ?_)
    refine lv_iload_n hx hb dX4_piece_21 rfl (lv_at hl 2 rfl) ?_
    refine lv_iconst (v := 4) hx hb dX4_piece_22 (by decide) ?_
    refine lv_icmp_ge (tgt := 30) hx hb dX4_piece_23 (by decide) (fun c_23 => ?_) (fun c_23 => ?_)
    · refine lv_iconst (v := 0) hx hb dX4_piece_30 (by decide) ?_
      exact xr_iret hf hr hlocks hw (Nat.le_of_ble_eq_true rfl) (Nat.le_of_ble_eq_true rfl) ⟨congrArg (fun z => some (Value.int z)) (pc1_ge ha c_23), rfl⟩ dX4_piece_31
    · refine lv_iload_n hx hb dX4_piece_26 rfl (lv_at hl 1 rfl) ?_
      refine lv_goto (tgt := 31) hx hb dX4_piece_27 (by decide) ?_
      exact xr_iret hf hr hlocks hw (Nat.le_of_ble_eq_true rfl) (Nat.le_of_ble_eq_true rfl) ⟨congrArg (fun z => some (Value.int z)) (pc1_lt ha c_23), rfl⟩ dX4_piece_31
  · have hl : lv_has ls 3 [(0, .int 2), (1, .int (nI sz)), (2, .int (nI a))] := hl
    refine lv_iload_n hx hb dX4_piece_0 rfl (lv_at hl 0 rfl) ?_
    refine lv_iconst (v := 2) hx hb dX4_piece_1 (by decide) ?_
    refine lv_icmp_ne (tgt := 16) hx hb dX4_piece_2 (by decide) (fun c9 => absurd c9 (by decide)) (fun _ => ?_)
    refine lv_iload_n hx hb dX4_piece_5 rfl (lv_at hl 2 rfl) ?_
    refine lv_iconst (v := 3) hx hb dX4_piece_6 (by decide) ?_
    refine lv_icmp_ge (tgt := 14) hx hb dX4_piece_7 (by decide) (fun c_7 => ?_) (fun c_7 => ?_)
    · refine lv_iconst (v := 0) hx hb dX4_piece_14 (by decide) ?_
      exact xr_iret hf hr hlocks hw (Nat.le_of_ble_eq_true rfl) (Nat.le_of_ble_eq_true rfl) ⟨congrArg (fun z => some (Value.int z)) (pc2_ge ha c_7), rfl⟩ dX4_piece_15
    · refine lv_iconst (v := 1) hx hb dX4_piece_10 (by decide) ?_
      refine lv_goto (tgt := 15) hx hb dX4_piece_11 (by decide) ?_
      exact xr_iret hf hr hlocks hw (Nat.le_of_ble_eq_true rfl) (Nat.le_of_ble_eq_true rfl) ⟨congrArg (fun z => some (Value.int z)) (pc2_lt ha c_7), rfl⟩ dX4_piece_15

set_option maxHeartbeats 4000000 in
theorem k_X5_next (l : Launch) (D : va_G) (dT g : Nat → Nat) (z0 : Nat) (q : Nat) (k : Nat) (sz : Nat) (ln : Nat) (a : Nat) (hk : k ≤ 2) (h2 : 2 ≤ sz) (h6 : sz ≤ 6) (ha : a < 6) : Con l D dT g z0 yX5_next (ws_ yX5_next cX5_next 1 (some .int)) ({ frames := 2, cells := 0, slots := 0, locals := 62 }) [.ref q] [[(q, aI dT [(nI k), (nI sz), (nI ln), (nI a)])]] (fun r LL => r = some (.int (nI ((pcs k sz).getD a 0))) ∧ LL = [[(q, aI dT [(nI k), (nI sz), (nI ln), (nI a)])]]) noX 0 0 := by
  refine Con.of (maxL := 1) (ret := (some .int)) (by first | exact plainFor_of_name (by decide) | decide +kernel) (Nat.le_of_ble_eq_true rfl) ?_
  intro p e s m args below meth c A ls hf hr hlocks hnm hno hK hA hAz hw hl hst
  have hf : CallFix p m c cX5_next 1 s args lw_all "SilkRowModel$Basin" := hf
  have hnm : meth.name = "next" := hnm
  have hx := hf.1
  have hb := hf.2.1
  have hts := hf.2.2.2.2
  have hl : lv_has ls 1 [(0, .ref q)] := hl
  have hw : Wd D A s.heap s.heap [] [[(q, aI dT [(nI k), (nI sz), (nI ln), (nI a)])]] := hw
  refine lv_aload_n hx hb dX5_next_0 rfl (lv_at hl 0 rfl) ?_
  refine lv_iconst (v := 0) hx hb dX5_next_1 (by decide) ?_
  refine xr_iald hf hK hw 0 0 rfl 0 (by decide) (by decide) (Nat.le_of_ble_eq_true rfl) rfl dX5_next_2 ?_
  refine lv_aload_n hx hb dX5_next_3 rfl (lv_at hl 0 rfl) ?_
  refine lv_iconst (v := 1) hx hb dX5_next_4 (by decide) ?_
  refine xr_iald hf hK hw 0 0 rfl 1 (by decide) (by decide) (Nat.le_of_ble_eq_true rfl) rfl dX5_next_5 ?_
  refine lv_aload_n hx hb dX5_next_6 rfl (lv_at hl 0 rfl) ?_
  refine lv_iconst (v := 3) hx hb dX5_next_7 (by decide) ?_
  refine xr_iald hf hK hw 0 0 rfl 3 (by decide) (by decide) (Nat.le_of_ble_eq_true rfl) rfl dX5_next_8 ?_
  refine xc_SN (rest := []) (As := [.int (nI k), .int (nI sz), .int (nI a)]) hf hK hA hAz hst (hw.pick [] rfl rfl rfl) (k_X4_piece l D dT g z0 k sz a hk h2 h6 ha) ⟨va_cnB 3 hts (lw_meth q1492) rfl rfl rfl (hK.nw q1490 rfl) (hts _ q54) (by decide +kernel) ⟨Nat.le_of_ble_eq_true rfl, Nat.le_of_ble_eq_true rfl⟩, hts _ q1491⟩ rfl hl.1 rfl (Nat.le_of_ble_eq_true rfl) dX5_next_9 ⟨(Nat.le_of_ble_eq_true rfl), (Nat.le_of_ble_eq_true rfl)⟩ (fun _ _ _ _ _ _ h => h.elim) (fun v9 LL1 H locs hp hw => ?_)
  obtain ⟨rfl, rfl⟩ := hp
  have hw : Wd D A s.heap _ _ [[(q, aI dT [(nI k), (nI sz), (nI ln), (nI a)])]] := hw
  refine W.eq (g2 := F0 m 12 ls [.int (nI ((pcs k sz).getD a 0))]) rfl ?_
  exact xr_iret hf hr hlocks hw (Nat.le_of_ble_eq_true rfl) (Nat.le_of_ble_eq_true rfl) ⟨rfl, rfl⟩ dX5_next_12

set_option maxHeartbeats 4000000 in
theorem wl_ms {p : Program} {l : Launch} {e : Env} {s : State} {m : MethodId} {args : Array Value} {below : List Frame} {meth : Method} {c : Code} {A : Nat → Prop} {Q : State → Prop} {D : va_G} {dT g : Nat → Nat} {z0 mc ms : Nat} (hf : CallFix p m c cX5_sum 3 s args lw_all "SilkRowModel$Basin") (hK : KK D dT g z0 s s.heap) (hA : ∀ q, s.heap.size ≤ q → A q) (hAz : ∀ q, A q → zA z0 q) (hst : l.stackTraces = false) {b fa d cap kc ks RES : Nat} {u : Int32} {mf : MfT} (hc : (ads mf).length ≤ cap) (hC : cap < 4096) (hfi : ∀ q ∈ mf, okF q.2) (hmc : kc ≤ mc) (hms : ks ≤ ms) (K38 : ∀ (a1 : Nat) (ls : Array Slot) (H : Heap) (locs : List Loc), a1 = RES → lv_has ls 3 [(1, .int (nI a1))] → Wd D A s.heap H locs [[ob b 4 [.ref fa]], [ob fa 15 [.int u, .ref d, .int (nI (ads mf).length)], (d, aR dT 1 cap (fun i => (ads mf)[i]?))], (mf.flatMap (mfE dT))] → W p l e ({ frames := 7, cells := mc, slots := ms, locals := 200 }) s m args below meth c H locs kc ks Q (F0 m 38 ls [])) : ∀ (rem dn : MfT) (a1 : Nat) (ls : Array Slot) (H : Heap) (locs : List Loc), mf = dn ++ rem → a1 + sumF (valm rem) = RES → lv_has ls 3 [(2, .int (nI dn.length)), (1, .int (nI a1)), (0, .ref b)] → Wd D A s.heap H locs [[ob b 4 [.ref fa]], [ob fa 15 [.int u, .ref d, .int (nI (ads mf).length)], (d, aR dT 1 cap (fun i => (ads mf)[i]?))], (mf.flatMap (mfE dT))] → W p l e ({ frames := 7, cells := mc, slots := ms, locals := 200 }) s m args below meth c H locs kc ks Q (F0 m 4 ls []) := by
  have hx := hf.1
  have hb := hf.2.1
  have hts := hf.2.2.2.2
  intro rem
  induction rem with
  | nil =>
    intro dn a1 ls H locs hmf hRES hl hw
    have hN : (ads mf).length = dn.length := by rw [hmf, ads_len, List.append_nil]
    have hw : Wd D A s.heap _ _ [[ob b 4 [.ref fa]], [ob fa 15 [.int u, .ref d, .int (nI (ads mf).length)], (d, aR dT 1 cap (fun i => (ads mf)[i]?))], (mf.flatMap (mfE dT))] := hw
    refine lv_iload_n hx hb dX5_sum_4 rfl (lv_at hl 0 rfl) ?_
    refine lv_aload_n hx hb dX5_sum_5 rfl (lv_at hl 2 rfl) ?_
    refine xr_get hf hK hw 0 0 rfl rfl in_X5 0 (by decide) q1107 (fun _ h => h) rfl dX5_sum_6 ?_
    refine xc_V (rest := [.int (nI dn.length)]) (As := []) hf hK hA hAz hst (hw.pick [1] rfl rfl rfl) (k_J2_size l D dT g z0 fa u (nI (ads mf).length) (.ref d) ((d, aR dT 1 cap (fun i => (ads mf)[i]?)) :: [])) (cwV 0 hts (lw_V q1484 q359 q360 q47 q361) rfl rfl rfl (by decide +kernel) ⟨Nat.le_of_ble_eq_true rfl, Nat.le_of_ble_eq_true rfl⟩) (xr_rv hK hw 1 0 rfl rfl) rfl hl.1 rfl (Nat.le_of_ble_eq_true rfl) dX5_sum_9 ⟨(by first | omega | (dsimp only; omega)), (by first | omega | (dsimp only; omega))⟩ (fun _ _ _ _ _ _ h => h.elim) (fun v9 LL1 H locs hp hw => ?_)
    obtain ⟨rfl, rfl⟩ := hp
    have hw : Wd D A s.heap _ _ [[ob fa 15 [.int u, .ref d, .int (nI (ads mf).length)], (d, aR dT 1 cap (fun i => (ads mf)[i]?))], [ob b 4 [.ref fa]], (mf.flatMap (mfE dT))] := hw
    refine W.eq (g2 := F0 m 12 ls [.int (nI (ads mf).length), .int (nI dn.length)]) rfl ?_
    refine lv_icmp_ge (tgt := 38) hx hb dX5_sum_12 (by decide) (fun _ => ?_) (fun c9 => absurd c9 (not_not_intro (nI_le (by omega) (by omega))))
    have hw : Wd D A s.heap _ _ [[ob b 4 [.ref fa]], [ob fa 15 [.int u, .ref d, .int (nI (ads mf).length)], (d, aR dT 1 cap (fun i => (ads mf)[i]?))], (mf.flatMap (mfE dT))] := Wd.take hw [1, 0, 0] rfl rfl
    have hl9 := lv_sub hl [1] rfl
    exact K38 a1 _ _ _ (by rw [← hRES]; rfl) hl9 hw
  | cons q rem ih =>
    intro dn a1 ls H locs hmf hRES hl hw
    have hN : (ads mf).length = dn.length + 1 + rem.length := by rw [hmf, ads_len, List.length_append, List.length_cons]; omega
    have hg9 : mf[dn.length]? = some q := by rw [hmf]; exact mid_get
    have hq9 : okF q.2 := hfi q (List.mem_of_getElem? hg9)
    have hk9 : dn.length < 4096 := by omega
    have hc_q := hc
    have hC_q := hC
    have hw : Wd D A s.heap _ _ [[ob b 4 [.ref fa]], [ob fa 15 [.int u, .ref d, .int (nI (ads mf).length)], (d, aR dT 1 cap (fun i => (ads mf)[i]?))], (mf.flatMap (mfE dT))] := hw
    refine lv_iload_n hx hb dX5_sum_4 rfl (lv_at hl 0 rfl) ?_
    refine lv_aload_n hx hb dX5_sum_5 rfl (lv_at hl 2 rfl) ?_
    refine xr_get hf hK hw 0 0 rfl rfl in_X5 0 (by decide) q1107 (fun _ h => h) rfl dX5_sum_6 ?_
    refine xc_V (rest := [.int (nI dn.length)]) (As := []) hf hK hA hAz hst (hw.pick [1] rfl rfl rfl) (k_J2_size l D dT g z0 fa u (nI (ads mf).length) (.ref d) ((d, aR dT 1 cap (fun i => (ads mf)[i]?)) :: [])) (cwV 0 hts (lw_V q1484 q359 q360 q47 q361) rfl rfl rfl (by decide +kernel) ⟨Nat.le_of_ble_eq_true rfl, Nat.le_of_ble_eq_true rfl⟩) (xr_rv hK hw 1 0 rfl rfl) rfl hl.1 rfl (Nat.le_of_ble_eq_true rfl) dX5_sum_9 ⟨(by first | omega | (dsimp only; omega)), (by first | omega | (dsimp only; omega))⟩ (fun _ _ _ _ _ _ h => h.elim) (fun v9 LL1 H locs hp hw => ?_)
    obtain ⟨rfl, rfl⟩ := hp
    have hw : Wd D A s.heap _ _ [[ob fa 15 [.int u, .ref d, .int (nI (ads mf).length)], (d, aR dT 1 cap (fun i => (ads mf)[i]?))], [ob b 4 [.ref fa]], (mf.flatMap (mfE dT))] := hw
    refine W.eq (g2 := F0 m 12 ls [.int (nI (ads mf).length), .int (nI dn.length)]) rfl ?_
    refine lv_icmp_ge (tgt := 38) hx hb dX5_sum_12 (by decide) (fun c9 => absurd c9 (nI_ge (by omega) (by omega))) (fun _ => ?_)
    refine lv_iload_n hx hb dX5_sum_15 rfl (lv_at hl 1 rfl) ?_
    refine lv_aload_n hx hb dX5_sum_16 rfl (lv_at hl 2 rfl) ?_
    refine xr_get hf hK hw 1 0 rfl rfl in_X5 0 (by decide) q1107 (fun _ h => h) rfl dX5_sum_17 ?_
    refine lv_iload_n hx hb dX5_sum_20 rfl (lv_at hl 0 rfl) ?_
    refine lv_as (y := nI dn.length) rfl ?_
    refine xc_V (rest := [.int (nI a1)]) (As := [.int (nI dn.length)]) hf hK hA hAz hst (hw.pick [0] rfl rfl rfl) (k_J2_get l D dT g z0 fa d cap u (ads mf) dn.length q.1 hc_q hC_q (ads_lt hg9) (ads_some hg9)) (cwV 1 hts (lw_V q1485 q394 q395 q47 q396) rfl rfl rfl (by decide +kernel) ⟨Nat.le_of_ble_eq_true rfl, Nat.le_of_ble_eq_true rfl⟩) (xr_rv hK hw 0 0 rfl rfl) rfl hl.1 rfl (Nat.le_of_ble_eq_true rfl) dX5_sum_21 ⟨(by first | omega | (dsimp only; omega)), (by first | omega | (dsimp only; omega))⟩ (fun _ _ _ _ _ _ h => h.elim) (fun v9 LL1 H locs hp hw => ?_)
    obtain ⟨rfl, rfl⟩ := hp
    have hw : Wd D A s.heap _ _ [[ob fa 15 [.int u, .ref d, .int (nI (ads mf).length)], (d, aR dT 1 cap (fun i => (ads mf)[i]?))], [ob b 4 [.ref fa]], (mf.flatMap (mfE dT))] := hw
    refine W.eq (g2 := F0 m 24 ls [.ref q.1, .int (nI a1)]) rfl ?_
    have hw : Wd D A s.heap _ _ [(mf.flatMap (mfE dT)), [ob fa 15 [.int u, .ref d, .int (nI (ads mf).length)], (d, aR dT 1 cap (fun i => (ads mf)[i]?))], [ob b 4 [.ref fa]]] := hw.pick [2] rfl rfl rfl
    have hw : Wd D A s.heap _ _ [[(q.1, aI dT [(nI q.2.2.2.2), (nI q.2.2.2.1), (nI q.2.1), (nI q.2.2.1)])], ((mf.eraseIdx dn.length).flatMap (mfE dT)), [ob fa 15 [.int u, .ref d, .int (nI (ads mf).length)], (d, aR dT 1 cap (fun i => (ads mf)[i]?))], [ob b 4 [.ref fa]]] := hw.foc hg9
    refine xr_castI (n := 0) hf hK hw 0 0 rfl q1486 dX5_sum_24 ?_
    refine xc_S (rest := [.int (nI a1)]) (As := [.ref q.1]) hf hK hA hAz hst (hw.pick [0] rfl rfl rfl) (k_X5_next l D dT g z0 q.1 q.2.2.2.2 q.2.2.2.1 q.2.1 q.2.2.1 hq9.2.2.2.2 hq9.2.2.1 hq9.2.2.2.1 (by have := hq9.2.1; have := @pcs_len q.2.2.2.2 q.2.2.2.1; omega)) (va_cwS 1 hts (lw_S q1487 q1488 q55 q1489) rfl rfl rfl (by decide +kernel) ⟨Nat.le_of_ble_eq_true rfl, Nat.le_of_ble_eq_true rfl⟩) rfl hl.1 rfl (Nat.le_of_ble_eq_true rfl) dX5_sum_27 ⟨(by first | omega | (dsimp only; omega)), (by first | omega | (dsimp only; omega))⟩ (fun _ _ _ _ _ _ h => h.elim) (fun v9 LL1 H locs hp hw => ?_)
    obtain ⟨rfl, rfl⟩ := hp
    have hw : Wd D A s.heap _ _ [[(q.1, aI dT [(nI q.2.2.2.2), (nI q.2.2.2.1), (nI q.2.1), (nI q.2.2.1)])], ((mf.eraseIdx dn.length).flatMap (mfE dT)), [ob fa 15 [.int u, .ref d, .int (nI (ads mf).length)], (d, aR dT 1 cap (fun i => (ads mf)[i]?))], [ob b 4 [.ref fa]]] := hw
    refine W.eq (g2 := F0 m 30 ls [.int (nI ((pcs q.2.2.2.2 q.2.2.2.1).getD q.2.2.1 0)), .int (nI a1)]) rfl ?_
    refine lv_iadd hx hb dX5_sum_30 ?_
    refine lv_as (y := (nI (a1 + pcv q.2))) (by rw [nI_add]; rfl) ?_
    refine lv_istore_n (lv' := [(1, .int (nI (a1 + pcv q.2))), (2, .int (nI dn.length)), (0, .ref b)]) hx hb dX5_sum_31 rfl hl (by decide) rfl (fun ls hl => ?_)
    refine lv_iinc (v := (nI (dn.length + 1))) (lv' := [(2, .int (nI (dn.length + 1))), (1, .int (nI (a1 + pcv q.2))), (0, .ref b)]) hx hb dX5_sum_32 hl (k := 1) rfl (nI_1 _) (by decide) rfl (fun ls hl => ?_)
    refine lv_goto (tgt := 4) hx hb dX5_sum_35 (by decide) ?_
    have hw : Wd D A s.heap _ _ [(mf.flatMap (mfE dT)), [ob fa 15 [.int u, .ref d, .int (nI (ads mf).length)], (d, aR dT 1 cap (fun i => (ads mf)[i]?))], [ob b 4 [.ref fa]]] := Wd.unf0 (q := q) (L := mf) (k := dn.length) hw hg9
    have hw : Wd D A s.heap _ _ [[ob b 4 [.ref fa]], [ob fa 15 [.int u, .ref d, .int (nI (ads mf).length)], (d, aR dT 1 cap (fun i => (ads mf)[i]?))], (mf.flatMap (mfE dT))] := Wd.take hw [2, 1, 0] rfl rfl
    have hL9 : dn.length + 1 = (dn ++ [q]).length := by simp
    have hl9 := lv_sub hl [0, 1, 2] rfl
    rw [hL9] at hl9
    exact ih (dn ++ [q]) _ _ _ _ (by rw [hmf, List.append_assoc]; rfl) (by rw [← hRES, Nat.add_assoc]; rfl) hl9 hw
set_option maxHeartbeats 4000000 in
theorem k_X5_sum (l : Launch) (D : va_G) (dT g : Nat → Nat) (z0 : Nat) (b : Nat) (fa : Nat) (u : Int32) (st : Option (Nat × Nat)) (mf : MfT) (hok : alOK st (ads mf)) (hfi : ∀ q ∈ mf, okF q.2) : Con l D dT g z0 yX5_sum (ws_ yX5_sum cX5_sum 3 (some .int)) ({ frames := 7, cells := 0, slots := 0, locals := 200 }) [.ref b] [[ob b 4 [.ref fa]], ((ob fa 15 [.int u, .ref (al_d g st), .int (nI (ads mf).length)]) :: (al_t dT st (ads mf))), (mf.flatMap (mfE dT))] (fun r LL => r = some (.int (nI (sumF (valm mf)))) ∧ LL = [[ob b 4 [.ref fa]], ((ob fa 15 [.int u, .ref (al_d g st), .int (nI (ads mf).length)]) :: (al_t dT st (ads mf))), (mf.flatMap (mfE dT))]) noX 0 0 := by
  refine Con.of (maxL := 3) (ret := (some .int)) (by first | exact plainFor_of_name (by decide) | decide +kernel) (Nat.le_of_ble_eq_true rfl) ?_
  intro p e s m args below meth c A ls hf hr hlocks hnm hno hK hA hAz hw hl hst
  have hf : CallFix p m c cX5_sum 3 s args lw_all "SilkRowModel$Basin" := hf
  have hnm : meth.name = "sum" := hnm
  have hx := hf.1
  have hb := hf.2.1
  have hts := hf.2.2.2.2
  have hl : lv_has ls 3 [(0, .ref b)] := hl
  have hw : Wd D A s.heap s.heap [] [[ob b 4 [.ref fa]], ((ob fa 15 [.int u, .ref (al_d g st), .int (nI (ads mf).length)]) :: (al_t dT st (ads mf))), (mf.flatMap (mfE dT))] := hw
  refine lv_iconst (v := 0) hx hb dX5_sum_0 (by decide) ?_
  refine lv_istore_n (lv' := [(1, .int 0), (0, .ref b)]) hx hb dX5_sum_1 rfl hl (by decide) rfl (fun ls hl => ?_)
  refine lv_iconst (v := 0) hx hb dX5_sum_2 (by decide) ?_
  refine lv_istore_n (lv' := [(2, .int 0), (1, .int 0), (0, .ref b)]) hx hb dX5_sum_3 rfl hl (by decide) rfl (fun ls hl => ?_)
  have hw : Wd D A s.heap _ _ [[ob b 4 [.ref fa]], ((ob fa 15 [.int u, .ref (al_d g st), .int (nI (ads mf).length)]) :: (al_t dT st (ads mf))), (mf.flatMap (mfE dT))] := Wd.take hw [0, 0, 0] rfl rfl
  have hl9 := lv_sub hl [0, 1, 2] rfl
  rcases st with _ | ⟨d, cap⟩
  · have hm0 : mf = [] := List.map_eq_nil_iff.mp (show ads mf = [] from hok)
    subst hm0
    have hw : Wd D A s.heap _ _ [[ob b 4 [.ref fa]], [ob fa 15 [.int u, .ref (g 0), .int 0]], (([] : MfT).flatMap (mfE dT))] := hw
    have hl : lv_has ls 3 [(2, .int 0), (1, .int 0), (0, .ref b)] := hl9
    refine lv_iload_n hx hb dX5_sum_4 rfl (lv_at hl 0 rfl) ?_
    refine lv_aload_n hx hb dX5_sum_5 rfl (lv_at hl 2 rfl) ?_
    refine xr_get hf hK hw 0 0 rfl rfl in_X5 0 (by decide) q1107 (fun _ h => h) rfl dX5_sum_6 ?_
    refine xc_V (rest := [.int 0]) (As := []) hf hK hA hAz hst (hw.pick [1] rfl rfl rfl) (k_J2_size l D dT g z0 fa u 0 (.ref (g 0)) ([])) (cwV 0 hts (lw_V q1484 q359 q360 q47 q361) rfl rfl rfl (by decide +kernel) ⟨Nat.le_of_ble_eq_true rfl, Nat.le_of_ble_eq_true rfl⟩) (xr_rv hK hw 1 0 rfl rfl) rfl hl.1 rfl (Nat.le_of_ble_eq_true rfl) dX5_sum_9 ⟨(Nat.le_of_ble_eq_true rfl), (Nat.le_of_ble_eq_true rfl)⟩ (fun _ _ _ _ _ _ h => h.elim) (fun v9 LL1 H locs hp hw => ?_)
    obtain ⟨rfl, rfl⟩ := hp
    have hw : Wd D A s.heap _ _ [[ob fa 15 [.int u, .ref (g 0), .int 0]], [ob b 4 [.ref fa]], (([] : MfT).flatMap (mfE dT))] := hw
    refine W.eq (g2 := F0 m 12 ls [.int 0, .int 0]) rfl ?_
    refine lv_icmp_ge (tgt := 38) hx hb dX5_sum_12 (by decide) (fun _ => ?_) (fun c9 => absurd c9 (by decide))
    refine lv_iload_n hx hb dX5_sum_38 rfl (lv_at hl 1 rfl) ?_
    have hw : Wd D A s.heap _ _ [[ob b 4 [.ref fa]], [ob fa 15 [.int u, .ref (g 0), .int 0]], (([] : MfT).flatMap (mfE dT))] := Wd.take hw [1, 0, 0] rfl rfl
    exact xr_iret hf hr hlocks hw (Nat.le_of_ble_eq_true rfl) (Nat.le_of_ble_eq_true rfl) ⟨rfl, rfl⟩ dX5_sum_39
  · have hw : Wd D A s.heap _ _ [[ob b 4 [.ref fa]], [ob fa 15 [.int u, .ref d, .int (nI (ads mf).length)], (d, aR dT 1 cap (fun i => (ads mf)[i]?))], (mf.flatMap (mfE dT))] := hw
    refine wl_ms (RES := sumF (valm mf)) hf hK hA hAz hst hok.1 hok.2.2 hfi (Nat.le_refl _) (Nat.le_refl _) ?_ mf [] 0 _ _ _ rfl (Nat.zero_add _) hl9 hw
    intro a1 ls H locs ha1 hl hw
    have hw : Wd D A s.heap _ _ [[ob b 4 [.ref fa]], [ob fa 15 [.int u, .ref d, .int (nI (ads mf).length)], (d, aR dT 1 cap (fun i => (ads mf)[i]?))], (mf.flatMap (mfE dT))] := hw
    refine lv_iload_n hx hb dX5_sum_38 rfl (lv_at hl 0 rfl) ?_
    exact xr_iret hf hr hlocks hw (Nat.le_of_ble_eq_true rfl) (Nat.le_of_ble_eq_true rfl) ⟨by rw [ha1], rfl⟩ dX5_sum_39

set_option maxHeartbeats 4000000 in
theorem k_X5_join_none (l : Launch) (D : va_G) (dT g : Nat → Nat) (z0 : Nat) (b : Nat) (fa : Nat) (u : Int32) (st : Option (Nat × Nat)) (mf : MfT) (h0 : Nat) (h1 : Nat) (h2 : Nat) (ln : Nat) (sz : Nat) (x2 : Int32) (x9 : Int32) (x10 : Int32) (x3 : Int32) (x4 : Int32) (x5 : Int32) (lf : Lf) (hok : alOK st (ads mf)) (hlf : lfN lf < 2 ^ 20) (hk : lf.1 = 0 ∧ lf.2.1 = 0 ∧ lf.2.2 = 0) : Con l D dT g z0 yX5_join (ws_ yX5_join cX5_join 4 (some .boolean)) ({ frames := 1, cells := 0, slots := 0, locals := 40 }) [.ref b, .ref h0, .ref h2] [[ob b 4 [.ref fa]], ((ob fa 15 [.int u, .ref (al_d g st), .int (nI (ads mf).length)]) :: (al_t dT st (ads mf))), (mf.flatMap (mfE dT)), [ob h0 10 [.int (nI ln), .int (nI sz), .int x2, .ref h1, .ref h2, .int x9, .int x10], (h1, aI dT [x3, x4, x5]), (h2, aI dT [(nI lf.1), (nI lf.2.1), (nI lf.2.2)])]] (fun r LL => r = some (.int 0) ∧ LL = [[ob b 4 [.ref fa]], ((ob fa 15 [.int u, .ref (al_d g st), .int (nI (ads mf).length)]) :: (al_t dT st (ads mf))), (mf.flatMap (mfE dT)), [ob h0 10 [.int (nI ln), .int (nI sz), .int x2, .ref h1, .ref h2, .int x9, .int x10], (h1, aI dT [x3, x4, x5]), (h2, aI dT [(nI lf.1), (nI lf.2.1), (nI lf.2.2)])]]) noX 0 0 := by
  refine Con.of (maxL := 4) (ret := (some .boolean)) (by first | exact plainFor_of_name (by decide) | decide +kernel) (Nat.le_of_ble_eq_true rfl) ?_
  intro p e s m args below meth c A ls hf hr hlocks hnm hno hK hA hAz hw hl hst
  have hf : CallFix p m c cX5_join 4 s args lw_all "SilkRowModel$Basin" := hf
  have hnm : meth.name = "join" := hnm
  have hx := hf.1
  have hb := hf.2.1
  have hts := hf.2.2.2.2
  have hl : lv_has ls 4 [(0, .ref b), (1, .ref h0), (2, .ref h2)] := hl
  have hw : Wd D A s.heap s.heap [] [[ob b 4 [.ref fa]], ((ob fa 15 [.int u, .ref (al_d g st), .int (nI (ads mf).length)]) :: (al_t dT st (ads mf))), (mf.flatMap (mfE dT)), [ob h0 10 [.int (nI ln), .int (nI sz), .int x2, .ref h1, .ref h2, .int x9, .int x10], (h1, aI dT [x3, x4, x5]), (h2, aI dT [(nI lf.1), (nI lf.2.1), (nI lf.2.2)])]] := hw
  refine lv_iconst (v := 0) hx hb dX5_join_0 (by decide) ?_
  refine lv_istore_n (lv' := [(3, .int 0), (0, .ref b), (1, .ref h0), (2, .ref h2)]) hx hb dX5_join_1 rfl hl (by decide) rfl (fun ls hl => ?_)
  refine lv_iload_n hx hb dX5_join_2 rfl (lv_at hl 0 rfl) ?_
  refine lv_iconst (v := 2) hx hb dX5_join_3 (by decide) ?_
  refine lv_icmp_gt (tgt := 64) hx hb dX5_join_4 (by decide) (fun c9 => absurd c9 (by decide)) (fun _ => ?_)
  refine lv_aload_n hx hb dX5_join_7 rfl (lv_at hl 3 rfl) ?_
  refine lv_iload_n hx hb dX5_join_8 rfl (lv_at hl 0 rfl) ?_
  refine xr_iald hf hK hw 3 2 rfl 0 (by decide) (by decide) (Nat.le_of_ble_eq_true rfl) rfl dX5_join_9 ?_
  refine lv_if_ne (tgt := 16) hx hb dX5_join_10 (by decide) (fun c9 => absurd c9 (not_not_intro (by rw [hk.1]; rfl))) (fun _ => ?_)
  refine lv_goto (tgt := 58) hx hb dX5_join_13 (by decide) ?_
  refine lv_iinc (v := 1) (lv' := [(3, .int 1), (0, .ref b), (1, .ref h0), (2, .ref h2)]) hx hb dX5_join_58 hl (k := 0) rfl (by decide) (by decide) rfl (fun ls hl => ?_)
  refine lv_goto (tgt := 2) hx hb dX5_join_61 (by decide) ?_
  refine lv_iload_n hx hb dX5_join_2 rfl (lv_at hl 0 rfl) ?_
  refine lv_iconst (v := 2) hx hb dX5_join_3 (by decide) ?_
  refine lv_icmp_gt (tgt := 64) hx hb dX5_join_4 (by decide) (fun c9 => absurd c9 (by decide)) (fun _ => ?_)
  refine lv_aload_n hx hb dX5_join_7 rfl (lv_at hl 3 rfl) ?_
  refine lv_iload_n hx hb dX5_join_8 rfl (lv_at hl 0 rfl) ?_
  refine xr_iald hf hK hw 3 2 rfl 1 (by decide) (by decide) (Nat.le_of_ble_eq_true rfl) rfl dX5_join_9 ?_
  refine lv_if_ne (tgt := 16) hx hb dX5_join_10 (by decide) (fun c9 => absurd c9 (not_not_intro (by rw [hk.2.1]; rfl))) (fun _ => ?_)
  refine lv_goto (tgt := 58) hx hb dX5_join_13 (by decide) ?_
  refine lv_iinc (v := 2) (lv' := [(3, .int 2), (0, .ref b), (1, .ref h0), (2, .ref h2)]) hx hb dX5_join_58 hl (k := 0) rfl (by decide) (by decide) rfl (fun ls hl => ?_)
  refine lv_goto (tgt := 2) hx hb dX5_join_61 (by decide) ?_
  refine lv_iload_n hx hb dX5_join_2 rfl (lv_at hl 0 rfl) ?_
  refine lv_iconst (v := 2) hx hb dX5_join_3 (by decide) ?_
  refine lv_icmp_gt (tgt := 64) hx hb dX5_join_4 (by decide) (fun c9 => absurd c9 (by decide)) (fun _ => ?_)
  refine lv_aload_n hx hb dX5_join_7 rfl (lv_at hl 3 rfl) ?_
  refine lv_iload_n hx hb dX5_join_8 rfl (lv_at hl 0 rfl) ?_
  refine xr_iald hf hK hw 3 2 rfl 2 (by decide) (by decide) (Nat.le_of_ble_eq_true rfl) rfl dX5_join_9 ?_
  refine lv_if_ne (tgt := 16) hx hb dX5_join_10 (by decide) (fun c9 => absurd c9 (not_not_intro (by rw [hk.2.2]; rfl))) (fun _ => ?_)
  refine lv_goto (tgt := 58) hx hb dX5_join_13 (by decide) ?_
  refine lv_iinc (v := 3) (lv' := [(3, .int 3), (0, .ref b), (1, .ref h0), (2, .ref h2)]) hx hb dX5_join_58 hl (k := 0) rfl (by decide) (by decide) rfl (fun ls hl => ?_)
  refine lv_goto (tgt := 2) hx hb dX5_join_61 (by decide) ?_
  refine lv_iload_n hx hb dX5_join_2 rfl (lv_at hl 0 rfl) ?_
  refine lv_iconst (v := 2) hx hb dX5_join_3 (by decide) ?_
  refine lv_icmp_gt (tgt := 64) hx hb dX5_join_4 (by decide) (fun _ => ?_) (fun c9 => absurd c9 (by decide))
  refine lv_iconst (v := 0) hx hb dX5_join_64 (by decide) ?_
  exact xr_zret hf hr hlocks hw (Nat.le_of_ble_eq_true rfl) (Nat.le_of_ble_eq_true rfl) rfl ⟨rfl, rfl⟩ dX5_join_65

set_option maxHeartbeats 4000000 in
theorem k_X5_join_k0 (l : Launch) (D : va_G) (dT g : Nat → Nat) (z0 : Nat) (b : Nat) (fa : Nat) (u : Int32) (st : Option (Nat × Nat)) (mf : MfT) (h0 : Nat) (h1 : Nat) (h2 : Nat) (ln : Nat) (sz : Nat) (x2 : Int32) (x9 : Int32) (x10 : Int32) (x3 : Int32) (x4 : Int32) (x5 : Int32) (lf : Lf) (hok : alOK st (ads mf)) (hlf : lfN lf < 2 ^ 20) (hk : 0 < lf.1) : Con l D dT g z0 yX5_join (ws_ yX5_join cX5_join 4 (some .boolean)) ({ frames := 7, cells := 1 + al_gc st (ads mf), slots := 4 + al_gs st (ads mf), locals := 171 }) [.ref b, .ref h0, .ref h2] [[ob b 4 [.ref fa]], ((ob fa 15 [.int u, .ref (al_d g st), .int (nI (ads mf).length)]) :: (al_t dT st (ads mf))), (mf.flatMap (mfE dT)), [ob h0 10 [.int (nI ln), .int (nI sz), .int x2, .ref h1, .ref h2, .int x9, .int x10], (h1, aI dT [x3, x4, x5]), (h2, aI dT [(nI lf.1), (nI lf.2.1), (nI lf.2.2)])]] (fun r LL => ∃ (qa : Nat) (dn : Nat), r = some (.int 1) ∧ LL = [[ob b 4 [.ref fa]], ((ob fa 15 [.int (u + 1), .ref (al_d g (al_n st (ads mf) dn)), .int (nI (ads (mf ++ [(qa, (ln, 0, sz, 0))])).length)]) :: (al_t dT (al_n st (ads mf) dn) (ads (mf ++ [(qa, (ln, 0, sz, 0))])))), ((mf ++ [(qa, (ln, 0, sz, 0))]).flatMap (mfE dT)), [ob h0 10 [.int (nI ln), .int (nI sz), .int x2, .ref h1, .ref h2, .int x9, .int x10], (h1, aI dT [x3, x4, x5]), (h2, aI dT [(nI (lf.1 - 1, lf.2.1, lf.2.2).1), (nI (lf.1 - 1, lf.2.1, lf.2.2).2.1), (nI (lf.1 - 1, lf.2.1, lf.2.2).2.2)])]]) noX (1 + al_gc st (ads mf)) (4 + al_gs st (ads mf)) := by
  refine Con.of (maxL := 4) (ret := (some .boolean)) (by first | exact plainFor_of_name (by decide) | decide +kernel) (Nat.le_of_ble_eq_true rfl) ?_
  intro p e s m args below meth c A ls hf hr hlocks hnm hno hK hA hAz hw hl hst
  have hf : CallFix p m c cX5_join 4 s args lw_all "SilkRowModel$Basin" := hf
  have hnm : meth.name = "join" := hnm
  have hx := hf.1
  have hb := hf.2.1
  have hts := hf.2.2.2.2
  have hl : lv_has ls 4 [(0, .ref b), (1, .ref h0), (2, .ref h2)] := hl
  have hw : Wd D A s.heap s.heap [] [[ob b 4 [.ref fa]], ((ob fa 15 [.int u, .ref (al_d g st), .int (nI (ads mf).length)]) :: (al_t dT st (ads mf))), (mf.flatMap (mfE dT)), [ob h0 10 [.int (nI ln), .int (nI sz), .int x2, .ref h1, .ref h2, .int x9, .int x10], (h1, aI dT [x3, x4, x5]), (h2, aI dT [(nI lf.1), (nI lf.2.1), (nI lf.2.2)])]] := hw
  refine lv_iconst (v := 0) hx hb dX5_join_0 (by decide) ?_
  refine lv_istore_n (lv' := [(3, .int 0), (0, .ref b), (1, .ref h0), (2, .ref h2)]) hx hb dX5_join_1 rfl hl (by decide) rfl (fun ls hl => ?_)
  refine lv_iload_n hx hb dX5_join_2 rfl (lv_at hl 0 rfl) ?_
  refine lv_iconst (v := 2) hx hb dX5_join_3 (by decide) ?_
  refine lv_icmp_gt (tgt := 64) hx hb dX5_join_4 (by decide) (fun c9 => absurd c9 (by decide)) (fun _ => ?_)
  refine lv_aload_n hx hb dX5_join_7 rfl (lv_at hl 3 rfl) ?_
  refine lv_iload_n hx hb dX5_join_8 rfl (lv_at hl 0 rfl) ?_
  refine xr_iald hf hK hw 3 2 rfl 0 (by decide) (by decide) (Nat.le_of_ble_eq_true rfl) rfl dX5_join_9 ?_
  refine lv_if_ne (tgt := 16) hx hb dX5_join_10 (by decide) (fun _ => ?_) (fun c9 => absurd c9 (nI_ne0 hk (by unfold lfN at hlf; omega)))
  refine lv_aload_n hx hb dX5_join_16 rfl (lv_at hl 3 rfl) ?_
  refine lv_iload_n hx hb dX5_join_17 rfl (lv_at hl 0 rfl) ?_
  refine lv_dup2_11 hx hb dX5_join_18 rfl rfl ?_
  refine xr_iald hf hK hw 3 2 rfl 0 (by decide) (by decide) (Nat.le_of_ble_eq_true rfl) rfl dX5_join_19 ?_
  refine lv_iconst (v := 1) hx hb dX5_join_20 (by decide) ?_
  refine lv_isub hx hb dX5_join_21 ?_
  refine xr_iast (LL' := [[ob b 4 [.ref fa]], ((ob fa 15 [.int u, .ref (al_d g st), .int (nI (ads mf).length)]) :: (al_t dT st (ads mf))), (mf.flatMap (mfE dT)), [ob h0 10 [.int (nI ln), .int (nI sz), .int x2, .ref h1, .ref h2, .int x9, .int x10], (h1, aI dT [x3, x4, x5]), (h2, aI dT [((nI lf.1) - 1), (nI lf.2.1), (nI lf.2.2)])]]) hf hK hw 3 2 rfl 0 (by decide) (by decide) (Nat.le_of_ble_eq_true rfl) rfl dX5_join_22 (fun H locs hw => ?_)
  refine lv_aload_n hx hb dX5_join_23 rfl (lv_at hl 1 rfl) ?_
  refine xr_get hf hK hw 0 0 rfl rfl in_X5 0 (by decide) q1107 (fun _ h => h) rfl dX5_join_24 ?_
  refine lv_iconst (v := 4) hx hb dX5_join_27 (by decide) ?_
  refine xr_newi hf hK hw hA q463 (N := 4) (by decide) (by decide) (Nat.le_of_ble_eq_true rfl) (by first | omega | (dsimp only; omega)) (by first | omega | (dsimp only; omega)) dX5_join_28 (fun qa1 H hw => ?_)
  have hw : Wd D A s.heap _ _ [[ob b 4 [.ref fa]], ((ob fa 15 [.int u, .ref (al_d g st), .int (nI (ads mf).length)]) :: (al_t dT st (ads mf))), (mf.flatMap (mfE dT)), [ob h0 10 [.int (nI ln), .int (nI sz), .int x2, .ref h1, .ref h2, .int x9, .int x10], (h1, aI dT [x3, x4, x5]), (h2, aI dT [((nI lf.1) - 1), (nI lf.2.1), (nI lf.2.2)])], [(qa1, aI dT [0, 0, 0, 0])]] := hw
  refine lv_dup hx hb dX5_join_30 rfl ?_
  refine lv_iconst (v := 0) hx hb dX5_join_31 (by decide) ?_
  refine lv_iload_n hx hb dX5_join_32 rfl (lv_at hl 0 rfl) ?_
  refine xr_iast (LL' := [[ob b 4 [.ref fa]], ((ob fa 15 [.int u, .ref (al_d g st), .int (nI (ads mf).length)]) :: (al_t dT st (ads mf))), (mf.flatMap (mfE dT)), [ob h0 10 [.int (nI ln), .int (nI sz), .int x2, .ref h1, .ref h2, .int x9, .int x10], (h1, aI dT [x3, x4, x5]), (h2, aI dT [((nI lf.1) - 1), (nI lf.2.1), (nI lf.2.2)])], [(qa1, aI dT [0, 0, 0, 0])]]) hf hK hw 4 0 rfl 0 (by decide) (by decide) (Nat.le_of_ble_eq_true rfl) rfl dX5_join_33 (fun H locs hw => ?_)
  refine lv_dup hx hb dX5_join_34 rfl ?_
  refine lv_iconst (v := 1) hx hb dX5_join_35 (by decide) ?_
  refine lv_aload_n hx hb dX5_join_36 rfl (lv_at hl 2 rfl) ?_
  refine xr_get hf hK hw 3 0 rfl rfl in_X11 1 (by decide) q1392 (fun _ h => h) rfl dX5_join_37 ?_
  refine xr_iast (LL' := [[ob b 4 [.ref fa]], ((ob fa 15 [.int u, .ref (al_d g st), .int (nI (ads mf).length)]) :: (al_t dT st (ads mf))), (mf.flatMap (mfE dT)), [ob h0 10 [.int (nI ln), .int (nI sz), .int x2, .ref h1, .ref h2, .int x9, .int x10], (h1, aI dT [x3, x4, x5]), (h2, aI dT [((nI lf.1) - 1), (nI lf.2.1), (nI lf.2.2)])], [(qa1, aI dT [0, (nI sz), 0, 0])]]) hf hK hw 4 0 rfl 1 (by decide) (by decide) (Nat.le_of_ble_eq_true rfl) rfl dX5_join_40 (fun H locs hw => ?_)
  refine lv_dup hx hb dX5_join_41 rfl ?_
  refine lv_iconst (v := 2) hx hb dX5_join_42 (by decide) ?_
  refine lv_aload_n hx hb dX5_join_43 rfl (lv_at hl 2 rfl) ?_
  refine xr_get hf hK hw 3 0 rfl rfl in_X11 0 (by decide) q1389 (fun _ h => h) rfl dX5_join_44 ?_
  refine xr_iast (LL' := [[ob b 4 [.ref fa]], ((ob fa 15 [.int u, .ref (al_d g st), .int (nI (ads mf).length)]) :: (al_t dT st (ads mf))), (mf.flatMap (mfE dT)), [ob h0 10 [.int (nI ln), .int (nI sz), .int x2, .ref h1, .ref h2, .int x9, .int x10], (h1, aI dT [x3, x4, x5]), (h2, aI dT [((nI lf.1) - 1), (nI lf.2.1), (nI lf.2.2)])], [(qa1, aI dT [0, (nI sz), (nI ln), 0])]]) hf hK hw 4 0 rfl 2 (by decide) (by decide) (Nat.le_of_ble_eq_true rfl) rfl dX5_join_47 (fun H locs hw => ?_)
  refine lv_dup hx hb dX5_join_48 rfl ?_
  refine lv_iconst (v := 3) hx hb dX5_join_49 (by decide) ?_
  refine lv_iconst (v := 0) hx hb dX5_join_50 (by decide) ?_
  refine xr_iast (LL' := [[ob b 4 [.ref fa]], ((ob fa 15 [.int u, .ref (al_d g st), .int (nI (ads mf).length)]) :: (al_t dT st (ads mf))), (mf.flatMap (mfE dT)), [ob h0 10 [.int (nI ln), .int (nI sz), .int x2, .ref h1, .ref h2, .int x9, .int x10], (h1, aI dT [x3, x4, x5]), (h2, aI dT [((nI lf.1) - 1), (nI lf.2.1), (nI lf.2.2)])], [(qa1, aI dT [0, (nI sz), (nI ln), 0])]]) hf hK hw 4 0 rfl 3 (by decide) (by decide) (Nat.le_of_ble_eq_true rfl) rfl dX5_join_51 (fun H locs hw => ?_)
  refine xc_V (rest := []) (As := [.ref qa1]) hf hK hA hAz hst (hw.pick [1, 1, 2] rfl rfl rfl) (k_J2_add l D dT g z0 fa st u (ads mf) qa1 [(mf.flatMap (mfE dT)), [(qa1, aI dT [0, (nI sz), (nI ln), 0])]] hok (el_F (ok_mf dT) List.mem_cons_self) (el_1 (List.mem_cons_of_mem _ List.mem_cons_self) List.mem_cons_self ⟨rfl, _, rfl⟩)) (cwV 1 hts (lw_V q1500 q133 q134 q47 q135) rfl rfl rfl (by decide +kernel) ⟨Nat.le_of_ble_eq_true rfl, Nat.le_of_ble_eq_true rfl⟩) (xr_rv hK hw 1 0 rfl rfl) rfl hl.1 rfl (Nat.le_of_ble_eq_true rfl) dX5_join_52 ⟨(by first | omega | (dsimp only; omega)), (by first | omega | (dsimp only; omega))⟩ (fun _ _ _ _ _ _ h => h.elim) (fun v9 LL1 H locs hp hw => ?_)
  obtain ⟨dn_2, rfl, rfl⟩ := hp
  have hw : Wd D A s.heap _ _ [((ob fa 15 [.int (u + 1), .ref (al_d g (al_n st (ads mf) dn_2)), .int (nI (((ads mf) ++ [qa1])).length)]) :: (al_t dT (al_n st (ads mf) dn_2) ((ads mf) ++ [qa1]))), (mf.flatMap (mfE dT)), [(qa1, aI dT [0, (nI sz), (nI ln), 0])], [ob b 4 [.ref fa]], [ob h0 10 [.int (nI ln), .int (nI sz), .int x2, .ref h1, .ref h2, .int x9, .int x10], (h1, aI dT [x3, x4, x5]), (h2, aI dT [((nI lf.1) - 1), (nI lf.2.1), (nI lf.2.2)])]] := hw
  refine W.eq (g2 := F0 m 55 ls [.int 1]) rfl ?_
  have hw : Wd D A s.heap _ _ [((ob fa 15 [.int (u + 1), .ref (al_d g (al_n st (ads mf) dn_2)), .int (nI (((ads mf) ++ [qa1])).length)]) :: (al_t dT (al_n st (ads mf) dn_2) ((ads mf) ++ [qa1]))), (mf.flatMap (mfE dT)), [(qa1, aI dT [(nI 0), (nI sz), (nI ln), (nI 0)])], [ob b 4 [.ref fa]], [ob h0 10 [.int (nI ln), .int (nI sz), .int x2, .ref h1, .ref h2, .int x9, .int x10], (h1, aI dT [x3, x4, x5]), (h2, aI dT [((nI lf.1) - 1), (nI lf.2.1), (nI lf.2.2)])]] := hw
  have hw : Wd D A s.heap _ _ [(mf.flatMap (mfE dT)), [(qa1, aI dT [(nI 0), (nI sz), (nI ln), (nI 0)])], ((ob fa 15 [.int (u + 1), .ref (al_d g (al_n st (ads mf) dn_2)), .int (nI (((ads mf) ++ [qa1])).length)]) :: (al_t dT (al_n st (ads mf) dn_2) ((ads mf) ++ [qa1]))), [ob b 4 [.ref fa]], [ob h0 10 [.int (nI ln), .int (nI sz), .int x2, .ref h1, .ref h2, .int x9, .int x10], (h1, aI dT [x3, x4, x5]), (h2, aI dT [((nI lf.1) - 1), (nI lf.2.1), (nI lf.2.2)])]] := hw.pick [1, 1] rfl rfl rfl
  have hw : Wd D A s.heap _ _ [((mf ++ [(qa1, (ln, 0, sz, 0))]).flatMap (mfE dT)), ((ob fa 15 [.int (u + 1), .ref (al_d g (al_n st (ads mf) dn_2)), .int (nI (((ads mf) ++ [qa1])).length)]) :: (al_t dT (al_n st (ads mf) dn_2) ((ads mf) ++ [qa1]))), [ob b 4 [.ref fa]], [ob h0 10 [.int (nI ln), .int (nI sz), .int x2, .ref h1, .ref h2, .int x9, .int x10], (h1, aI dT [x3, x4, x5]), (h2, aI dT [((nI lf.1) - 1), (nI lf.2.1), (nI lf.2.2)])]] := Wd.push1 (q := (qa1, (ln, 0, sz, 0))) (L := mf) hw
  rw [nI_sub1 hk] at hw
  have e9 : ads (mf ++ [(qa1, (ln, 0, sz, 0))]) = ads mf ++ [qa1] := ads_snoc _ _
  rw [← e9] at hw
  have hw : Wd D A s.heap _ _ [((mf ++ [(qa1, (ln, 0, sz, 0))]).flatMap (mfE dT)), ((ob fa 15 [.int (u + 1), .ref (al_d g (al_n st (ads mf) dn_2)), .int (nI (ads (mf ++ [(qa1, (ln, 0, sz, 0))])).length)]) :: (al_t dT (al_n st (ads mf) dn_2) (ads (mf ++ [(qa1, (ln, 0, sz, 0))])))), [ob b 4 [.ref fa]], [ob h0 10 [.int (nI ln), .int (nI sz), .int x2, .ref h1, .ref h2, .int x9, .int x10], (h1, aI dT [x3, x4, x5]), (h2, aI dT [(nI (lf.1 - 1, lf.2.1, lf.2.2).1), (nI (lf.1 - 1, lf.2.1, lf.2.2).2.1), (nI (lf.1 - 1, lf.2.1, lf.2.2).2.2)])]] := hw
  have hw : Wd D A s.heap _ _ [[ob b 4 [.ref fa]], ((ob fa 15 [.int (u + 1), .ref (al_d g (al_n st (ads mf) dn_2)), .int (nI (ads (mf ++ [(qa1, (ln, 0, sz, 0))])).length)]) :: (al_t dT (al_n st (ads mf) dn_2) (ads (mf ++ [(qa1, (ln, 0, sz, 0))])))), ((mf ++ [(qa1, (ln, 0, sz, 0))]).flatMap (mfE dT)), [ob h0 10 [.int (nI ln), .int (nI sz), .int x2, .ref h1, .ref h2, .int x9, .int x10], (h1, aI dT [x3, x4, x5]), (h2, aI dT [(nI (lf.1 - 1, lf.2.1, lf.2.2).1), (nI (lf.1 - 1, lf.2.1, lf.2.2).2.1), (nI (lf.1 - 1, lf.2.1, lf.2.2).2.2)])]] := Wd.take hw [2, 1, 0, 0] rfl rfl
  refine lv_pop hx hb dX5_join_55 rfl ?_
  refine lv_iconst (v := 1) hx hb dX5_join_56 (by decide) ?_
  exact xr_zret hf hr hlocks hw (by first | omega | (dsimp only; omega)) (by first | omega | (dsimp only; omega)) rfl ⟨qa1, dn_2, rfl, rfl⟩ dX5_join_57

set_option maxHeartbeats 4000000 in
theorem k_X5_join_k1 (l : Launch) (D : va_G) (dT g : Nat → Nat) (z0 : Nat) (b : Nat) (fa : Nat) (u : Int32) (st : Option (Nat × Nat)) (mf : MfT) (h0 : Nat) (h1 : Nat) (h2 : Nat) (ln : Nat) (sz : Nat) (x2 : Int32) (x9 : Int32) (x10 : Int32) (x3 : Int32) (x4 : Int32) (x5 : Int32) (lf : Lf) (hok : alOK st (ads mf)) (hlf : lfN lf < 2 ^ 20) (hk : lf.1 = 0 ∧ 0 < lf.2.1) : Con l D dT g z0 yX5_join (ws_ yX5_join cX5_join 4 (some .boolean)) ({ frames := 7, cells := 1 + al_gc st (ads mf), slots := 4 + al_gs st (ads mf), locals := 171 }) [.ref b, .ref h0, .ref h2] [[ob b 4 [.ref fa]], ((ob fa 15 [.int u, .ref (al_d g st), .int (nI (ads mf).length)]) :: (al_t dT st (ads mf))), (mf.flatMap (mfE dT)), [ob h0 10 [.int (nI ln), .int (nI sz), .int x2, .ref h1, .ref h2, .int x9, .int x10], (h1, aI dT [x3, x4, x5]), (h2, aI dT [(nI lf.1), (nI lf.2.1), (nI lf.2.2)])]] (fun r LL => ∃ (qa : Nat) (dn : Nat), r = some (.int 1) ∧ LL = [[ob b 4 [.ref fa]], ((ob fa 15 [.int (u + 1), .ref (al_d g (al_n st (ads mf) dn)), .int (nI (ads (mf ++ [(qa, (ln, 0, sz, 1))])).length)]) :: (al_t dT (al_n st (ads mf) dn) (ads (mf ++ [(qa, (ln, 0, sz, 1))])))), ((mf ++ [(qa, (ln, 0, sz, 1))]).flatMap (mfE dT)), [ob h0 10 [.int (nI ln), .int (nI sz), .int x2, .ref h1, .ref h2, .int x9, .int x10], (h1, aI dT [x3, x4, x5]), (h2, aI dT [(nI (lf.1, lf.2.1 - 1, lf.2.2).1), (nI (lf.1, lf.2.1 - 1, lf.2.2).2.1), (nI (lf.1, lf.2.1 - 1, lf.2.2).2.2)])]]) noX (1 + al_gc st (ads mf)) (4 + al_gs st (ads mf)) := by
  refine Con.of (maxL := 4) (ret := (some .boolean)) (by first | exact plainFor_of_name (by decide) | decide +kernel) (Nat.le_of_ble_eq_true rfl) ?_
  intro p e s m args below meth c A ls hf hr hlocks hnm hno hK hA hAz hw hl hst
  have hf : CallFix p m c cX5_join 4 s args lw_all "SilkRowModel$Basin" := hf
  have hnm : meth.name = "join" := hnm
  have hx := hf.1
  have hb := hf.2.1
  have hts := hf.2.2.2.2
  have hl : lv_has ls 4 [(0, .ref b), (1, .ref h0), (2, .ref h2)] := hl
  have hw : Wd D A s.heap s.heap [] [[ob b 4 [.ref fa]], ((ob fa 15 [.int u, .ref (al_d g st), .int (nI (ads mf).length)]) :: (al_t dT st (ads mf))), (mf.flatMap (mfE dT)), [ob h0 10 [.int (nI ln), .int (nI sz), .int x2, .ref h1, .ref h2, .int x9, .int x10], (h1, aI dT [x3, x4, x5]), (h2, aI dT [(nI lf.1), (nI lf.2.1), (nI lf.2.2)])]] := hw
  refine lv_iconst (v := 0) hx hb dX5_join_0 (by decide) ?_
  refine lv_istore_n (lv' := [(3, .int 0), (0, .ref b), (1, .ref h0), (2, .ref h2)]) hx hb dX5_join_1 rfl hl (by decide) rfl (fun ls hl => ?_)
  refine lv_iload_n hx hb dX5_join_2 rfl (lv_at hl 0 rfl) ?_
  refine lv_iconst (v := 2) hx hb dX5_join_3 (by decide) ?_
  refine lv_icmp_gt (tgt := 64) hx hb dX5_join_4 (by decide) (fun c9 => absurd c9 (by decide)) (fun _ => ?_)
  refine lv_aload_n hx hb dX5_join_7 rfl (lv_at hl 3 rfl) ?_
  refine lv_iload_n hx hb dX5_join_8 rfl (lv_at hl 0 rfl) ?_
  refine xr_iald hf hK hw 3 2 rfl 0 (by decide) (by decide) (Nat.le_of_ble_eq_true rfl) rfl dX5_join_9 ?_
  refine lv_if_ne (tgt := 16) hx hb dX5_join_10 (by decide) (fun c9 => absurd c9 (not_not_intro (by rw [hk.1]; rfl))) (fun _ => ?_)
  refine lv_goto (tgt := 58) hx hb dX5_join_13 (by decide) ?_
  refine lv_iinc (v := 1) (lv' := [(3, .int 1), (0, .ref b), (1, .ref h0), (2, .ref h2)]) hx hb dX5_join_58 hl (k := 0) rfl (by decide) (by decide) rfl (fun ls hl => ?_)
  refine lv_goto (tgt := 2) hx hb dX5_join_61 (by decide) ?_
  refine lv_iload_n hx hb dX5_join_2 rfl (lv_at hl 0 rfl) ?_
  refine lv_iconst (v := 2) hx hb dX5_join_3 (by decide) ?_
  refine lv_icmp_gt (tgt := 64) hx hb dX5_join_4 (by decide) (fun c9 => absurd c9 (by decide)) (fun _ => ?_)
  refine lv_aload_n hx hb dX5_join_7 rfl (lv_at hl 3 rfl) ?_
  refine lv_iload_n hx hb dX5_join_8 rfl (lv_at hl 0 rfl) ?_
  refine xr_iald hf hK hw 3 2 rfl 1 (by decide) (by decide) (Nat.le_of_ble_eq_true rfl) rfl dX5_join_9 ?_
  refine lv_if_ne (tgt := 16) hx hb dX5_join_10 (by decide) (fun _ => ?_) (fun c9 => absurd c9 (nI_ne0 hk.2 (by unfold lfN at hlf; omega)))
  refine lv_aload_n hx hb dX5_join_16 rfl (lv_at hl 3 rfl) ?_
  refine lv_iload_n hx hb dX5_join_17 rfl (lv_at hl 0 rfl) ?_
  refine lv_dup2_11 hx hb dX5_join_18 rfl rfl ?_
  refine xr_iald hf hK hw 3 2 rfl 1 (by decide) (by decide) (Nat.le_of_ble_eq_true rfl) rfl dX5_join_19 ?_
  refine lv_iconst (v := 1) hx hb dX5_join_20 (by decide) ?_
  refine lv_isub hx hb dX5_join_21 ?_
  refine xr_iast (LL' := [[ob b 4 [.ref fa]], ((ob fa 15 [.int u, .ref (al_d g st), .int (nI (ads mf).length)]) :: (al_t dT st (ads mf))), (mf.flatMap (mfE dT)), [ob h0 10 [.int (nI ln), .int (nI sz), .int x2, .ref h1, .ref h2, .int x9, .int x10], (h1, aI dT [x3, x4, x5]), (h2, aI dT [(nI lf.1), ((nI lf.2.1) - 1), (nI lf.2.2)])]]) hf hK hw 3 2 rfl 1 (by decide) (by decide) (Nat.le_of_ble_eq_true rfl) rfl dX5_join_22 (fun H locs hw => ?_)
  refine lv_aload_n hx hb dX5_join_23 rfl (lv_at hl 1 rfl) ?_
  refine xr_get hf hK hw 0 0 rfl rfl in_X5 0 (by decide) q1107 (fun _ h => h) rfl dX5_join_24 ?_
  refine lv_iconst (v := 4) hx hb dX5_join_27 (by decide) ?_
  refine xr_newi hf hK hw hA q463 (N := 4) (by decide) (by decide) (Nat.le_of_ble_eq_true rfl) (by first | omega | (dsimp only; omega)) (by first | omega | (dsimp only; omega)) dX5_join_28 (fun qa1 H hw => ?_)
  have hw : Wd D A s.heap _ _ [[ob b 4 [.ref fa]], ((ob fa 15 [.int u, .ref (al_d g st), .int (nI (ads mf).length)]) :: (al_t dT st (ads mf))), (mf.flatMap (mfE dT)), [ob h0 10 [.int (nI ln), .int (nI sz), .int x2, .ref h1, .ref h2, .int x9, .int x10], (h1, aI dT [x3, x4, x5]), (h2, aI dT [(nI lf.1), ((nI lf.2.1) - 1), (nI lf.2.2)])], [(qa1, aI dT [0, 0, 0, 0])]] := hw
  refine lv_dup hx hb dX5_join_30 rfl ?_
  refine lv_iconst (v := 0) hx hb dX5_join_31 (by decide) ?_
  refine lv_iload_n hx hb dX5_join_32 rfl (lv_at hl 0 rfl) ?_
  refine xr_iast (LL' := [[ob b 4 [.ref fa]], ((ob fa 15 [.int u, .ref (al_d g st), .int (nI (ads mf).length)]) :: (al_t dT st (ads mf))), (mf.flatMap (mfE dT)), [ob h0 10 [.int (nI ln), .int (nI sz), .int x2, .ref h1, .ref h2, .int x9, .int x10], (h1, aI dT [x3, x4, x5]), (h2, aI dT [(nI lf.1), ((nI lf.2.1) - 1), (nI lf.2.2)])], [(qa1, aI dT [1, 0, 0, 0])]]) hf hK hw 4 0 rfl 0 (by decide) (by decide) (Nat.le_of_ble_eq_true rfl) rfl dX5_join_33 (fun H locs hw => ?_)
  refine lv_dup hx hb dX5_join_34 rfl ?_
  refine lv_iconst (v := 1) hx hb dX5_join_35 (by decide) ?_
  refine lv_aload_n hx hb dX5_join_36 rfl (lv_at hl 2 rfl) ?_
  refine xr_get hf hK hw 3 0 rfl rfl in_X11 1 (by decide) q1392 (fun _ h => h) rfl dX5_join_37 ?_
  refine xr_iast (LL' := [[ob b 4 [.ref fa]], ((ob fa 15 [.int u, .ref (al_d g st), .int (nI (ads mf).length)]) :: (al_t dT st (ads mf))), (mf.flatMap (mfE dT)), [ob h0 10 [.int (nI ln), .int (nI sz), .int x2, .ref h1, .ref h2, .int x9, .int x10], (h1, aI dT [x3, x4, x5]), (h2, aI dT [(nI lf.1), ((nI lf.2.1) - 1), (nI lf.2.2)])], [(qa1, aI dT [1, (nI sz), 0, 0])]]) hf hK hw 4 0 rfl 1 (by decide) (by decide) (Nat.le_of_ble_eq_true rfl) rfl dX5_join_40 (fun H locs hw => ?_)
  refine lv_dup hx hb dX5_join_41 rfl ?_
  refine lv_iconst (v := 2) hx hb dX5_join_42 (by decide) ?_
  refine lv_aload_n hx hb dX5_join_43 rfl (lv_at hl 2 rfl) ?_
  refine xr_get hf hK hw 3 0 rfl rfl in_X11 0 (by decide) q1389 (fun _ h => h) rfl dX5_join_44 ?_
  refine xr_iast (LL' := [[ob b 4 [.ref fa]], ((ob fa 15 [.int u, .ref (al_d g st), .int (nI (ads mf).length)]) :: (al_t dT st (ads mf))), (mf.flatMap (mfE dT)), [ob h0 10 [.int (nI ln), .int (nI sz), .int x2, .ref h1, .ref h2, .int x9, .int x10], (h1, aI dT [x3, x4, x5]), (h2, aI dT [(nI lf.1), ((nI lf.2.1) - 1), (nI lf.2.2)])], [(qa1, aI dT [1, (nI sz), (nI ln), 0])]]) hf hK hw 4 0 rfl 2 (by decide) (by decide) (Nat.le_of_ble_eq_true rfl) rfl dX5_join_47 (fun H locs hw => ?_)
  refine lv_dup hx hb dX5_join_48 rfl ?_
  refine lv_iconst (v := 3) hx hb dX5_join_49 (by decide) ?_
  refine lv_iconst (v := 0) hx hb dX5_join_50 (by decide) ?_
  refine xr_iast (LL' := [[ob b 4 [.ref fa]], ((ob fa 15 [.int u, .ref (al_d g st), .int (nI (ads mf).length)]) :: (al_t dT st (ads mf))), (mf.flatMap (mfE dT)), [ob h0 10 [.int (nI ln), .int (nI sz), .int x2, .ref h1, .ref h2, .int x9, .int x10], (h1, aI dT [x3, x4, x5]), (h2, aI dT [(nI lf.1), ((nI lf.2.1) - 1), (nI lf.2.2)])], [(qa1, aI dT [1, (nI sz), (nI ln), 0])]]) hf hK hw 4 0 rfl 3 (by decide) (by decide) (Nat.le_of_ble_eq_true rfl) rfl dX5_join_51 (fun H locs hw => ?_)
  refine xc_V (rest := []) (As := [.ref qa1]) hf hK hA hAz hst (hw.pick [1, 1, 2] rfl rfl rfl) (k_J2_add l D dT g z0 fa st u (ads mf) qa1 [(mf.flatMap (mfE dT)), [(qa1, aI dT [1, (nI sz), (nI ln), 0])]] hok (el_F (ok_mf dT) List.mem_cons_self) (el_1 (List.mem_cons_of_mem _ List.mem_cons_self) List.mem_cons_self ⟨rfl, _, rfl⟩)) (cwV 1 hts (lw_V q1500 q133 q134 q47 q135) rfl rfl rfl (by decide +kernel) ⟨Nat.le_of_ble_eq_true rfl, Nat.le_of_ble_eq_true rfl⟩) (xr_rv hK hw 1 0 rfl rfl) rfl hl.1 rfl (Nat.le_of_ble_eq_true rfl) dX5_join_52 ⟨(by first | omega | (dsimp only; omega)), (by first | omega | (dsimp only; omega))⟩ (fun _ _ _ _ _ _ h => h.elim) (fun v9 LL1 H locs hp hw => ?_)
  obtain ⟨dn_2, rfl, rfl⟩ := hp
  have hw : Wd D A s.heap _ _ [((ob fa 15 [.int (u + 1), .ref (al_d g (al_n st (ads mf) dn_2)), .int (nI (((ads mf) ++ [qa1])).length)]) :: (al_t dT (al_n st (ads mf) dn_2) ((ads mf) ++ [qa1]))), (mf.flatMap (mfE dT)), [(qa1, aI dT [1, (nI sz), (nI ln), 0])], [ob b 4 [.ref fa]], [ob h0 10 [.int (nI ln), .int (nI sz), .int x2, .ref h1, .ref h2, .int x9, .int x10], (h1, aI dT [x3, x4, x5]), (h2, aI dT [(nI lf.1), ((nI lf.2.1) - 1), (nI lf.2.2)])]] := hw
  refine W.eq (g2 := F0 m 55 ls [.int 1]) rfl ?_
  have hw : Wd D A s.heap _ _ [((ob fa 15 [.int (u + 1), .ref (al_d g (al_n st (ads mf) dn_2)), .int (nI (((ads mf) ++ [qa1])).length)]) :: (al_t dT (al_n st (ads mf) dn_2) ((ads mf) ++ [qa1]))), (mf.flatMap (mfE dT)), [(qa1, aI dT [(nI 1), (nI sz), (nI ln), (nI 0)])], [ob b 4 [.ref fa]], [ob h0 10 [.int (nI ln), .int (nI sz), .int x2, .ref h1, .ref h2, .int x9, .int x10], (h1, aI dT [x3, x4, x5]), (h2, aI dT [(nI lf.1), ((nI lf.2.1) - 1), (nI lf.2.2)])]] := hw
  have hw : Wd D A s.heap _ _ [(mf.flatMap (mfE dT)), [(qa1, aI dT [(nI 1), (nI sz), (nI ln), (nI 0)])], ((ob fa 15 [.int (u + 1), .ref (al_d g (al_n st (ads mf) dn_2)), .int (nI (((ads mf) ++ [qa1])).length)]) :: (al_t dT (al_n st (ads mf) dn_2) ((ads mf) ++ [qa1]))), [ob b 4 [.ref fa]], [ob h0 10 [.int (nI ln), .int (nI sz), .int x2, .ref h1, .ref h2, .int x9, .int x10], (h1, aI dT [x3, x4, x5]), (h2, aI dT [(nI lf.1), ((nI lf.2.1) - 1), (nI lf.2.2)])]] := hw.pick [1, 1] rfl rfl rfl
  have hw : Wd D A s.heap _ _ [((mf ++ [(qa1, (ln, 0, sz, 1))]).flatMap (mfE dT)), ((ob fa 15 [.int (u + 1), .ref (al_d g (al_n st (ads mf) dn_2)), .int (nI (((ads mf) ++ [qa1])).length)]) :: (al_t dT (al_n st (ads mf) dn_2) ((ads mf) ++ [qa1]))), [ob b 4 [.ref fa]], [ob h0 10 [.int (nI ln), .int (nI sz), .int x2, .ref h1, .ref h2, .int x9, .int x10], (h1, aI dT [x3, x4, x5]), (h2, aI dT [(nI lf.1), ((nI lf.2.1) - 1), (nI lf.2.2)])]] := Wd.push1 (q := (qa1, (ln, 0, sz, 1))) (L := mf) hw
  rw [nI_sub1 hk.2] at hw
  have e9 : ads (mf ++ [(qa1, (ln, 0, sz, 1))]) = ads mf ++ [qa1] := ads_snoc _ _
  rw [← e9] at hw
  have hw : Wd D A s.heap _ _ [((mf ++ [(qa1, (ln, 0, sz, 1))]).flatMap (mfE dT)), ((ob fa 15 [.int (u + 1), .ref (al_d g (al_n st (ads mf) dn_2)), .int (nI (ads (mf ++ [(qa1, (ln, 0, sz, 1))])).length)]) :: (al_t dT (al_n st (ads mf) dn_2) (ads (mf ++ [(qa1, (ln, 0, sz, 1))])))), [ob b 4 [.ref fa]], [ob h0 10 [.int (nI ln), .int (nI sz), .int x2, .ref h1, .ref h2, .int x9, .int x10], (h1, aI dT [x3, x4, x5]), (h2, aI dT [(nI (lf.1, lf.2.1 - 1, lf.2.2).1), (nI (lf.1, lf.2.1 - 1, lf.2.2).2.1), (nI (lf.1, lf.2.1 - 1, lf.2.2).2.2)])]] := hw
  have hw : Wd D A s.heap _ _ [[ob b 4 [.ref fa]], ((ob fa 15 [.int (u + 1), .ref (al_d g (al_n st (ads mf) dn_2)), .int (nI (ads (mf ++ [(qa1, (ln, 0, sz, 1))])).length)]) :: (al_t dT (al_n st (ads mf) dn_2) (ads (mf ++ [(qa1, (ln, 0, sz, 1))])))), ((mf ++ [(qa1, (ln, 0, sz, 1))]).flatMap (mfE dT)), [ob h0 10 [.int (nI ln), .int (nI sz), .int x2, .ref h1, .ref h2, .int x9, .int x10], (h1, aI dT [x3, x4, x5]), (h2, aI dT [(nI (lf.1, lf.2.1 - 1, lf.2.2).1), (nI (lf.1, lf.2.1 - 1, lf.2.2).2.1), (nI (lf.1, lf.2.1 - 1, lf.2.2).2.2)])]] := Wd.take hw [2, 1, 0, 0] rfl rfl
  refine lv_pop hx hb dX5_join_55 rfl ?_
  refine lv_iconst (v := 1) hx hb dX5_join_56 (by decide) ?_
  exact xr_zret hf hr hlocks hw (by first | omega | (dsimp only; omega)) (by first | omega | (dsimp only; omega)) rfl ⟨qa1, dn_2, rfl, rfl⟩ dX5_join_57

set_option maxHeartbeats 4000000 in
theorem k_X5_join_k2 (l : Launch) (D : va_G) (dT g : Nat → Nat) (z0 : Nat) (b : Nat) (fa : Nat) (u : Int32) (st : Option (Nat × Nat)) (mf : MfT) (h0 : Nat) (h1 : Nat) (h2 : Nat) (ln : Nat) (sz : Nat) (x2 : Int32) (x9 : Int32) (x10 : Int32) (x3 : Int32) (x4 : Int32) (x5 : Int32) (lf : Lf) (hok : alOK st (ads mf)) (hlf : lfN lf < 2 ^ 20) (hk : lf.1 = 0 ∧ lf.2.1 = 0 ∧ 0 < lf.2.2) : Con l D dT g z0 yX5_join (ws_ yX5_join cX5_join 4 (some .boolean)) ({ frames := 7, cells := 1 + al_gc st (ads mf), slots := 4 + al_gs st (ads mf), locals := 171 }) [.ref b, .ref h0, .ref h2] [[ob b 4 [.ref fa]], ((ob fa 15 [.int u, .ref (al_d g st), .int (nI (ads mf).length)]) :: (al_t dT st (ads mf))), (mf.flatMap (mfE dT)), [ob h0 10 [.int (nI ln), .int (nI sz), .int x2, .ref h1, .ref h2, .int x9, .int x10], (h1, aI dT [x3, x4, x5]), (h2, aI dT [(nI lf.1), (nI lf.2.1), (nI lf.2.2)])]] (fun r LL => ∃ (qa : Nat) (dn : Nat), r = some (.int 1) ∧ LL = [[ob b 4 [.ref fa]], ((ob fa 15 [.int (u + 1), .ref (al_d g (al_n st (ads mf) dn)), .int (nI (ads (mf ++ [(qa, (ln, 0, sz, 2))])).length)]) :: (al_t dT (al_n st (ads mf) dn) (ads (mf ++ [(qa, (ln, 0, sz, 2))])))), ((mf ++ [(qa, (ln, 0, sz, 2))]).flatMap (mfE dT)), [ob h0 10 [.int (nI ln), .int (nI sz), .int x2, .ref h1, .ref h2, .int x9, .int x10], (h1, aI dT [x3, x4, x5]), (h2, aI dT [(nI (lf.1, lf.2.1, lf.2.2 - 1).1), (nI (lf.1, lf.2.1, lf.2.2 - 1).2.1), (nI (lf.1, lf.2.1, lf.2.2 - 1).2.2)])]]) noX (1 + al_gc st (ads mf)) (4 + al_gs st (ads mf)) := by
  refine Con.of (maxL := 4) (ret := (some .boolean)) (by first | exact plainFor_of_name (by decide) | decide +kernel) (Nat.le_of_ble_eq_true rfl) ?_
  intro p e s m args below meth c A ls hf hr hlocks hnm hno hK hA hAz hw hl hst
  have hf : CallFix p m c cX5_join 4 s args lw_all "SilkRowModel$Basin" := hf
  have hnm : meth.name = "join" := hnm
  have hx := hf.1
  have hb := hf.2.1
  have hts := hf.2.2.2.2
  have hl : lv_has ls 4 [(0, .ref b), (1, .ref h0), (2, .ref h2)] := hl
  have hw : Wd D A s.heap s.heap [] [[ob b 4 [.ref fa]], ((ob fa 15 [.int u, .ref (al_d g st), .int (nI (ads mf).length)]) :: (al_t dT st (ads mf))), (mf.flatMap (mfE dT)), [ob h0 10 [.int (nI ln), .int (nI sz), .int x2, .ref h1, .ref h2, .int x9, .int x10], (h1, aI dT [x3, x4, x5]), (h2, aI dT [(nI lf.1), (nI lf.2.1), (nI lf.2.2)])]] := hw
  refine lv_iconst (v := 0) hx hb dX5_join_0 (by decide) ?_
  refine lv_istore_n (lv' := [(3, .int 0), (0, .ref b), (1, .ref h0), (2, .ref h2)]) hx hb dX5_join_1 rfl hl (by decide) rfl (fun ls hl => ?_)
  refine lv_iload_n hx hb dX5_join_2 rfl (lv_at hl 0 rfl) ?_
  refine lv_iconst (v := 2) hx hb dX5_join_3 (by decide) ?_
  refine lv_icmp_gt (tgt := 64) hx hb dX5_join_4 (by decide) (fun c9 => absurd c9 (by decide)) (fun _ => ?_)
  refine lv_aload_n hx hb dX5_join_7 rfl (lv_at hl 3 rfl) ?_
  refine lv_iload_n hx hb dX5_join_8 rfl (lv_at hl 0 rfl) ?_
  refine xr_iald hf hK hw 3 2 rfl 0 (by decide) (by decide) (Nat.le_of_ble_eq_true rfl) rfl dX5_join_9 ?_
  refine lv_if_ne (tgt := 16) hx hb dX5_join_10 (by decide) (fun c9 => absurd c9 (not_not_intro (by rw [hk.1]; rfl))) (fun _ => ?_)
  refine lv_goto (tgt := 58) hx hb dX5_join_13 (by decide) ?_
  refine lv_iinc (v := 1) (lv' := [(3, .int 1), (0, .ref b), (1, .ref h0), (2, .ref h2)]) hx hb dX5_join_58 hl (k := 0) rfl (by decide) (by decide) rfl (fun ls hl => ?_)
  refine lv_goto (tgt := 2) hx hb dX5_join_61 (by decide) ?_
  refine lv_iload_n hx hb dX5_join_2 rfl (lv_at hl 0 rfl) ?_
  refine lv_iconst (v := 2) hx hb dX5_join_3 (by decide) ?_
  refine lv_icmp_gt (tgt := 64) hx hb dX5_join_4 (by decide) (fun c9 => absurd c9 (by decide)) (fun _ => ?_)
  refine lv_aload_n hx hb dX5_join_7 rfl (lv_at hl 3 rfl) ?_
  refine lv_iload_n hx hb dX5_join_8 rfl (lv_at hl 0 rfl) ?_
  refine xr_iald hf hK hw 3 2 rfl 1 (by decide) (by decide) (Nat.le_of_ble_eq_true rfl) rfl dX5_join_9 ?_
  refine lv_if_ne (tgt := 16) hx hb dX5_join_10 (by decide) (fun c9 => absurd c9 (not_not_intro (by rw [hk.2.1]; rfl))) (fun _ => ?_)
  refine lv_goto (tgt := 58) hx hb dX5_join_13 (by decide) ?_
  refine lv_iinc (v := 2) (lv' := [(3, .int 2), (0, .ref b), (1, .ref h0), (2, .ref h2)]) hx hb dX5_join_58 hl (k := 0) rfl (by decide) (by decide) rfl (fun ls hl => ?_)
  refine lv_goto (tgt := 2) hx hb dX5_join_61 (by decide) ?_
  refine lv_iload_n hx hb dX5_join_2 rfl (lv_at hl 0 rfl) ?_
  refine lv_iconst (v := 2) hx hb dX5_join_3 (by decide) ?_
  refine lv_icmp_gt (tgt := 64) hx hb dX5_join_4 (by decide) (fun c9 => absurd c9 (by decide)) (fun _ => ?_)
  refine lv_aload_n hx hb dX5_join_7 rfl (lv_at hl 3 rfl) ?_
  refine lv_iload_n hx hb dX5_join_8 rfl (lv_at hl 0 rfl) ?_
  refine xr_iald hf hK hw 3 2 rfl 2 (by decide) (by decide) (Nat.le_of_ble_eq_true rfl) rfl dX5_join_9 ?_
  refine lv_if_ne (tgt := 16) hx hb dX5_join_10 (by decide) (fun _ => ?_) (fun c9 => absurd c9 (nI_ne0 hk.2.2 (by unfold lfN at hlf; omega)))
  refine lv_aload_n hx hb dX5_join_16 rfl (lv_at hl 3 rfl) ?_
  refine lv_iload_n hx hb dX5_join_17 rfl (lv_at hl 0 rfl) ?_
  refine lv_dup2_11 hx hb dX5_join_18 rfl rfl ?_
  refine xr_iald hf hK hw 3 2 rfl 2 (by decide) (by decide) (Nat.le_of_ble_eq_true rfl) rfl dX5_join_19 ?_
  refine lv_iconst (v := 1) hx hb dX5_join_20 (by decide) ?_
  refine lv_isub hx hb dX5_join_21 ?_
  refine xr_iast (LL' := [[ob b 4 [.ref fa]], ((ob fa 15 [.int u, .ref (al_d g st), .int (nI (ads mf).length)]) :: (al_t dT st (ads mf))), (mf.flatMap (mfE dT)), [ob h0 10 [.int (nI ln), .int (nI sz), .int x2, .ref h1, .ref h2, .int x9, .int x10], (h1, aI dT [x3, x4, x5]), (h2, aI dT [(nI lf.1), (nI lf.2.1), ((nI lf.2.2) - 1)])]]) hf hK hw 3 2 rfl 2 (by decide) (by decide) (Nat.le_of_ble_eq_true rfl) rfl dX5_join_22 (fun H locs hw => ?_)
  refine lv_aload_n hx hb dX5_join_23 rfl (lv_at hl 1 rfl) ?_
  refine xr_get hf hK hw 0 0 rfl rfl in_X5 0 (by decide) q1107 (fun _ h => h) rfl dX5_join_24 ?_
  refine lv_iconst (v := 4) hx hb dX5_join_27 (by decide) ?_
  refine xr_newi hf hK hw hA q463 (N := 4) (by decide) (by decide) (Nat.le_of_ble_eq_true rfl) (by first | omega | (dsimp only; omega)) (by first | omega | (dsimp only; omega)) dX5_join_28 (fun qa1 H hw => ?_)
  have hw : Wd D A s.heap _ _ [[ob b 4 [.ref fa]], ((ob fa 15 [.int u, .ref (al_d g st), .int (nI (ads mf).length)]) :: (al_t dT st (ads mf))), (mf.flatMap (mfE dT)), [ob h0 10 [.int (nI ln), .int (nI sz), .int x2, .ref h1, .ref h2, .int x9, .int x10], (h1, aI dT [x3, x4, x5]), (h2, aI dT [(nI lf.1), (nI lf.2.1), ((nI lf.2.2) - 1)])], [(qa1, aI dT [0, 0, 0, 0])]] := hw
  refine lv_dup hx hb dX5_join_30 rfl ?_
  refine lv_iconst (v := 0) hx hb dX5_join_31 (by decide) ?_
  refine lv_iload_n hx hb dX5_join_32 rfl (lv_at hl 0 rfl) ?_
  refine xr_iast (LL' := [[ob b 4 [.ref fa]], ((ob fa 15 [.int u, .ref (al_d g st), .int (nI (ads mf).length)]) :: (al_t dT st (ads mf))), (mf.flatMap (mfE dT)), [ob h0 10 [.int (nI ln), .int (nI sz), .int x2, .ref h1, .ref h2, .int x9, .int x10], (h1, aI dT [x3, x4, x5]), (h2, aI dT [(nI lf.1), (nI lf.2.1), ((nI lf.2.2) - 1)])], [(qa1, aI dT [2, 0, 0, 0])]]) hf hK hw 4 0 rfl 0 (by decide) (by decide) (Nat.le_of_ble_eq_true rfl) rfl dX5_join_33 (fun H locs hw => ?_)
  refine lv_dup hx hb dX5_join_34 rfl ?_
  refine lv_iconst (v := 1) hx hb dX5_join_35 (by decide) ?_
  refine lv_aload_n hx hb dX5_join_36 rfl (lv_at hl 2 rfl) ?_
  refine xr_get hf hK hw 3 0 rfl rfl in_X11 1 (by decide) q1392 (fun _ h => h) rfl dX5_join_37 ?_
  refine xr_iast (LL' := [[ob b 4 [.ref fa]], ((ob fa 15 [.int u, .ref (al_d g st), .int (nI (ads mf).length)]) :: (al_t dT st (ads mf))), (mf.flatMap (mfE dT)), [ob h0 10 [.int (nI ln), .int (nI sz), .int x2, .ref h1, .ref h2, .int x9, .int x10], (h1, aI dT [x3, x4, x5]), (h2, aI dT [(nI lf.1), (nI lf.2.1), ((nI lf.2.2) - 1)])], [(qa1, aI dT [2, (nI sz), 0, 0])]]) hf hK hw 4 0 rfl 1 (by decide) (by decide) (Nat.le_of_ble_eq_true rfl) rfl dX5_join_40 (fun H locs hw => ?_)
  refine lv_dup hx hb dX5_join_41 rfl ?_
  refine lv_iconst (v := 2) hx hb dX5_join_42 (by decide) ?_
  refine lv_aload_n hx hb dX5_join_43 rfl (lv_at hl 2 rfl) ?_
  refine xr_get hf hK hw 3 0 rfl rfl in_X11 0 (by decide) q1389 (fun _ h => h) rfl dX5_join_44 ?_
  refine xr_iast (LL' := [[ob b 4 [.ref fa]], ((ob fa 15 [.int u, .ref (al_d g st), .int (nI (ads mf).length)]) :: (al_t dT st (ads mf))), (mf.flatMap (mfE dT)), [ob h0 10 [.int (nI ln), .int (nI sz), .int x2, .ref h1, .ref h2, .int x9, .int x10], (h1, aI dT [x3, x4, x5]), (h2, aI dT [(nI lf.1), (nI lf.2.1), ((nI lf.2.2) - 1)])], [(qa1, aI dT [2, (nI sz), (nI ln), 0])]]) hf hK hw 4 0 rfl 2 (by decide) (by decide) (Nat.le_of_ble_eq_true rfl) rfl dX5_join_47 (fun H locs hw => ?_)
  refine lv_dup hx hb dX5_join_48 rfl ?_
  refine lv_iconst (v := 3) hx hb dX5_join_49 (by decide) ?_
  refine lv_iconst (v := 0) hx hb dX5_join_50 (by decide) ?_
  refine xr_iast (LL' := [[ob b 4 [.ref fa]], ((ob fa 15 [.int u, .ref (al_d g st), .int (nI (ads mf).length)]) :: (al_t dT st (ads mf))), (mf.flatMap (mfE dT)), [ob h0 10 [.int (nI ln), .int (nI sz), .int x2, .ref h1, .ref h2, .int x9, .int x10], (h1, aI dT [x3, x4, x5]), (h2, aI dT [(nI lf.1), (nI lf.2.1), ((nI lf.2.2) - 1)])], [(qa1, aI dT [2, (nI sz), (nI ln), 0])]]) hf hK hw 4 0 rfl 3 (by decide) (by decide) (Nat.le_of_ble_eq_true rfl) rfl dX5_join_51 (fun H locs hw => ?_)
  refine xc_V (rest := []) (As := [.ref qa1]) hf hK hA hAz hst (hw.pick [1, 1, 2] rfl rfl rfl) (k_J2_add l D dT g z0 fa st u (ads mf) qa1 [(mf.flatMap (mfE dT)), [(qa1, aI dT [2, (nI sz), (nI ln), 0])]] hok (el_F (ok_mf dT) List.mem_cons_self) (el_1 (List.mem_cons_of_mem _ List.mem_cons_self) List.mem_cons_self ⟨rfl, _, rfl⟩)) (cwV 1 hts (lw_V q1500 q133 q134 q47 q135) rfl rfl rfl (by decide +kernel) ⟨Nat.le_of_ble_eq_true rfl, Nat.le_of_ble_eq_true rfl⟩) (xr_rv hK hw 1 0 rfl rfl) rfl hl.1 rfl (Nat.le_of_ble_eq_true rfl) dX5_join_52 ⟨(by first | omega | (dsimp only; omega)), (by first | omega | (dsimp only; omega))⟩ (fun _ _ _ _ _ _ h => h.elim) (fun v9 LL1 H locs hp hw => ?_)
  obtain ⟨dn_2, rfl, rfl⟩ := hp
  have hw : Wd D A s.heap _ _ [((ob fa 15 [.int (u + 1), .ref (al_d g (al_n st (ads mf) dn_2)), .int (nI (((ads mf) ++ [qa1])).length)]) :: (al_t dT (al_n st (ads mf) dn_2) ((ads mf) ++ [qa1]))), (mf.flatMap (mfE dT)), [(qa1, aI dT [2, (nI sz), (nI ln), 0])], [ob b 4 [.ref fa]], [ob h0 10 [.int (nI ln), .int (nI sz), .int x2, .ref h1, .ref h2, .int x9, .int x10], (h1, aI dT [x3, x4, x5]), (h2, aI dT [(nI lf.1), (nI lf.2.1), ((nI lf.2.2) - 1)])]] := hw
  refine W.eq (g2 := F0 m 55 ls [.int 1]) rfl ?_
  have hw : Wd D A s.heap _ _ [((ob fa 15 [.int (u + 1), .ref (al_d g (al_n st (ads mf) dn_2)), .int (nI (((ads mf) ++ [qa1])).length)]) :: (al_t dT (al_n st (ads mf) dn_2) ((ads mf) ++ [qa1]))), (mf.flatMap (mfE dT)), [(qa1, aI dT [(nI 2), (nI sz), (nI ln), (nI 0)])], [ob b 4 [.ref fa]], [ob h0 10 [.int (nI ln), .int (nI sz), .int x2, .ref h1, .ref h2, .int x9, .int x10], (h1, aI dT [x3, x4, x5]), (h2, aI dT [(nI lf.1), (nI lf.2.1), ((nI lf.2.2) - 1)])]] := hw
  have hw : Wd D A s.heap _ _ [(mf.flatMap (mfE dT)), [(qa1, aI dT [(nI 2), (nI sz), (nI ln), (nI 0)])], ((ob fa 15 [.int (u + 1), .ref (al_d g (al_n st (ads mf) dn_2)), .int (nI (((ads mf) ++ [qa1])).length)]) :: (al_t dT (al_n st (ads mf) dn_2) ((ads mf) ++ [qa1]))), [ob b 4 [.ref fa]], [ob h0 10 [.int (nI ln), .int (nI sz), .int x2, .ref h1, .ref h2, .int x9, .int x10], (h1, aI dT [x3, x4, x5]), (h2, aI dT [(nI lf.1), (nI lf.2.1), ((nI lf.2.2) - 1)])]] := hw.pick [1, 1] rfl rfl rfl
  have hw : Wd D A s.heap _ _ [((mf ++ [(qa1, (ln, 0, sz, 2))]).flatMap (mfE dT)), ((ob fa 15 [.int (u + 1), .ref (al_d g (al_n st (ads mf) dn_2)), .int (nI (((ads mf) ++ [qa1])).length)]) :: (al_t dT (al_n st (ads mf) dn_2) ((ads mf) ++ [qa1]))), [ob b 4 [.ref fa]], [ob h0 10 [.int (nI ln), .int (nI sz), .int x2, .ref h1, .ref h2, .int x9, .int x10], (h1, aI dT [x3, x4, x5]), (h2, aI dT [(nI lf.1), (nI lf.2.1), ((nI lf.2.2) - 1)])]] := Wd.push1 (q := (qa1, (ln, 0, sz, 2))) (L := mf) hw
  rw [nI_sub1 hk.2.2] at hw
  have e9 : ads (mf ++ [(qa1, (ln, 0, sz, 2))]) = ads mf ++ [qa1] := ads_snoc _ _
  rw [← e9] at hw
  have hw : Wd D A s.heap _ _ [((mf ++ [(qa1, (ln, 0, sz, 2))]).flatMap (mfE dT)), ((ob fa 15 [.int (u + 1), .ref (al_d g (al_n st (ads mf) dn_2)), .int (nI (ads (mf ++ [(qa1, (ln, 0, sz, 2))])).length)]) :: (al_t dT (al_n st (ads mf) dn_2) (ads (mf ++ [(qa1, (ln, 0, sz, 2))])))), [ob b 4 [.ref fa]], [ob h0 10 [.int (nI ln), .int (nI sz), .int x2, .ref h1, .ref h2, .int x9, .int x10], (h1, aI dT [x3, x4, x5]), (h2, aI dT [(nI (lf.1, lf.2.1, lf.2.2 - 1).1), (nI (lf.1, lf.2.1, lf.2.2 - 1).2.1), (nI (lf.1, lf.2.1, lf.2.2 - 1).2.2)])]] := hw
  have hw : Wd D A s.heap _ _ [[ob b 4 [.ref fa]], ((ob fa 15 [.int (u + 1), .ref (al_d g (al_n st (ads mf) dn_2)), .int (nI (ads (mf ++ [(qa1, (ln, 0, sz, 2))])).length)]) :: (al_t dT (al_n st (ads mf) dn_2) (ads (mf ++ [(qa1, (ln, 0, sz, 2))])))), ((mf ++ [(qa1, (ln, 0, sz, 2))]).flatMap (mfE dT)), [ob h0 10 [.int (nI ln), .int (nI sz), .int x2, .ref h1, .ref h2, .int x9, .int x10], (h1, aI dT [x3, x4, x5]), (h2, aI dT [(nI (lf.1, lf.2.1, lf.2.2 - 1).1), (nI (lf.1, lf.2.1, lf.2.2 - 1).2.1), (nI (lf.1, lf.2.1, lf.2.2 - 1).2.2)])]] := Wd.take hw [2, 1, 0, 0] rfl rfl
  refine lv_pop hx hb dX5_join_55 rfl ?_
  refine lv_iconst (v := 1) hx hb dX5_join_56 (by decide) ?_
  exact xr_zret hf hr hlocks hw (by first | omega | (dsimp only; omega)) (by first | omega | (dsimp only; omega)) rfl ⟨qa1, dn_2, rfl, rfl⟩ dX5_join_57

