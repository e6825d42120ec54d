/-! 83.mgo (printed by gen/silk.py) -/
set_option maxRecDepth 100000
set_option maxHeartbeats 4000000 in
theorem wl_mgo {p : Program} {l : Launch} {e : Env} {s : State} {m : MethodId} {args : Array Value} {below : List Frame} {meth : Method} {c : Code} {A : Nat → Prop} {Q : State → Prop} {D : va_G} {dT g : Nat → Nat} {z0 mc ms : Nat} (hf : CallFix p m c cX5_go 4 s args lw_all "SilkRowModel$Basin") (hK : KK D dT g z0 s s.heap) (hA : ∀ q, s.heap.size ≤ q → A q) (hAz : ∀ q, A q → zA z0 q) (hst : l.stackTraces = false) {b fa d cap kc ks qs qb n0 : Nat} {RL : List FvT} {SK : Nat → Int32} (hC : cap < 4096) (hmc : kc ≤ mc) (hms : ks ≤ ms) (K69 : ∀ (mf : MfT) (v : Nat → Int32) (u : Int32) (ls : Array Slot) (H : Heap) (locs : List Loc), RL = valm mf → SK = v → (∀ q ∈ mf, okF q.2) → mf.length ≤ n0 → Wd D A s.heap H locs [[ob b 4 [.ref fa]], [ob fa 15 [.int u, .ref d, .int (nI (ads mf).length)], (d, aR dT 1 cap (fun i => (ads mf)[i]?))], (mf.flatMap (mfE dT)), [ob qs 13 [.int (v 0), .int (v 1), .int (v 2), .int (v 3), .ref qb, .int (bz (v 4))], (qb, aI dT [v 5, v 6, v 7, v 8])]] → W p l e ({ frames := 7, cells := mc, slots := ms, locals := 200 }) s m args below meth c H locs kc ks Q (F0 m 69 ls [])) : ∀ (rem kept : MfT) (v : Nat → Int32) (u : Int32) (ls : Array Slot) (H : Heap) (locs : List Loc), (kept ++ rem).length ≤ cap → (kept ++ rem).length ≤ n0 → RL = valm kept ++ goL (valm rem) → SK = skG v (valm rem) → (∀ q ∈ kept ++ rem, okF q.2) → lv_has ls 4 [(2, .int (nI kept.length)), (1, .ref qs), (0, .ref b)] → Wd D A s.heap H locs [[ob b 4 [.ref fa]], [ob fa 15 [.int u, .ref d, .int (nI (ads (kept ++ rem)).length)], (d, aR dT 1 cap (fun i => (ads (kept ++ rem))[i]?))], ((kept ++ rem).flatMap (mfE dT)), [ob qs 13 [.int (v 0), .int (v 1), .int (v 2), .int (v 3), .ref qb, .int (bz (v 4))], (qb, aI dT [v 5, v 6, v 7, v 8])]] → W p l e ({ frames := 7, cells := mc, slots := ms, locals := 200 }) s m args below meth c H locs kc ks Q (F0 m 2 ls []) := by
  have hx := hf.1
  have hb := hf.2.1
  have hts := hf.2.2.2.2
  intro rem
  induction rem with
  | nil =>
    intro kept v u ls H locs hcap hn0 hRL hSK hfi hl hw
    have hN : (ads (kept ++ [])).length = kept.length := by rw [ads_len, List.append_nil]
    have hcap2 : kept.length ≤ cap := by rw [List.append_nil] at hcap; exact hcap
    have hw : Wd D A s.heap _ _ [[ob b 4 [.ref fa]], [ob fa 15 [.int u, .ref d, .int (nI (ads (kept ++ [])).length)], (d, aR dT 1 cap (fun i => (ads (kept ++ []))[i]?))], ((kept ++ []).flatMap (mfE dT)), [ob qs 13 [.int (v 0), .int (v 1), .int (v 2), .int (v 3), .ref qb, .int (bz (v 4))], (qb, aI dT [v 5, v 6, v 7, v 8])]] := hw
    refine lv_iload_n hx hb dX5_go_2 rfl (lv_at hl 0 rfl) ?_
    refine lv_aload_n hx hb dX5_go_3 rfl (lv_at hl 2 rfl) ?_
    refine xr_get hf hK hw 0 0 rfl rfl in_X5 0 (by decide) q1107 (fun _ h => h) rfl dX5_go_4 ?_
    refine xc_V (rest := [.int (nI kept.length)]) (As := []) hf hK hA hAz hst (hw.pick [1] rfl rfl rfl) (k_J2_size l D dT g z0 fa u (nI (ads (kept ++ [])).length) (.ref d) ((d, aR dT 1 cap (fun i => (ads (kept ++ []))[i]?)) :: [])) (cwV 0 hts (lw_V q1484 q359 q360 q47 q361) rfl rfl rfl (by decide +kernel) ⟨Nat.le_of_ble_eq_true rfl, Nat.le_of_ble_eq_true rfl⟩) (xr_rv hK hw 1 0 rfl rfl) rfl hl.1 rfl (Nat.le_of_ble_eq_true rfl) dX5_go_7 ⟨(by first | omega | (dsimp only; omega)), (by first | omega | (dsimp only; omega))⟩ (fun _ _ _ _ _ _ h => h.elim) (fun v9 LL1 H locs hp hw => ?_)
    obtain ⟨rfl, rfl⟩ := hp
    have hw : Wd D A s.heap _ _ [[ob fa 15 [.int u, .ref d, .int (nI (ads (kept ++ [])).length)], (d, aR dT 1 cap (fun i => (ads (kept ++ []))[i]?))], [ob b 4 [.ref fa]], ((kept ++ []).flatMap (mfE dT)), [ob qs 13 [.int (v 0), .int (v 1), .int (v 2), .int (v 3), .ref qb, .int (bz (v 4))], (qb, aI dT [v 5, v 6, v 7, v 8])]] := hw
    refine W.eq (g2 := F0 m 10 ls [.int (nI (ads (kept ++ [])).length), .int (nI kept.length)]) rfl ?_
    refine lv_icmp_ge (tgt := 69) hx hb dX5_go_10 (by decide) (fun _ => ?_) (fun c9 => absurd c9 (not_not_intro (nI_le (by omega) (by omega))))
    have hw : Wd D A s.heap _ _ [[ob b 4 [.ref fa]], [ob fa 15 [.int u, .ref d, .int (nI (ads (kept ++ [])).length)], (d, aR dT 1 cap (fun i => (ads (kept ++ []))[i]?))], ((kept ++ []).flatMap (mfE dT)), [ob qs 13 [.int (v 0), .int (v 1), .int (v 2), .int (v 3), .ref qb, .int (bz (v 4))], (qb, aI dT [v 5, v 6, v 7, v 8])]] := Wd.take hw [1, 0, 0, 0] rfl rfl
    exact K69 (kept ++ []) v u _ _ _ (by rw [hRL, valm_app]; rfl) hSK hfi hn0 hw
  | cons q rem ih =>
    intro kept v u ls H locs hcap hn0 hRL hSK hfi hl hw
    have hN : (ads (kept ++ q :: rem)).length = kept.length + 1 + rem.length := by rw [ads_len, List.length_append, List.length_cons]; omega
    have hcap2 : kept.length + 1 + rem.length ≤ cap := by rw [List.length_append, List.length_cons] at hcap; omega
    have hg9 : (kept ++ q :: rem)[kept.length]? = some q := mid_get
    have hq9 : okF q.2 := hfi q (List.mem_append_right _ List.mem_cons_self)
    have hln4 : q.2.1 < 4 := hq9.1
    have hk9 : kept.length < 4096 := by omega
    have hc_q : (ads (kept ++ q :: rem)).length ≤ cap := by rw [ads_len]; exact hcap
    have hC_q := hC
    have hpl9 : (pcs q.2.2.2.2 q.2.2.2.1).getD (q.2.2.1 + 1) 0 < 2 ^ 31 := pcs_small hq9
    have hw : Wd D A s.heap _ _ [[ob b 4 [.ref fa]], [ob fa 15 [.int u, .ref d, .int (nI (ads (kept ++ q :: rem)).length)], (d, aR dT 1 cap (fun i => (ads (kept ++ q :: rem))[i]?))], ((kept ++ q :: rem).flatMap (mfE dT)), [ob qs 13 [.int (v 0), .int (v 1), .int (v 2), .int (v 3), .ref qb, .int (bz (v 4))], (qb, aI dT [v 5, v 6, v 7, v 8])]] := hw
    refine lv_iload_n hx hb dX5_go_2 rfl (lv_at hl 0 rfl) ?_
    refine lv_aload_n hx hb dX5_go_3 rfl (lv_at hl 2 rfl) ?_
    refine xr_get hf hK hw 0 0 rfl rfl in_X5 0 (by decide) q1107 (fun _ h => h) rfl dX5_go_4 ?_
    refine xc_V (rest := [.int (nI kept.length)]) (As := []) hf hK hA hAz hst (hw.pick [1] rfl rfl rfl) (k_J2_size l D dT g z0 fa u (nI (ads (kept ++ q :: rem)).length) (.ref d) ((d, aR dT 1 cap (fun i => (ads (kept ++ q :: rem))[i]?)) :: [])) (cwV 0 hts (lw_V q1484 q359 q360 q47 q361) rfl rfl rfl (by decide +kernel) ⟨Nat.le_of_ble_eq_true rfl, Nat.le_of_ble_eq_true rfl⟩) (xr_rv hK hw 1 0 rfl rfl) rfl hl.1 rfl (Nat.le_of_ble_eq_true rfl) dX5_go_7 ⟨(by first | omega | (dsimp only; omega)), (by first | omega | (dsimp only; omega))⟩ (fun _ _ _ _ _ _ h => h.elim) (fun v9 LL1 H locs hp hw => ?_)
    obtain ⟨rfl, rfl⟩ := hp
    have hw : Wd D A s.heap _ _ [[ob fa 15 [.int u, .ref d, .int (nI (ads (kept ++ q :: rem)).length)], (d, aR dT 1 cap (fun i => (ads (kept ++ q :: rem))[i]?))], [ob b 4 [.ref fa]], ((kept ++ q :: rem).flatMap (mfE dT)), [ob qs 13 [.int (v 0), .int (v 1), .int (v 2), .int (v 3), .ref qb, .int (bz (v 4))], (qb, aI dT [v 5, v 6, v 7, v 8])]] := hw
    refine W.eq (g2 := F0 m 10 ls [.int (nI (ads (kept ++ q :: rem)).length), .int (nI kept.length)]) rfl ?_
    refine lv_icmp_ge (tgt := 69) hx hb dX5_go_10 (by decide) (fun c9 => absurd c9 (nI_ge (by omega) (by omega))) (fun _ => ?_)
    refine lv_aload_n hx hb dX5_go_13 rfl (lv_at hl 2 rfl) ?_
    refine xr_get hf hK hw 1 0 rfl rfl in_X5 0 (by decide) q1107 (fun _ h => h) rfl dX5_go_14 ?_
    refine lv_iload_n hx hb dX5_go_17 rfl (lv_at hl 0 rfl) ?_
    refine lv_as (y := nI kept.length) rfl ?_
    refine xc_V (rest := []) (As := [.int (nI kept.length)]) hf hK hA hAz hst (hw.pick [0] rfl rfl rfl) (k_J2_get l D dT g z0 fa d cap u (ads (kept ++ q :: rem)) kept.length q.1 hc_q hC_q (ads_lt hg9) (ads_some hg9)) (cwV 1 hts (lw_V q1485 q394 q395 q47 q396) rfl rfl rfl (by decide +kernel) ⟨Nat.le_of_ble_eq_true rfl, Nat.le_of_ble_eq_true rfl⟩) (xr_rv hK hw 0 0 rfl rfl) rfl hl.1 rfl (Nat.le_of_ble_eq_true rfl) dX5_go_18 ⟨(by first | omega | (dsimp only; omega)), (by first | omega | (dsimp only; omega))⟩ (fun _ _ _ _ _ _ h => h.elim) (fun v9 LL1 H locs hp hw => ?_)
    obtain ⟨rfl, rfl⟩ := hp
    have hw : Wd D A s.heap _ _ [[ob fa 15 [.int u, .ref d, .int (nI (ads (kept ++ q :: rem)).length)], (d, aR dT 1 cap (fun i => (ads (kept ++ q :: rem))[i]?))], [ob b 4 [.ref fa]], ((kept ++ q :: rem).flatMap (mfE dT)), [ob qs 13 [.int (v 0), .int (v 1), .int (v 2), .int (v 3), .ref qb, .int (bz (v 4))], (qb, aI dT [v 5, v 6, v 7, v 8])]] := hw
    refine W.eq (g2 := F0 m 21 ls [.ref q.1]) rfl ?_
    have hw : Wd D A s.heap _ _ [((kept ++ q :: rem).flatMap (mfE dT)), [ob fa 15 [.int u, .ref d, .int (nI (ads (kept ++ q :: rem)).length)], (d, aR dT 1 cap (fun i => (ads (kept ++ q :: rem))[i]?))], [ob b 4 [.ref fa]], [ob qs 13 [.int (v 0), .int (v 1), .int (v 2), .int (v 3), .ref qb, .int (bz (v 4))], (qb, aI dT [v 5, v 6, v 7, v 8])]] := hw.pick [2] rfl rfl rfl
    have hw : Wd D A s.heap _ _ [[(q.1, aI dT [(nI q.2.2.2.2), (nI q.2.2.2.1), (nI q.2.1), (nI q.2.2.1)])], (((kept ++ q :: rem).eraseIdx kept.length).flatMap (mfE dT)), [ob fa 15 [.int u, .ref d, .int (nI (ads (kept ++ q :: rem)).length)], (d, aR dT 1 cap (fun i => (ads (kept ++ q :: rem))[i]?))], [ob b 4 [.ref fa]], [ob qs 13 [.int (v 0), .int (v 1), .int (v 2), .int (v 3), .ref qb, .int (bz (v 4))], (qb, aI dT [v 5, v 6, v 7, v 8])]] := hw.foc hg9
    refine xr_castI (n := 0) hf hK hw 0 0 rfl q1486 dX5_go_21 ?_
    refine lv_astore_n (lv' := [(3, .ref q.1), (2, .int (nI kept.length)), (1, .ref qs), (0, .ref b)]) hx hb dX5_go_24 rfl hl (by decide) rfl (fun ls hl => ?_)
    refine lv_aload_n hx hb dX5_go_25 rfl (lv_at hl 2 rfl) ?_
    refine xr_get hf hK hw 4 0 rfl rfl in_X14 4 (by decide) q1464 (fun _ h => h) rfl dX5_go_26 ?_
    refine lv_aload_n hx hb dX5_go_29 rfl (lv_at hl 0 rfl) ?_
    refine lv_iconst (v := 2) hx hb dX5_go_30 (by decide) ?_
    refine xr_iald hf hK hw 0 0 rfl 2 (by decide) (by decide) (Nat.le_of_ble_eq_true rfl) rfl dX5_go_31 ?_
    refine lv_dup2_11 hx hb dX5_go_32 rfl rfl ?_
    refine xr_iald hf hK hw 4 1 rfl q.2.1 (nI_pos (by omega)) (nI_clamp (by omega)) hln4 rfl dX5_go_33 ?_
    refine lv_iconst (v := 1) hx hb dX5_go_34 (by decide) ?_
    refine lv_iadd hx hb dX5_go_35 ?_
    refine xr_iast (LL' := [[(q.1, aI dT [(nI q.2.2.2.2), (nI q.2.2.2.1), (nI q.2.1), (nI q.2.2.1)])], (((kept ++ q :: rem).eraseIdx kept.length).flatMap (mfE dT)), [ob fa 15 [.int u, .ref d, .int (nI (ads (kept ++ q :: rem)).length)], (d, aR dT 1 cap (fun i => (ads (kept ++ q :: rem))[i]?))], [ob b 4 [.ref fa]], [ob qs 13 [.int (v 0), .int (v 1), .int (v 2), .int (v 3), .ref qb, .int (bz (v 4))], (qb, aI dT (([v 5, v 6, v 7, v 8]).set q.2.1 ((([v 5, v 6, v 7, v 8]).getD q.2.1 0) + 1)))]]) hf hK hw 4 1 rfl q.2.1 (nI_pos (by omega)) (nI_clamp (by omega)) hln4 rfl dX5_go_36 (fun H locs hw => ?_)
    rw [sk_put hln4, ← sk_low (w := v) (k := q.2.1) (i := 0) (by decide), ← sk_low (w := v) (k := q.2.1) (i := 1) (by decide), ← sk_low (w := v) (k := q.2.1) (i := 2) (by decide), ← sk_low (w := v) (k := q.2.1) (i := 3) (by decide), ← sk_low (w := v) (k := q.2.1) (i := 4) (by decide)] at hw
    have hw : Wd D A s.heap _ _ [[(q.1, aI dT [(nI q.2.2.2.2), (nI q.2.2.2.1), (nI q.2.1), (nI q.2.2.1)])], (((kept ++ q :: rem).eraseIdx kept.length).flatMap (mfE dT)), [ob fa 15 [.int u, .ref d, .int (nI (ads (kept ++ q :: rem)).length)], (d, aR dT 1 cap (fun i => (ads (kept ++ q :: rem))[i]?))], [ob b 4 [.ref fa]], [ob qs 13 [.int ((skI v q.2.1) 0), .int ((skI v q.2.1) 1), .int ((skI v q.2.1) 2), .int ((skI v q.2.1) 3), .ref qb, .int (bz ((skI v q.2.1) 4))], (qb, aI dT [(skI v q.2.1) 5, (skI v q.2.1) 6, (skI v q.2.1) 7, (skI v q.2.1) 8])]] := hw
    refine lv_aload_n hx hb dX5_go_37 rfl (lv_at hl 0 rfl) ?_
    refine lv_iconst (v := 3) hx hb dX5_go_38 (by decide) ?_
    refine lv_dup2_11 hx hb dX5_go_39 rfl rfl ?_
    refine xr_iald hf hK hw 0 0 rfl 3 (by decide) (by decide) (Nat.le_of_ble_eq_true rfl) rfl dX5_go_40 ?_
    refine lv_iconst (v := 1) hx hb dX5_go_41 (by decide) ?_
    refine lv_iadd hx hb dX5_go_42 ?_
    refine lv_as (y := (nI (q.2.2.1 + 1))) (nI_1 _) ?_
    refine xr_iast (LL' := [[(q.1, aI dT [(nI q.2.2.2.2), (nI q.2.2.2.1), (nI q.2.1), (nI (q.2.2.1 + 1))])], (((kept ++ q :: rem).eraseIdx kept.length).flatMap (mfE dT)), [ob fa 15 [.int u, .ref d, .int (nI (ads (kept ++ q :: rem)).length)], (d, aR dT 1 cap (fun i => (ads (kept ++ q :: rem))[i]?))], [ob b 4 [.ref fa]], [ob qs 13 [.int ((skI v q.2.1) 0), .int ((skI v q.2.1) 1), .int ((skI v q.2.1) 2), .int ((skI v q.2.1) 3), .ref qb, .int (bz ((skI v q.2.1) 4))], (qb, aI dT [(skI v q.2.1) 5, (skI v q.2.1) 6, (skI v q.2.1) 7, (skI v q.2.1) 8])]]) hf hK hw 0 0 rfl 3 (by decide) (by decide) (Nat.le_of_ble_eq_true rfl) rfl dX5_go_43 (fun H locs hw => ?_)
    refine lv_aload_n hx hb dX5_go_44 rfl (lv_at hl 0 rfl) ?_
    refine xc_S (rest := []) (As := [.ref q.1]) hf hK hA hAz hst (hw.pick [0] rfl rfl rfl) (k_X5_next l D dT g z0 q.1 q.2.2.2.2 q.2.2.2.1 q.2.1 (q.2.2.1 + 1) hq9.2.2.2.2 hq9.2.2.1 hq9.2.2.2.1 (by have := hq9.2.1; have := @pcs_len q.2.2.2.2 q.2.2.2.1; omega)) (va_cwS 1 hts (lw_S q1487 q1488 q55 q1489) rfl rfl rfl (by decide +kernel) ⟨Nat.le_of_ble_eq_true rfl, Nat.le_of_ble_eq_true rfl⟩) rfl hl.1 rfl (Nat.le_of_ble_eq_true rfl) dX5_go_45 ⟨(by first | omega | (dsimp only; omega)), (by first | omega | (dsimp only; omega))⟩ (fun _ _ _ _ _ _ h => h.elim) (fun v9 LL1 H locs hp hw => ?_)
    obtain ⟨rfl, rfl⟩ := hp
    have hw : Wd D A s.heap _ _ [[(q.1, aI dT [(nI q.2.2.2.2), (nI q.2.2.2.1), (nI q.2.1), (nI (q.2.2.1 + 1))])], (((kept ++ q :: rem).eraseIdx kept.length).flatMap (mfE dT)), [ob fa 15 [.int u, .ref d, .int (nI (ads (kept ++ q :: rem)).length)], (d, aR dT 1 cap (fun i => (ads (kept ++ q :: rem))[i]?))], [ob b 4 [.ref fa]], [ob qs 13 [.int ((skI v q.2.1) 0), .int ((skI v q.2.1) 1), .int ((skI v q.2.1) 2), .int ((skI v q.2.1) 3), .ref qb, .int (bz ((skI v q.2.1) 4))], (qb, aI dT [(skI v q.2.1) 5, (skI v q.2.1) 6, (skI v q.2.1) 7, (skI v q.2.1) 8])]] := hw
    refine W.eq (g2 := F0 m 48 ls [.int (nI ((pcs q.2.2.2.2 q.2.2.2.1).getD (q.2.2.1 + 1) 0))]) rfl ?_
    refine lv_if_ne (tgt := 63) hx hb dX5_go_48 (by decide) (fun c_48 => ?_) (fun c_48 => ?_)
    · have hE9 : ¬ q.2.2.1 + 1 = (pcs q.2.2.2.2 q.2.2.2.1).length := fun z => c_48 (by rw [(pc_end hq9).mpr z]; rfl)
      refine lv_iinc (v := (nI (kept.length + 1))) (lv' := [(2, .int (nI (kept.length + 1))), (3, .ref q.1), (1, .ref qs), (0, .ref b)]) hx hb dX5_go_63 hl (k := 1) rfl (nI_1 _) (by decide) rfl (fun ls hl => ?_)
      refine lv_goto (tgt := 2) hx hb dX5_go_66 (by decide) ?_
      have hw : Wd D A s.heap _ _ [(((kept ++ q :: rem).set kept.length (q.1, (q.2.1, (q.2.2.1 + 1), q.2.2.2.1, q.2.2.2.2))).flatMap (mfE dT)), [ob fa 15 [.int u, .ref d, .int (nI (ads (kept ++ q :: rem)).length)], (d, aR dT 1 cap (fun i => (ads (kept ++ q :: rem))[i]?))], [ob b 4 [.ref fa]], [ob qs 13 [.int ((skI v q.2.1) 0), .int ((skI v q.2.1) 1), .int ((skI v q.2.1) 2), .int ((skI v q.2.1) 3), .ref qb, .int (bz ((skI v q.2.1) 4))], (qb, aI dT [(skI v q.2.1) 5, (skI v q.2.1) 6, (skI v q.2.1) 7, (skI v q.2.1) 8])]] := Wd.unf (q' := (q.1, (q.2.1, (q.2.2.1 + 1), q.2.2.2.1, q.2.2.2.2))) (L := (kept ++ q :: rem)) (k := kept.length) hw hg9
      have hA9 : ads (kept ++ q :: rem) = ads ((kept ++ [(q.1, (q.2.1, (q.2.2.1 + 1), q.2.2.2.1, q.2.2.2.2))]) ++ rem) := ads_step rfl
      rw [set_mid, hA9] at hw
      have hw : Wd D A s.heap _ _ [[ob b 4 [.ref fa]], [ob fa 15 [.int u, .ref d, .int (nI (ads ((kept ++ [(q.1, (q.2.1, (q.2.2.1 + 1), q.2.2.2.1, q.2.2.2.2))]) ++ rem)).length)], (d, aR dT 1 cap (fun i => (ads ((kept ++ [(q.1, (q.2.1, (q.2.2.1 + 1), q.2.2.2.1, q.2.2.2.2))]) ++ rem))[i]?))], (((kept ++ [(q.1, (q.2.1, (q.2.2.1 + 1), q.2.2.2.1, q.2.2.2.2))]) ++ rem).flatMap (mfE dT)), [ob qs 13 [.int ((skI v q.2.1) 0), .int ((skI v q.2.1) 1), .int ((skI v q.2.1) 2), .int ((skI v q.2.1) 3), .ref qb, .int (bz ((skI v q.2.1) 4))], (qb, aI dT [(skI v q.2.1) 5, (skI v q.2.1) 6, (skI v q.2.1) 7, (skI v q.2.1) 8])]] := Wd.take hw [2, 1, 0, 0] rfl rfl
      have hw : Wd D A s.heap _ _ [[ob b 4 [.ref fa]], [ob fa 15 [.int u, .ref d, .int (nI (ads ((kept ++ [(q.1, (q.2.1, (q.2.2.1 + 1), q.2.2.2.1, q.2.2.2.2))]) ++ rem)).length)], (d, aR dT 1 cap (fun i => (ads ((kept ++ [(q.1, (q.2.1, (q.2.2.1 + 1), q.2.2.2.1, q.2.2.2.2))]) ++ rem))[i]?))], (((kept ++ [(q.1, (q.2.1, (q.2.2.1 + 1), q.2.2.2.1, q.2.2.2.2))]) ++ rem).flatMap (mfE dT)), [ob qs 13 [.int ((skI v q.2.1) 0), .int ((skI v q.2.1) 1), .int ((skI v q.2.1) 2), .int ((skI v q.2.1) 3), .ref qb, .int (bz ((skI v q.2.1) 4))], (qb, aI dT [(skI v q.2.1) 5, (skI v q.2.1) 6, (skI v q.2.1) 7, (skI v q.2.1) 8])]] := hw
      have hl9 := lv_sub hl [0, 2, 3] rfl
      rw [show kept.length + 1 = (kept ++ [(q.1, (q.2.1, (q.2.2.1 + 1), q.2.2.2.1, q.2.2.2.2))]).length by simp] at hl9
      exact ih (kept ++ [(q.1, (q.2.1, (q.2.2.1 + 1), q.2.2.2.1, q.2.2.2.2))]) _ _ _ _ _ (by rw [List.length_append, List.length_cons] at hcap; rw [List.length_append, List.length_append, List.length_singleton]; omega) (by rw [List.length_append, List.length_cons] at hn0; rw [List.length_append, List.length_append, List.length_singleton]; omega) (by rw [hRL, valm_app, List.append_assoc]; show valm kept ++ goL (q.2 :: valm rem) = _; rw [goL_on hE9]; rfl) hSK (fun q9 h9 => (by rcases List.mem_append.mp h9 with h8 | h8; rcases List.mem_append.mp h8 with h7 | h7; exact hfi q9 (List.mem_append_left _ h7); cases List.mem_singleton.mp h7; exact goV_ok hq9 hE9; exact hfi q9 (List.mem_append_right _ (List.mem_cons_of_mem _ h8)))) hl9 hw
    · have hE9 : q.2.2.1 + 1 = (pcs q.2.2.2.2 q.2.2.2.1).length := (pc_end hq9).mp (by exact (nI_eq (b := 0) hpl9 (by omega)).mp c_48)
      refine lv_aload_n hx hb dX5_go_51 rfl (lv_at hl 3 rfl) ?_
      refine xr_get hf hK hw 3 0 rfl rfl in_X5 0 (by decide) q1107 (fun _ h => h) rfl dX5_go_52 ?_
      refine lv_iload_n hx hb dX5_go_55 rfl (lv_at hl 1 rfl) ?_
      refine lv_iinc (v := ((nI kept.length) + (-1))) (lv' := [(2, .int ((nI kept.length) + (-1))), (3, .ref q.1), (1, .ref qs), (0, .ref b)]) hx hb dX5_go_56 hl (k := 1) rfl rfl (by decide) rfl (fun ls hl => ?_)
      refine xc_V (rest := []) (As := [.int (nI kept.length)]) hf hK hA hAz hst (hw.pick [2, 0, 0] rfl rfl rfl) (k_J2_remove_2 l D dT g z0 fa d cap u (ads (kept ++ q :: rem)) kept.length q.1 [[(q.1, aI dT [(nI q.2.2.2.2), (nI q.2.2.2.1), (nI q.2.1), (nI (q.2.2.1 + 1))])], (((kept ++ q :: rem).eraseIdx kept.length).flatMap (mfE dT))] (by rw [ads_len]; exact hcap) hC (ads_lt mid_get) (el_foc (ok_mf dT) mid_get List.mem_cons_self List.mem_cons_self ⟨rfl, _, rfl⟩) (ads_some mid_get)) (cwV 1 hts (lw_V q1512 q1513 q1514 q47 q1515) rfl rfl rfl (by decide +kernel) ⟨Nat.le_of_ble_eq_true rfl, Nat.le_of_ble_eq_true rfl⟩) (xr_rv hK hw 2 0 rfl rfl) rfl hl.1 rfl (Nat.le_of_ble_eq_true rfl) dX5_go_59 ⟨(by first | omega | (dsimp only; omega)), (by first | omega | (dsimp only; omega))⟩ (fun _ _ _ _ _ _ h => h.elim) (fun v9 LL1 H locs hp hw => ?_)
      obtain ⟨rfl, rfl⟩ := hp
      have hw : Wd D A s.heap _ _ [[ob fa 15 [.int (u + 1), .ref d, .int (nI ((ads (kept ++ q :: rem)).length - 1))], (d, aR dT 1 cap (fun i => ((ads (kept ++ q :: rem)).eraseIdx kept.length)[i]?))], [(q.1, aI dT [(nI q.2.2.2.2), (nI q.2.2.2.1), (nI q.2.1), (nI (q.2.2.1 + 1))])], (((kept ++ q :: rem).eraseIdx kept.length).flatMap (mfE dT)), [ob b 4 [.ref fa]], [ob qs 13 [.int ((skI v q.2.1) 0), .int ((skI v q.2.1) 1), .int ((skI v q.2.1) 2), .int ((skI v q.2.1) 3), .ref qb, .int (bz ((skI v q.2.1) 4))], (qb, aI dT [(skI v q.2.1) 5, (skI v q.2.1) 6, (skI v q.2.1) 7, (skI v q.2.1) 8])]] := hw
      refine W.eq (g2 := F0 m 62 ls [.ref q.1]) rfl ?_
      refine lv_pop hx hb dX5_go_62 rfl ?_
      refine lv_iinc (v := (((nI kept.length) + (-1)) + 1)) (lv' := [(2, .int (((nI kept.length) + (-1)) + 1)), (3, .ref q.1), (1, .ref qs), (0, .ref b)]) hx hb dX5_go_63 hl (k := 0) rfl rfl (by decide) rfl (fun ls hl => ?_)
      refine lv_goto (tgt := 2) hx hb dX5_go_66 (by decide) ?_
      have hw : Wd D A s.heap _ _ [[ob b 4 [.ref fa]], [ob fa 15 [.int (u + 1), .ref d, .int (nI ((ads (kept ++ q :: rem)).length - 1))], (d, aR dT 1 cap (fun i => ((ads (kept ++ q :: rem)).eraseIdx kept.length)[i]?))], (((kept ++ q :: rem).eraseIdx kept.length).flatMap (mfE dT)), [ob qs 13 [.int ((skI v q.2.1) 0), .int ((skI v q.2.1) 1), .int ((skI v q.2.1) 2), .int ((skI v q.2.1) 3), .ref qb, .int (bz ((skI v q.2.1) 4))], (qb, aI dT [(skI v q.2.1) 5, (skI v q.2.1) 6, (skI v q.2.1) 7, (skI v q.2.1) 8])]] := Wd.take hw [3, 0, 1, 1] rfl rfl
      rw [mid_erase, ads_mid_erase, show (ads (kept ++ q :: rem)).length - 1 = (ads (kept ++ rem)).length by rw [ads_len, ads_len, List.length_append, List.length_append, List.length_cons]; rfl] at hw
      have hw : Wd D A s.heap _ _ [[ob b 4 [.ref fa]], [ob fa 15 [.int (u + 1), .ref d, .int (nI (ads (kept ++ rem)).length)], (d, aR dT 1 cap (fun i => (ads (kept ++ rem))[i]?))], ((kept ++ rem).flatMap (mfE dT)), [ob qs 13 [.int ((skI v q.2.1) 0), .int ((skI v q.2.1) 1), .int ((skI v q.2.1) 2), .int ((skI v q.2.1) 3), .ref qb, .int (bz ((skI v q.2.1) 4))], (qb, aI dT [(skI v q.2.1) 5, (skI v q.2.1) 6, (skI v q.2.1) 7, (skI v q.2.1) 8])]] := hw
      have hl9 := lv_sub hl [0, 2, 3] rfl
      rw [show (((nI kept.length) + (-1)) + 1) = nI kept.length from by rw [pk_back]] at hl9
      exact ih kept _ _ _ _ _ (by rw [List.length_append, List.length_cons] at hcap; rw [List.length_append]; omega) (by rw [List.length_append, List.length_cons] at hn0; rw [List.length_append]; omega) (by rw [hRL]; show valm kept ++ goL (q.2 :: valm rem) = _; rw [goL_gone hE9]) hSK (fun q9 h9 => hfi q9 (by rcases List.mem_append.mp h9 with h8 | h8; exact List.mem_append_left _ h8; exact List.mem_append_right _ (List.mem_cons_of_mem _ h8))) hl9 hw
set_option maxHeartbeats 4000000 in
theorem k_X5_go (l : Launch) (D : va_G) (dT g : Nat → Nat) (z0 : Nat) (b : Nat) (fa : Nat) (u : Int32) (d : Nat) (cap : Nat) (mf : MfT) (qs : Nat) (qb : Nat) (v : Nat → Int32) (hc : (ads mf).length ≤ cap) (hC : cap < 4096) (hfi : ∀ q ∈ mf, okF q.2) : Con l D dT g z0 yX5_go (ws_ yX5_go cX5_go 4 none) ({ frames := 7, cells := 0, slots := 0, locals := 200 }) [.ref b, .ref qs] [[ob b 4 [.ref fa]], [ob fa 15 [.int u, .ref d, .int (nI (ads mf).length)], (d, aR dT 1 cap (fun i => (ads mf)[i]?))], (mf.flatMap (mfE dT)), [ob qs 13 [.int (v 0), .int (v 1), .int (v 2), .int (v 3), .ref qb, .int (bz (v 4))], (qb, aI dT [v 5, v 6, v 7, v 8])]] (fun r LL => ∃ (mf1 : MfT) (u1 : Int32) (v1 : Nat → Int32), (goL (valm mf) = valm mf1 ∧ skG v (valm mf) = v1 ∧ (∀ q ∈ mf1, okF q.2) ∧ mf1.length ≤ mf.length) ∧ r = none ∧ LL = [[ob b 4 [.ref fa]], [ob fa 15 [.int u1, .ref d, .int (nI (ads mf1).length)], (d, aR dT 1 cap (fun i => (ads mf1)[i]?))], (mf1.flatMap (mfE dT)), [ob qs 13 [.int (v1 0), .int (v1 1), .int (v1 2), .int (v1 3), .ref qb, .int (bz (v1 4))], (qb, aI dT [v1 5, v1 6, v1 7, v1 8])]]) noX 0 0 := by
  refine Con.of (maxL := 4) (ret := none) (by first | exact plainFor_of_name (by decide) | decide +kernel) (Nat.le_of_ble_eq_true rfl) ?_
  intro p e s m args below meth c A ls hf hr hlocks hnm hno hK hA hAz hw hl hst
  have hf : CallFix p m c cX5_go 4 s args lw_all "SilkRowModel$Basin" := hf
  have hnm : meth.name = "go" := hnm
  have hx := hf.1
  have hb := hf.2.1
  have hts := hf.2.2.2.2
  have hl : lv_has ls 4 [(0, .ref b), (1, .ref qs)] := hl
  have hw : Wd D A s.heap s.heap [] [[ob b 4 [.ref fa]], [ob fa 15 [.int u, .ref d, .int (nI (ads mf).length)], (d, aR dT 1 cap (fun i => (ads mf)[i]?))], (mf.flatMap (mfE dT)), [ob qs 13 [.int (v 0), .int (v 1), .int (v 2), .int (v 3), .ref qb, .int (bz (v 4))], (qb, aI dT [v 5, v 6, v 7, v 8])]] := hw
  refine lv_iconst (v := 0) hx hb dX5_go_0 (by decide) ?_
  refine lv_istore_n (lv' := [(2, .int 0), (0, .ref b), (1, .ref qs)]) hx hb dX5_go_1 rfl hl (by decide) rfl (fun ls hl => ?_)
  have hw : Wd D A s.heap _ _ [[ob b 4 [.ref fa]], [ob fa 15 [.int u, .ref d, .int (nI (ads mf).length)], (d, aR dT 1 cap (fun i => (ads mf)[i]?))], (mf.flatMap (mfE dT)), [ob qs 13 [.int (v 0), .int (v 1), .int (v 2), .int (v 3), .ref qb, .int (bz (v 4))], (qb, aI dT [v 5, v 6, v 7, v 8])]] := Wd.take hw [0, 0, 0, 0] rfl rfl
  have hl9 := lv_sub hl [0, 2, 1] rfl
  refine wl_mgo (n0 := mf.length) (RL := goL (valm mf)) (SK := skG v (valm mf)) hf hK hA hAz hst hC (Nat.le_refl _) (Nat.le_refl _) ?_ mf [] v u _ _ _ (by rw [List.nil_append, ← ads_len]; exact hc) (Nat.le_refl _) rfl rfl hfi hl9 hw
  intro mf1 v1 u1 ls H locs hRL hSK hfi1 hlen1 hw
  have hw : Wd D A s.heap _ _ [[ob b 4 [.ref fa]], [ob fa 15 [.int u1, .ref d, .int (nI (ads mf1).length)], (d, aR dT 1 cap (fun i => (ads mf1)[i]?))], (mf1.flatMap (mfE dT)), [ob qs 13 [.int (v1 0), .int (v1 1), .int (v1 2), .int (v1 3), .ref qb, .int (bz (v1 4))], (qb, aI dT [v1 5, v1 6, v1 7, v1 8])]] := hw
  exact xr_vret hf hr hlocks hw (Nat.le_of_ble_eq_true rfl) (Nat.le_of_ble_eq_true rfl) ⟨mf1, u1, v1, ⟨hRL, hSK, hfi1, hlen1⟩, rfl, rfl⟩ dX5_go_69

