/-! 88.tsum (printed by gen/silk.py) -/
set_option maxRecDepth 100000
set_option maxHeartbeats 4000000 in
theorem wl_sa {p : Program} {l : Launch} {e : Env} {s : State} {m : MethodId} {args : Array Value} {below : List Frame} {meth : Method} {c : Code} {A : Nat → Prop} {Q : State → Prop} {D : va_G} {dT g : Nat → Nat} {z0 mc ms : Nat} (hf : CallFix p m c cX15_sum 5 s args lw_all "SilkRowModel$Trial") (hK : KK D dT g z0 s s.heap) (hA : ∀ q, s.heap.size ≤ q → A q) (hAz : ∀ q, A q → zA z0 q) (hst : l.stackTraces = false) {t tm tl kc ks RES k s9 : Nat} {t2 : T2T} {t3 : T3T} {lf9 : Lf} {g9 : Nat × List Nat} {q : Nat × (Nat → Nat)} (hk : k < 3) (hs : s9 < 7) (hs2 : 2 ≤ s9) (hg : t2[k]? = some g9) (hgs : g9.2[s9]? = some q.1) (hq : t3[7 * k + s9]? = some q) (hmc : kc ≤ mc) (hms : ks ≤ ms) (K54 : (∀ (x1 : Nat) (ls : Array Slot) (H : Heap) (locs : List Loc), x1 = RES → lv_has ls 5 [(3, .int (nI s9)), (2, .int (nI k)), (1, .int (nI x1)), (0, .ref t)] → Wd D A s.heap H locs [[ob t 14 [.ref tm, .ref tl]], [(tm, aR dT 7 3 (fun i => (ads t2)[i]?))], (t2.flatMap (m2E dT)), (t3.flatMap (m3E dT)), [(tl, aI dT [(nI lf9.1), (nI lf9.2.1), (nI lf9.2.2)])]] → W p l e ({ frames := 7, cells := mc, slots := ms, locals := 200 }) s m args below meth c H locs kc ks Q (F0 m 54 ls []))) : ∀ (n a x0 : Nat) (ls : Array Slot) (H : Heap) (locs : List Loc), a + n = 5 → x0 + sA q.2 (fun a => (pcs k s9).getD a 0) n a = RES → lv_has ls 5 [(4, .int (nI a)), (3, .int (nI s9)), (2, .int (nI k)), (1, .int (nI x0)), (0, .ref t)] → Wd D A s.heap H locs [[ob t 14 [.ref tm, .ref tl]], [(tm, aR dT 7 3 (fun i => (ads t2)[i]?))], (t2.flatMap (m2E dT)), (t3.flatMap (m3E dT)), [(tl, aI dT [(nI lf9.1), (nI lf9.2.1), (nI lf9.2.2)])]] → W p l e ({ frames := 7, cells := mc, slots := ms, locals := 200 }) s m args below meth c H locs kc ks Q (F0 m 20 ls []) := by
  have hx := hf.1
  have hb := hf.2.1
  have hts := hf.2.2.2.2
  intro n
  induction n with
  | zero =>
    intro a x0 ls H locs han hRES hl hw
    have ha5 : a = 5 := by omega
    have hw : Wd D A s.heap _ _ [[ob t 14 [.ref tm, .ref tl]], [(tm, aR dT 7 3 (fun i => (ads t2)[i]?))], (t2.flatMap (m2E dT)), (t3.flatMap (m3E dT)), [(tl, aI dT [(nI lf9.1), (nI lf9.2.1), (nI lf9.2.2)])]] := hw
    refine lv_iload hx hb dX15_sum_20 (lv_at hl 0 rfl) ?_
    refine lv_iconst (v := 5) hx hb dX15_sum_22 (by decide) ?_
    refine lv_icmp_ge (tgt := 54) hx hb dX15_sum_23 (by decide) (fun _ => ?_) (fun c9 => absurd c9 (not_not_intro (show (5 : Int32) ≤ nI a by rw [ha5]; decide)))
    have hl9 := lv_sub hl [1, 2, 3, 4] rfl
    exact K54 x0 _ _ _ (by rw [← hRES]; rfl) hl9 hw
  | succ n ih =>
    intro a x0 ls H locs han hRES hl hw
    have ha6 : a < 6 := by omega
    have hw : Wd D A s.heap _ _ [[ob t 14 [.ref tm, .ref tl]], [(tm, aR dT 7 3 (fun i => (ads t2)[i]?))], (t2.flatMap (m2E dT)), (t3.flatMap (m3E dT)), [(tl, aI dT [(nI lf9.1), (nI lf9.2.1), (nI lf9.2.2)])]] := hw
    refine lv_iload hx hb dX15_sum_20 (lv_at hl 0 rfl) ?_
    refine lv_iconst (v := 5) hx hb dX15_sum_22 (by decide) ?_
    refine lv_icmp_ge (tgt := 54) hx hb dX15_sum_23 (by decide) (fun c9 => absurd c9 (nI_ge (b := 5) (by omega) (by decide))) (fun _ => ?_)
    refine lv_iload_n hx hb dX15_sum_26 rfl (lv_at hl 3 rfl) ?_
    refine lv_aload_n hx hb dX15_sum_27 rfl (lv_at hl 4 rfl) ?_
    refine xr_get hf hK hw 0 0 rfl rfl in_X15 0 (by decide) q1625 (fun _ h => h) rfl dX15_sum_28 ?_
    refine lv_iload_n hx hb dX15_sum_31 rfl (lv_at hl 2 rfl) ?_
    refine xr_aaldA (r := (some g9.1)) hf hK hw 1 0 rfl rfl k (nI_pos (by omega)) (nI_clamp (by omega)) hk (ads_some hg) dX15_sum_32 ?_
    refine lv_iload_n hx hb dX15_sum_33 rfl (lv_at hl 1 rfl) ?_
    have hw : Wd D A s.heap _ _ [(t2.flatMap (m2E dT)), [ob t 14 [.ref tm, .ref tl]], [(tm, aR dT 7 3 (fun i => (ads t2)[i]?))], (t3.flatMap (m3E dT)), [(tl, aI dT [(nI lf9.1), (nI lf9.2.1), (nI lf9.2.2)])]] := hw.pick [2] rfl rfl rfl
    have hw : Wd D A s.heap _ _ [[(g9.1, aR dT 6 7 (fun i => g9.2[i]?))], ((t2.eraseIdx k).flatMap (m2E dT)), [ob t 14 [.ref tm, .ref tl]], [(tm, aR dT 7 3 (fun i => (ads t2)[i]?))], (t3.flatMap (m3E dT)), [(tl, aI dT [(nI lf9.1), (nI lf9.2.1), (nI lf9.2.2)])]] := hw.foc hg
    refine xr_aaldA (r := (some q.1)) hf hK hw 0 0 rfl rfl s9 (nI_pos (by omega)) (nI_clamp (by omega)) hs hgs dX15_sum_34 ?_
    refine lv_iload hx hb dX15_sum_35 (lv_at hl 0 rfl) ?_
    have hw : Wd D A s.heap _ _ [(t3.flatMap (m3E dT)), [(g9.1, aR dT 6 7 (fun i => g9.2[i]?))], ((t2.eraseIdx k).flatMap (m2E dT)), [ob t 14 [.ref tm, .ref tl]], [(tm, aR dT 7 3 (fun i => (ads t2)[i]?))], [(tl, aI dT [(nI lf9.1), (nI lf9.2.1), (nI lf9.2.2)])]] := hw.pick [4] rfl rfl rfl
    have hw : Wd D A s.heap _ _ [[(q.1, aI dT [(nI (q.2 0)), (nI (q.2 1)), (nI (q.2 2)), (nI (q.2 3)), (nI (q.2 4)), (nI (q.2 5))])], ((t3.eraseIdx (7 * k + s9)).flatMap (m3E dT)), [(g9.1, aR dT 6 7 (fun i => g9.2[i]?))], ((t2.eraseIdx k).flatMap (m2E dT)), [ob t 14 [.ref tm, .ref tl]], [(tm, aR dT 7 3 (fun i => (ads t2)[i]?))], [(tl, aI dT [(nI lf9.1), (nI lf9.2.1), (nI lf9.2.2)])]] := hw.foc hq
    refine xr_iald hf hK hw 0 0 rfl a (nI_pos (by omega)) (nI_clamp (by omega)) ha6 rfl dX15_sum_37 ?_
    refine lv_iload_n hx hb dX15_sum_38 rfl (lv_at hl 2 rfl) ?_
    refine lv_iload_n hx hb dX15_sum_39 rfl (lv_at hl 1 rfl) ?_
    refine lv_iload hx hb dX15_sum_40 (lv_at hl 0 rfl) ?_
    refine xc_SN (rest := [.int (([(nI (q.2 0)), (nI (q.2 1)), (nI (q.2 2)), (nI (q.2 3)), (nI (q.2 4)), (nI (q.2 5))]).getD a 0), .int (nI x0)]) (As := [.int (nI k), .int (nI s9), .int (nI a)]) hf hK hA hAz hst (hw.pick [] rfl rfl rfl) (k_X4_piece l D dT g z0 k s9 a (by omega) hs2 (by omega) ha6) ⟨va_cnB 3 hts (lw_meth q1492) rfl rfl rfl (hK.nw q1648 rfl) (hts _ q54) (by decide +kernel) ⟨Nat.le_of_ble_eq_true rfl, Nat.le_of_ble_eq_true rfl⟩, hts _ q1491⟩ rfl hl.1 rfl (Nat.le_of_ble_eq_true rfl) dX15_sum_42 ⟨(by first | omega | (dsimp only; omega)), (by first | omega | (dsimp only; omega))⟩ (fun _ _ _ _ _ _ h => h.elim) (fun v9 LL1 H locs hp hw => ?_)
    obtain ⟨rfl, rfl⟩ := hp
    have hw : Wd D A s.heap _ _ [[(q.1, aI dT [(nI (q.2 0)), (nI (q.2 1)), (nI (q.2 2)), (nI (q.2 3)), (nI (q.2 4)), (nI (q.2 5))])], ((t3.eraseIdx (7 * k + s9)).flatMap (m3E dT)), [(g9.1, aR dT 6 7 (fun i => g9.2[i]?))], ((t2.eraseIdx k).flatMap (m2E dT)), [ob t 14 [.ref tm, .ref tl]], [(tm, aR dT 7 3 (fun i => (ads t2)[i]?))], [(tl, aI dT [(nI lf9.1), (nI lf9.2.1), (nI lf9.2.2)])]] := hw
    refine W.eq (g2 := F0 m 45 ls [.int (nI ((pcs k s9).getD a 0)), .int (([(nI (q.2 0)), (nI (q.2 1)), (nI (q.2 2)), (nI (q.2 3)), (nI (q.2 4)), (nI (q.2 5))]).getD a 0), .int (nI x0)]) rfl ?_
    refine lv_imul hx hb dX15_sum_45 ?_
    refine lv_iadd hx hb dX15_sum_46 ?_
    refine lv_as (y := (nI (x0 + q.2 a * (pcs k s9).getD a 0))) (by rw [row6 ha6, nI_mul, nI_add]) ?_
    refine lv_istore_n (lv' := [(1, .int (nI (x0 + q.2 a * (pcs k s9).getD a 0))), (4, .int (nI a)), (3, .int (nI s9)), (2, .int (nI k)), (0, .ref t)]) hx hb dX15_sum_47 rfl hl (by decide) rfl (fun ls hl => ?_)
    refine lv_iinc (v := (nI (a + 1))) (lv' := [(4, .int (nI (a + 1))), (1, .int (nI (x0 + q.2 a * (pcs k s9).getD a 0))), (3, .int (nI s9)), (2, .int (nI k)), (0, .ref t)]) hx hb dX15_sum_48 hl (k := 1) rfl (nI_1 _) (by decide) rfl (fun ls hl => ?_)
    refine lv_goto (tgt := 20) hx hb dX15_sum_51 (by decide) ?_
    have hw : Wd D A s.heap _ _ [[(g9.1, aR dT 6 7 (fun i => g9.2[i]?))], ((t2.eraseIdx k).flatMap (m2E dT)), [(q.1, aI dT [(nI (q.2 0)), (nI (q.2 1)), (nI (q.2 2)), (nI (q.2 3)), (nI (q.2 4)), (nI (q.2 5))])], ((t3.eraseIdx (7 * k + s9)).flatMap (m3E dT)), [ob t 14 [.ref tm, .ref tl]], [(tm, aR dT 7 3 (fun i => (ads t2)[i]?))], [(tl, aI dT [(nI lf9.1), (nI lf9.2.1), (nI lf9.2.2)])]] := hw.pick [2, 2] rfl rfl rfl
    have hw : Wd D A s.heap _ _ [(t2.flatMap (m2E dT)), [(q.1, aI dT [(nI (q.2 0)), (nI (q.2 1)), (nI (q.2 2)), (nI (q.2 3)), (nI (q.2 4)), (nI (q.2 5))])], ((t3.eraseIdx (7 * k + s9)).flatMap (m3E dT)), [ob t 14 [.ref tm, .ref tl]], [(tm, aR dT 7 3 (fun i => (ads t2)[i]?))], [(tl, aI dT [(nI lf9.1), (nI lf9.2.1), (nI lf9.2.2)])]] := Wd.unf0 (q := g9) (L := t2) (k := k) hw hg
    have hw : Wd D A s.heap _ _ [[(q.1, aI dT [(nI (q.2 0)), (nI (q.2 1)), (nI (q.2 2)), (nI (q.2 3)), (nI (q.2 4)), (nI (q.2 5))])], ((t3.eraseIdx (7 * k + s9)).flatMap (m3E dT)), (t2.flatMap (m2E dT)), [ob t 14 [.ref tm, .ref tl]], [(tm, aR dT 7 3 (fun i => (ads t2)[i]?))], [(tl, aI dT [(nI lf9.1), (nI lf9.2.1), (nI lf9.2.2)])]] := hw.pick [1, 1] rfl rfl rfl
    have hw : Wd D A s.heap _ _ [(t3.flatMap (m3E dT)), (t2.flatMap (m2E dT)), [ob t 14 [.ref tm, .ref tl]], [(tm, aR dT 7 3 (fun i => (ads t2)[i]?))], [(tl, aI dT [(nI lf9.1), (nI lf9.2.1), (nI lf9.2.2)])]] := Wd.unf0 (q := q) (L := t3) (k := (7 * k + s9)) hw hq
    have hw : Wd D A s.heap _ _ [[ob t 14 [.ref tm, .ref tl]], [(tm, aR dT 7 3 (fun i => (ads t2)[i]?))], (t2.flatMap (m2E dT)), (t3.flatMap (m3E dT)), [(tl, aI dT [(nI lf9.1), (nI lf9.2.1), (nI lf9.2.2)])]] := Wd.take hw [2, 2, 1, 0, 0] rfl rfl
    have hl9 := lv_sub hl [0, 2, 3, 1, 4] rfl
    exact ih (a + 1) _ _ _ _ (by omega) (by rw [← hRES, Nat.add_assoc]; rfl) hl9 hw
set_option maxHeartbeats 4000000 in
theorem wl_ss {p : Program} {l : Launch} {e : Env} {s : State} {m : MethodId} {args : Array Value} {below : List Frame} {meth : Method} {c : Code} {A : Nat → Prop} {Q : State → Prop} {D : va_G} {dT g : Nat → Nat} {z0 mc ms : Nat} (hf : CallFix p m c cX15_sum 5 s args lw_all "SilkRowModel$Trial") (hK : KK D dT g z0 s s.heap) (hA : ∀ q, s.heap.size ≤ q → A q) (hAz : ∀ q, A q → zA z0 q) (hst : l.stackTraces = false) {t tm tl kc ks RES k : Nat} {t2 : T2T} {t3 : T3T} {lf9 : Lf} (hT : tabOK t2 (ads t3)) (hk : k < 3) (hmc : kc ≤ mc) (hms : ks ≤ ms) (K60 : (∀ (x1 : Nat) (ls : Array Slot) (H : Heap) (locs : List Loc), x1 = RES → lv_has ls 5 [(2, .int (nI k)), (1, .int (nI x1)), (0, .ref t)] → Wd D A s.heap H locs [[ob t 14 [.ref tm, .ref tl]], [(tm, aR dT 7 3 (fun i => (ads t2)[i]?))], (t2.flatMap (m2E dT)), (t3.flatMap (m3E dT)), [(tl, aI dT [(nI lf9.1), (nI lf9.2.1), (nI lf9.2.2)])]] → W p l e ({ frames := 7, cells := mc, slots := ms, locals := 200 }) s m args below meth c H locs kc ks Q (F0 m 60 ls []))) : ∀ (n s9 x0 : Nat) (ls : Array Slot) (H : Heap) (locs : List Loc), s9 + n = 7 → 2 ≤ s9 → x0 + sS (tval t3) k n s9 = RES → lv_has ls 5 [(3, .int (nI s9)), (2, .int (nI k)), (1, .int (nI x0)), (0, .ref t)] → Wd D A s.heap H locs [[ob t 14 [.ref tm, .ref tl]], [(tm, aR dT 7 3 (fun i => (ads t2)[i]?))], (t2.flatMap (m2E dT)), (t3.flatMap (m3E dT)), [(tl, aI dT [(nI lf9.1), (nI lf9.2.1), (nI lf9.2.2)])]] → W p l e ({ frames := 7, cells := mc, slots := ms, locals := 200 }) s m args below meth c H locs kc ks Q (F0 m 11 ls []) := by
  have hx := hf.1
  have hb := hf.2.1
  have hts := hf.2.2.2.2
  intro n
  induction n with
  | zero =>
    intro s9 x0 ls H locs hsn hs2 hRES hl hw
    have hs7 : s9 = 7 := by omega
    have hw : Wd D A s.heap _ _ [[ob t 14 [.ref tm, .ref tl]], [(tm, aR dT 7 3 (fun i => (ads t2)[i]?))], (t2.flatMap (m2E dT)), (t3.flatMap (m3E dT)), [(tl, aI dT [(nI lf9.1), (nI lf9.2.1), (nI lf9.2.2)])]] := hw
    refine lv_iload_n hx hb dX15_sum_11 rfl (lv_at hl 0 rfl) ?_
    refine lv_bipush (v := 6) hx hb dX15_sum_12 (by decide) ?_
    refine lv_icmp_gt (tgt := 60) hx hb dX15_sum_14 (by decide) (fun _ => ?_) (fun c9 => absurd c9 (not_not_intro (show (6 : Int32) < nI s9 by rw [hs7]; decide)))
    have hl9 := lv_sub hl [1, 2, 3] rfl
    exact K60 x0 _ _ _ (by rw [← hRES]; rfl) hl9 hw
  | succ n ih =>
    intro s9 x0 ls H locs hsn hs2 hRES hl hw
    obtain ⟨g9, q, hg, hgs, hq, hv⟩ := tab_at hT hk (show s9 < 7 by omega)
    have hw : Wd D A s.heap _ _ [[ob t 14 [.ref tm, .ref tl]], [(tm, aR dT 7 3 (fun i => (ads t2)[i]?))], (t2.flatMap (m2E dT)), (t3.flatMap (m3E dT)), [(tl, aI dT [(nI lf9.1), (nI lf9.2.1), (nI lf9.2.2)])]] := hw
    refine lv_iload_n hx hb dX15_sum_11 rfl (lv_at hl 0 rfl) ?_
    refine lv_bipush (v := 6) hx hb dX15_sum_12 (by decide) ?_
    refine lv_icmp_gt (tgt := 60) hx hb dX15_sum_14 (by decide) (fun c9 => absurd c9 (nI_nlt (a := 6) (by omega) (by decide))) (fun _ => ?_)
    refine lv_iconst (v := 0) hx hb dX15_sum_17 (by decide) ?_
    refine lv_as (y := (nI 0)) (by decide) ?_
    refine lv_istore (lv' := [(4, .int (nI 0)), (3, .int (nI s9)), (2, .int (nI k)), (1, .int (nI x0)), (0, .ref t)]) hx hb dX15_sum_18 hl (by decide) rfl (fun ls hl => ?_)
    have hl9 := lv_sub hl [0, 1, 2, 3, 4] rfl
    refine wl_sa (RES := x0 + sA q.2 (fun a => (pcs k s9).getD a 0) 5 0) hf hK hA hAz hst hk (show s9 < 7 by omega) hs2 hg hgs hq hmc hms ?_ 5 0 x0 _ _ _ rfl rfl hl9 hw
    intro x1 ls H locs hx1 hl hw
    have hw : Wd D A s.heap _ _ [[ob t 14 [.ref tm, .ref tl]], [(tm, aR dT 7 3 (fun i => (ads t2)[i]?))], (t2.flatMap (m2E dT)), (t3.flatMap (m3E dT)), [(tl, aI dT [(nI lf9.1), (nI lf9.2.1), (nI lf9.2.2)])]] := hw
    refine lv_iinc (v := (nI (s9 + 1))) (lv' := [(3, .int (nI (s9 + 1))), (2, .int (nI k)), (1, .int (nI x1)), (0, .ref t)]) hx hb dX15_sum_54 hl (k := 0) rfl (nI_1 _) (by decide) rfl (fun ls hl => ?_)
    refine lv_goto (tgt := 11) hx hb dX15_sum_57 (by decide) ?_
    have hl9 := lv_sub hl [0, 1, 2, 3] rfl
    exact ih (s9 + 1) x1 _ _ _ (by omega) (by omega) (by rw [hx1, ← hRES]; show x0 + sA q.2 (fun a => (pcs k s9).getD a 0) 5 0 + sS (tval t3) k n (s9 + 1) = x0 + (sA (tval t3 (7 * k + s9)) (fun a => (pcs k s9).getD a 0) 5 0 + sS (tval t3) k n (s9 + 1)); rw [hv, Nat.add_assoc]) hl9 hw
set_option maxHeartbeats 4000000 in
theorem wl_sk {p : Program} {l : Launch} {e : Env} {s : State} {m : MethodId} {args : Array Value} {below : List Frame} {meth : Method} {c : Code} {A : Nat → Prop} {Q : State → Prop} {D : va_G} {dT g : Nat → Nat} {z0 mc ms : Nat} (hf : CallFix p m c cX15_sum 5 s args lw_all "SilkRowModel$Trial") (hK : KK D dT g z0 s s.heap) (hA : ∀ q, s.heap.size ≤ q → A q) (hAz : ∀ q, A q → zA z0 q) (hst : l.stackTraces = false) {t tm tl kc ks RES : Nat} {t2 : T2T} {t3 : T3T} {lf9 : Lf} (hT : tabOK t2 (ads t3)) (hmc : kc ≤ mc) (hms : ks ≤ ms) (K66 : (∀ (x1 : Nat) (ls : Array Slot) (H : Heap) (locs : List Loc), x1 = RES → lv_has ls 5 [(1, .int (nI x1)), (0, .ref t)] → Wd D A s.heap H locs [[ob t 14 [.ref tm, .ref tl]], [(tm, aR dT 7 3 (fun i => (ads t2)[i]?))], (t2.flatMap (m2E dT)), (t3.flatMap (m3E dT)), [(tl, aI dT [(nI lf9.1), (nI lf9.2.1), (nI lf9.2.2)])]] → W p l e ({ frames := 7, cells := mc, slots := ms, locals := 200 }) s m args below meth c H locs kc ks Q (F0 m 66 ls []))) : ∀ (n k x0 : Nat) (ls : Array Slot) (H : Heap) (locs : List Loc), k + n = 3 → x0 + sK (tval t3) n k = RES → lv_has ls 5 [(2, .int (nI k)), (1, .int (nI x0)), (0, .ref t)] → Wd D A s.heap H locs [[ob t 14 [.ref tm, .ref tl]], [(tm, aR dT 7 3 (fun i => (ads t2)[i]?))], (t2.flatMap (m2E dT)), (t3.flatMap (m3E dT)), [(tl, aI dT [(nI lf9.1), (nI lf9.2.1), (nI lf9.2.2)])]] → W p l e ({ frames := 7, cells := mc, slots := ms, locals := 200 }) s m args below meth c H locs kc ks Q (F0 m 4 ls []) := by
  have hx := hf.1
  have hb := hf.2.1
  have hts := hf.2.2.2.2
  intro n
  induction n with
  | zero =>
    intro k x0 ls H locs hkn hRES hl hw
    have hk3 : k = 3 := by omega
    have hw : Wd D A s.heap _ _ [[ob t 14 [.ref tm, .ref tl]], [(tm, aR dT 7 3 (fun i => (ads t2)[i]?))], (t2.flatMap (m2E dT)), (t3.flatMap (m3E dT)), [(tl, aI dT [(nI lf9.1), (nI lf9.2.1), (nI lf9.2.2)])]] := hw
    refine lv_iload_n hx hb dX15_sum_4 rfl (lv_at hl 0 rfl) ?_
    refine lv_iconst (v := 3) hx hb dX15_sum_5 (by decide) ?_
    refine lv_icmp_ge (tgt := 66) hx hb dX15_sum_6 (by decide) (fun _ => ?_) (fun c9 => absurd c9 (not_not_intro (show (3 : Int32) ≤ nI k by rw [hk3]; decide)))
    have hl9 := lv_sub hl [1, 2] rfl
    exact K66 x0 _ _ _ (by rw [← hRES]; rfl) hl9 hw
  | succ n ih =>
    intro k x0 ls H locs hkn hRES hl hw
    have hw : Wd D A s.heap _ _ [[ob t 14 [.ref tm, .ref tl]], [(tm, aR dT 7 3 (fun i => (ads t2)[i]?))], (t2.flatMap (m2E dT)), (t3.flatMap (m3E dT)), [(tl, aI dT [(nI lf9.1), (nI lf9.2.1), (nI lf9.2.2)])]] := hw
    refine lv_iload_n hx hb dX15_sum_4 rfl (lv_at hl 0 rfl) ?_
    refine lv_iconst (v := 3) hx hb dX15_sum_5 (by decide) ?_
    refine lv_icmp_ge (tgt := 66) hx hb dX15_sum_6 (by decide) (fun c9 => absurd c9 (nI_ge (b := 3) (by omega) (by decide))) (fun _ => ?_)
    refine lv_iconst (v := 2) hx hb dX15_sum_9 (by decide) ?_
    refine lv_as (y := (nI 2)) (by decide) ?_
    refine lv_istore_n (lv' := [(3, .int (nI 2)), (2, .int (nI k)), (1, .int (nI x0)), (0, .ref t)]) hx hb dX15_sum_10 rfl hl (by decide) rfl (fun ls hl => ?_)
    have hl9 := lv_sub hl [0, 1, 2, 3] rfl
    refine wl_ss (RES := x0 + sS (tval t3) k 5 2) hf hK hA hAz hst hT (show k < 3 by omega) hmc hms ?_ 5 2 x0 _ _ _ rfl (Nat.le_refl _) rfl hl9 hw
    intro x1 ls H locs hx1 hl hw
    have hw : Wd D A s.heap _ _ [[ob t 14 [.ref tm, .ref tl]], [(tm, aR dT 7 3 (fun i => (ads t2)[i]?))], (t2.flatMap (m2E dT)), (t3.flatMap (m3E dT)), [(tl, aI dT [(nI lf9.1), (nI lf9.2.1), (nI lf9.2.2)])]] := hw
    refine lv_iinc (v := (nI (k + 1))) (lv' := [(2, .int (nI (k + 1))), (1, .int (nI x1)), (0, .ref t)]) hx hb dX15_sum_60 hl (k := 0) rfl (nI_1 _) (by decide) rfl (fun ls hl => ?_)
    refine lv_goto (tgt := 4) hx hb dX15_sum_63 (by decide) ?_
    have hl9 := lv_sub hl [0, 1, 2] rfl
    exact ih (k + 1) x1 _ _ _ (by omega) (by rw [hx1, ← hRES, Nat.add_assoc]; rfl) hl9 hw
set_option maxHeartbeats 4000000 in
theorem k_X15_sum (l : Launch) (D : va_G) (dT g : Nat → Nat) (z0 : Nat) (t : Nat) (tm : Nat) (tl : Nat) (t2 : T2T) (t3 : T3T) (lf9 : Lf) (l9 : List FvT) (hT : tabOK t2 (ads t3)) (hTab : Tab (tval t3) l9) (hfl : ∀ f ∈ l9, okF f) : Con l D dT g z0 yX15_sum (ws_ yX15_sum cX15_sum 5 (some .int)) ({ frames := 7, cells := 0, slots := 0, locals := 200 }) [.ref t] [[ob t 14 [.ref tm, .ref tl]], [(tm, aR dT 7 3 (fun i => (ads t2)[i]?))], (t2.flatMap (m2E dT)), (t3.flatMap (m3E dT)), [(tl, aI dT [(nI lf9.1), (nI lf9.2.1), (nI lf9.2.2)])]] (fun r LL => r = some (.int (nI (sumF l9))) ∧ LL = [[ob t 14 [.ref tm, .ref tl]], [(tm, aR dT 7 3 (fun i => (ads t2)[i]?))], (t2.flatMap (m2E dT)), (t3.flatMap (m3E dT)), [(tl, aI dT [(nI lf9.1), (nI lf9.2.1), (nI lf9.2.2)])]]) noX 0 0 := by
  refine Con.of (maxL := 5) (ret := (some .int)) (by first | exact plainFor_of_name (by decide) | decide +kernel) (Nat.le_of_ble_eq_true rfl) ?_
  intro p e s m args below meth c A ls hf hr hlocks hnm hno hK hA hAz hw hl hst
  have hf : CallFix p m c cX15_sum 5 s args lw_all "SilkRowModel$Trial" := hf
  have hnm : meth.name = "sum" := hnm
  have hx := hf.1
  have hb := hf.2.1
  have hts := hf.2.2.2.2
  have hl : lv_has ls 5 [(0, .ref t)] := hl
  have hw : Wd D A s.heap s.heap [] [[ob t 14 [.ref tm, .ref tl]], [(tm, aR dT 7 3 (fun i => (ads t2)[i]?))], (t2.flatMap (m2E dT)), (t3.flatMap (m3E dT)), [(tl, aI dT [(nI lf9.1), (nI lf9.2.1), (nI lf9.2.2)])]] := hw
  refine lv_iconst (v := 0) hx hb dX15_sum_0 (by decide) ?_
  refine lv_as (y := (nI 0)) (by decide) ?_
  refine lv_istore_n (lv' := [(1, .int (nI 0)), (0, .ref t)]) hx hb dX15_sum_1 rfl hl (by decide) rfl (fun ls hl => ?_)
  refine lv_iconst (v := 0) hx hb dX15_sum_2 (by decide) ?_
  refine lv_as (y := (nI 0)) (by decide) ?_
  refine lv_istore_n (lv' := [(2, .int (nI 0)), (1, .int (nI 0)), (0, .ref t)]) hx hb dX15_sum_3 rfl hl (by decide) rfl (fun ls hl => ?_)
  have hw : Wd D A s.heap _ _ [[ob t 14 [.ref tm, .ref tl]], [(tm, aR dT 7 3 (fun i => (ads t2)[i]?))], (t2.flatMap (m2E dT)), (t3.flatMap (m3E dT)), [(tl, aI dT [(nI lf9.1), (nI lf9.2.1), (nI lf9.2.2)])]] := Wd.take hw [0, 0, 0, 0, 0] rfl rfl
  have hl9 := lv_sub hl [0, 1, 2] rfl
  refine wl_sk (RES := sK (tval t3) 3 0) hf hK hA hAz hst hT (Nat.le_refl _) (Nat.le_refl _) ?_ 3 0 0 _ _ _ rfl (Nat.zero_add _) hl9 hw
  intro x1 ls H locs hx1 hl hw
  have hw : Wd D A s.heap _ _ [[ob t 14 [.ref tm, .ref tl]], [(tm, aR dT 7 3 (fun i => (ads t2)[i]?))], (t2.flatMap (m2E dT)), (t3.flatMap (m3E dT)), [(tl, aI dT [(nI lf9.1), (nI lf9.2.1), (nI lf9.2.2)])]] := hw
  refine lv_iload_n hx hb dX15_sum_66 rfl (lv_at hl 0 rfl) ?_
  exact xr_iret hf hr hlocks hw (Nat.le_of_ble_eq_true rfl) (Nat.le_of_ble_eq_true rfl) ⟨by rw [hx1, Tab_sum hTab hfl], rfl⟩ dX15_sum_67

