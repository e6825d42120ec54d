/-! 89.tjoin (printed by gen/silk.py) -/
set_option maxRecDepth 100000
set_option maxHeartbeats 4000000 in
theorem k_X15_join_none (l : Launch) (D : va_G) (dT g : Nat → Nat) (z0 : Nat) (t : Nat) (tm : Nat) (tl : Nat) (t2 : T2T) (t3 : T3T) (lf9 : Lf) (h0 : Nat) (h1 : Nat) (h2 : Nat) (ln : Nat) (sz : Nat) (x2 : Int32) (x9 : Int32) (x10 : Int32) (x3 : Int32) (x4 : Int32) (x5 : Int32) (lf0 : Lf) (hT : tabOK t2 (ads t3)) (hsz1 : 2 ≤ sz) (hsz2 : sz ≤ 6) (hlf : lfN lf9 < 2 ^ 20) (hk : lf9.1 = 0 ∧ lf9.2.1 = 0 ∧ lf9.2.2 = 0) : Con l D dT g z0 yX15_join (ws_ yX15_join cX15_join 3 (some .boolean)) ({ frames := 1, cells := 0, slots := 0, locals := 40 }) [.ref t, .ref h0] [[ob t 14 [.ref tm, .ref tl]], [(tm, aR dT 7 3 (fun i => (ads t2)[i]?))], (t2.flatMap (m2E dT)), (t3.flatMap (m3E dT)), [(tl, aI dT [(nI lf9.1), (nI lf9.2.1), (nI lf9.2.2)])], [ob h0 10 [.int (nI ln), .int (nI sz), .int x2, .ref h1, .ref h2, .int x9, .int x10], (h1, aI dT [x3, x4, x5]), (h2, aI dT [(nI lf0.1), (nI lf0.2.1), (nI lf0.2.2)])]] (fun r LL => r = some (.int 0) ∧ LL = [[ob t 14 [.ref tm, .ref tl]], [(tm, aR dT 7 3 (fun i => (ads t2)[i]?))], (t2.flatMap (m2E dT)), (t3.flatMap (m3E dT)), [(tl, aI dT [(nI lf9.1), (nI lf9.2.1), (nI lf9.2.2)])], [ob h0 10 [.int (nI ln), .int (nI sz), .int x2, .ref h1, .ref h2, .int x9, .int x10], (h1, aI dT [x3, x4, x5]), (h2, aI dT [(nI lf0.1), (nI lf0.2.1), (nI lf0.2.2)])]]) noX 0 0 := by
  refine Con.of (maxL := 3) (ret := (some .boolean)) (by first | exact plainFor_of_name (by decide) | decide +kernel) (Nat.le_of_ble_eq_true rfl) ?_
  intro p e s m args below meth c A ls hf hr hlocks hnm hno hK hA hAz hw hl hst
  have hf : CallFix p m c cX15_join 3 s args lw_all "SilkRowModel$Trial" := hf
  have hnm : meth.name = "join" := hnm
  have hx := hf.1
  have hb := hf.2.1
  have hts := hf.2.2.2.2
  have hl : lv_has ls 3 [(0, .ref t), (1, .ref h0)] := hl
  have hw : Wd D A s.heap s.heap [] [[ob t 14 [.ref tm, .ref tl]], [(tm, aR dT 7 3 (fun i => (ads t2)[i]?))], (t2.flatMap (m2E dT)), (t3.flatMap (m3E dT)), [(tl, aI dT [(nI lf9.1), (nI lf9.2.1), (nI lf9.2.2)])], [ob h0 10 [.int (nI ln), .int (nI sz), .int x2, .ref h1, .ref h2, .int x9, .int x10], (h1, aI dT [x3, x4, x5]), (h2, aI dT [(nI lf0.1), (nI lf0.2.1), (nI lf0.2.2)])]] := hw
  have hb9 : lf9.1 < 2 ^ 20 ∧ lf9.2.1 < 2 ^ 20 ∧ lf9.2.2 < 2 ^ 20 := by unfold lfN at hlf; omega
  refine lv_aload_n hx hb dX15_join_0 rfl (lv_at hl 0 rfl) ?_
  refine xr_get hf hK hw 0 0 rfl rfl in_X15 1 (by decide) q1626 (fun _ h => h) rfl dX15_join_1 ?_
  refine lv_iconst (v := 0) hx hb dX15_join_4 (by decide) ?_
  refine xr_iald hf hK hw 4 0 rfl 0 (by decide) (by decide) (Nat.le_of_ble_eq_true rfl) rfl dX15_join_5 ?_
  refine lv_if_le (tgt := 13) hx hb dX15_join_6 (by decide) (fun _ => ?_) (fun c9 => absurd c9 (not_not_intro (show nI lf9.1 ≤ 0 by rw [hk.1]; decide)))
  refine lv_aload_n hx hb dX15_join_13 rfl (lv_at hl 0 rfl) ?_
  refine xr_get hf hK hw 0 0 rfl rfl in_X15 1 (by decide) q1626 (fun _ h => h) rfl dX15_join_14 ?_
  refine lv_iconst (v := 1) hx hb dX15_join_17 (by decide) ?_
  refine xr_iald hf hK hw 4 0 rfl 1 (by decide) (by decide) (Nat.le_of_ble_eq_true rfl) rfl dX15_join_18 ?_
  refine lv_if_le (tgt := 26) hx hb dX15_join_19 (by decide) (fun _ => ?_) (fun c9 => absurd c9 (not_not_intro (show nI lf9.2.1 ≤ 0 by rw [hk.2.1]; decide)))
  refine lv_iconst (v := 2) hx hb dX15_join_26 (by decide) ?_
  refine lv_istore_n (lv' := [(2, .int 2), (0, .ref t), (1, .ref h0)]) hx hb dX15_join_27 rfl hl (by decide) rfl (fun ls hl => ?_)
  refine lv_aload_n hx hb dX15_join_28 rfl (lv_at hl 1 rfl) ?_
  refine xr_get hf hK hw 0 0 rfl rfl in_X15 1 (by decide) q1626 (fun _ h => h) rfl dX15_join_29 ?_
  refine lv_iload_n hx hb dX15_join_32 rfl (lv_at hl 0 rfl) ?_
  refine xr_iald hf hK hw 4 0 rfl 2 (by decide) (by decide) (Nat.le_of_ble_eq_true rfl) rfl dX15_join_33 ?_
  refine lv_if_ne (tgt := 39) hx hb dX15_join_34 (by decide) (fun c9 => absurd c9 (not_not_intro (show nI lf9.2.2 = 0 by rw [hk.2.2]; rfl))) (fun _ => ?_)
  refine lv_iconst (v := 0) hx hb dX15_join_37 (by decide) ?_
  exact xr_zret hf hr hlocks hw (Nat.le_of_ble_eq_true rfl) (Nat.le_of_ble_eq_true rfl) rfl ⟨rfl, rfl⟩ dX15_join_38

set_option maxHeartbeats 4000000 in
theorem k_X15_join_k0 (l : Launch) (D : va_G) (dT g : Nat → Nat) (z0 : Nat) (t : Nat) (tm : Nat) (tl : Nat) (t2 : T2T) (t3 : T3T) (lf9 : Lf) (h0 : Nat) (h1 : Nat) (h2 : Nat) (ln : Nat) (sz : Nat) (x2 : Int32) (x9 : Int32) (x10 : Int32) (x3 : Int32) (x4 : Int32) (x5 : Int32) (lf0 : Lf) (hT : tabOK t2 (ads t3)) (hsz1 : 2 ≤ sz) (hsz2 : sz ≤ 6) (hlf : lfN lf9 < 2 ^ 20) (hk : 0 < lf9.1) : Con l D dT g z0 yX15_join (ws_ yX15_join cX15_join 3 (some .boolean)) ({ frames := 1, cells := 0, slots := 0, locals := 40 }) [.ref t, .ref h0] [[ob t 14 [.ref tm, .ref tl]], [(tm, aR dT 7 3 (fun i => (ads t2)[i]?))], (t2.flatMap (m2E dT)), (t3.flatMap (m3E dT)), [(tl, aI dT [(nI lf9.1), (nI lf9.2.1), (nI lf9.2.2)])], [ob h0 10 [.int (nI ln), .int (nI sz), .int x2, .ref h1, .ref h2, .int x9, .int x10], (h1, aI dT [x3, x4, x5]), (h2, aI dT [(nI lf0.1), (nI lf0.2.1), (nI lf0.2.2)])]] (fun r LL => ∃ (t31 : T3T), (ads t31 = ads t3 ∧ ∀ (l9 : List FvT) (ln9 : Nat), ln9 < 4 → Tab (tval t3) l9 → Tab (tval t31) (l9 ++ [(ln9, 0, sz, 0)])) ∧ r = some (.int 1) ∧ LL = [[ob t 14 [.ref tm, .ref tl]], [(tm, aR dT 7 3 (fun i => (ads t2)[i]?))], (t2.flatMap (m2E dT)), (t31.flatMap (m3E dT)), [(tl, aI dT [(nI (lf9.1 - 1, lf9.2.1, lf9.2.2).1), (nI (lf9.1 - 1, lf9.2.1, lf9.2.2).2.1), (nI (lf9.1 - 1, lf9.2.1, lf9.2.2).2.2)])], [ob h0 10 [.int (nI ln), .int (nI sz), .int x2, .ref h1, .ref h2, .int x9, .int x10], (h1, aI dT [x3, x4, x5]), (h2, aI dT [(nI lf0.1), (nI lf0.2.1), (nI lf0.2.2)])]]) noX 0 0 := by
  refine Con.of (maxL := 3) (ret := (some .boolean)) (by first | exact plainFor_of_name (by decide) | decide +kernel) (Nat.le_of_ble_eq_true rfl) ?_
  intro p e s m args below meth c A ls hf hr hlocks hnm hno hK hA hAz hw hl hst
  have hf : CallFix p m c cX15_join 3 s args lw_all "SilkRowModel$Trial" := hf
  have hnm : meth.name = "join" := hnm
  have hx := hf.1
  have hb := hf.2.1
  have hts := hf.2.2.2.2
  have hl : lv_has ls 3 [(0, .ref t), (1, .ref h0)] := hl
  have hw : Wd D A s.heap s.heap [] [[ob t 14 [.ref tm, .ref tl]], [(tm, aR dT 7 3 (fun i => (ads t2)[i]?))], (t2.flatMap (m2E dT)), (t3.flatMap (m3E dT)), [(tl, aI dT [(nI lf9.1), (nI lf9.2.1), (nI lf9.2.2)])], [ob h0 10 [.int (nI ln), .int (nI sz), .int x2, .ref h1, .ref h2, .int x9, .int x10], (h1, aI dT [x3, x4, x5]), (h2, aI dT [(nI lf0.1), (nI lf0.2.1), (nI lf0.2.2)])]] := hw
  have hb9 : lf9.1 < 2 ^ 20 ∧ lf9.2.1 < 2 ^ 20 ∧ lf9.2.2 < 2 ^ 20 := by unfold lfN at hlf; omega
  refine lv_aload_n hx hb dX15_join_0 rfl (lv_at hl 0 rfl) ?_
  refine xr_get hf hK hw 0 0 rfl rfl in_X15 1 (by decide) q1626 (fun _ h => h) rfl dX15_join_1 ?_
  refine lv_iconst (v := 0) hx hb dX15_join_4 (by decide) ?_
  refine xr_iald hf hK hw 4 0 rfl 0 (by decide) (by decide) (Nat.le_of_ble_eq_true rfl) rfl dX15_join_5 ?_
  refine lv_if_le (tgt := 13) hx hb dX15_join_6 (by decide) (fun c9 => absurd c9 (nI_nle hk (by omega))) (fun _ => ?_)
  refine lv_iconst (v := 0) hx hb dX15_join_9 (by decide) ?_
  refine lv_goto (tgt := 27) hx hb dX15_join_10 (by decide) ?_
  refine lv_istore_n (lv' := [(2, .int 0), (0, .ref t), (1, .ref h0)]) hx hb dX15_join_27 rfl hl (by decide) rfl (fun ls hl => ?_)
  refine lv_aload_n hx hb dX15_join_28 rfl (lv_at hl 1 rfl) ?_
  refine xr_get hf hK hw 0 0 rfl rfl in_X15 1 (by decide) q1626 (fun _ h => h) rfl dX15_join_29 ?_
  refine lv_iload_n hx hb dX15_join_32 rfl (lv_at hl 0 rfl) ?_
  refine xr_iald hf hK hw 4 0 rfl 0 (by decide) (by decide) (Nat.le_of_ble_eq_true rfl) rfl dX15_join_33 ?_
  refine lv_if_ne (tgt := 39) hx hb dX15_join_34 (by decide) (fun _ => ?_) (fun c9 => absurd c9 (nI_ne0 hk (by omega)))
  refine lv_aload_n hx hb dX15_join_39 rfl (lv_at hl 1 rfl) ?_
  refine xr_get hf hK hw 0 0 rfl rfl in_X15 1 (by decide) q1626 (fun _ h => h) rfl dX15_join_40 ?_
  refine lv_iload_n hx hb dX15_join_43 rfl (lv_at hl 0 rfl) ?_
  refine lv_dup2_11 hx hb dX15_join_44 rfl rfl ?_
  refine xr_iald hf hK hw 4 0 rfl 0 (by decide) (by decide) (Nat.le_of_ble_eq_true rfl) rfl dX15_join_45 ?_
  refine lv_iconst (v := 1) hx hb dX15_join_46 (by decide) ?_
  refine lv_isub hx hb dX15_join_47 ?_
  refine xr_iast (LL' := [[ob t 14 [.ref tm, .ref tl]], [(tm, aR dT 7 3 (fun i => (ads t2)[i]?))], (t2.flatMap (m2E dT)), (t3.flatMap (m3E dT)), [(tl, aI dT [((nI lf9.1) - 1), (nI lf9.2.1), (nI lf9.2.2)])], [ob h0 10 [.int (nI ln), .int (nI sz), .int x2, .ref h1, .ref h2, .int x9, .int x10], (h1, aI dT [x3, x4, x5]), (h2, aI dT [(nI lf0.1), (nI lf0.2.1), (nI lf0.2.2)])]]) hf hK hw 4 0 rfl 0 (by decide) (by decide) (Nat.le_of_ble_eq_true rfl) rfl dX15_join_48 (fun H locs hw => ?_)
  refine lv_aload_n hx hb dX15_join_49 rfl (lv_at hl 1 rfl) ?_
  obtain ⟨g9, q, hg, hgs, hq, hv⟩ := tab_at (k := 0) (s := sz) hT (by decide) (by omega)
  refine xr_get hf hK hw 0 0 rfl rfl in_X15 0 (by decide) q1625 (fun _ h => h) rfl dX15_join_50 ?_
  refine lv_iload_n hx hb dX15_join_53 rfl (lv_at hl 0 rfl) ?_
  refine xr_aaldA (r := (some g9.1)) hf hK hw 1 0 rfl rfl 0 (by decide) (by decide) (by decide) (ads_some hg) dX15_join_54 ?_
  refine lv_aload_n hx hb dX15_join_55 rfl (lv_at hl 2 rfl) ?_
  refine xr_get hf hK hw 5 0 rfl rfl in_X11 1 (by decide) q1393 (fun _ h => h) rfl dX15_join_56 ?_
  have hw : Wd D A s.heap _ _ [(t2.flatMap (m2E dT)), [ob t 14 [.ref tm, .ref tl]], [(tm, aR dT 7 3 (fun i => (ads t2)[i]?))], (t3.flatMap (m3E dT)), [(tl, aI dT [((nI lf9.1) - 1), (nI lf9.2.1), (nI lf9.2.2)])], [ob h0 10 [.int (nI ln), .int (nI sz), .int x2, .ref h1, .ref h2, .int x9, .int x10], (h1, aI dT [x3, x4, x5]), (h2, aI dT [(nI lf0.1), (nI lf0.2.1), (nI lf0.2.2)])]] := hw.pick [2] rfl rfl rfl
  have hw : Wd D A s.heap _ _ [[(g9.1, aR dT 6 7 (fun i => g9.2[i]?))], ((t2.eraseIdx 0).flatMap (m2E dT)), [ob t 14 [.ref tm, .ref tl]], [(tm, aR dT 7 3 (fun i => (ads t2)[i]?))], (t3.flatMap (m3E dT)), [(tl, aI dT [((nI lf9.1) - 1), (nI lf9.2.1), (nI lf9.2.2)])], [ob h0 10 [.int (nI ln), .int (nI sz), .int x2, .ref h1, .ref h2, .int x9, .int x10], (h1, aI dT [x3, x4, x5]), (h2, aI dT [(nI lf0.1), (nI lf0.2.1), (nI lf0.2.2)])]] := hw.foc hg
  refine xr_aaldA (r := (some q.1)) hf hK hw 0 0 rfl rfl sz (nI_pos (by omega)) (nI_clamp (by omega)) (show sz < 7 by omega) hgs dX15_join_59 ?_
  refine lv_iconst (v := 0) hx hb dX15_join_60 (by decide) ?_
  refine lv_dup2_11 hx hb dX15_join_61 rfl rfl ?_
  have hw : Wd D A s.heap _ _ [(t3.flatMap (m3E dT)), [(g9.1, aR dT 6 7 (fun i => g9.2[i]?))], ((t2.eraseIdx 0).flatMap (m2E dT)), [ob t 14 [.ref tm, .ref tl]], [(tm, aR dT 7 3 (fun i => (ads t2)[i]?))], [(tl, aI dT [((nI lf9.1) - 1), (nI lf9.2.1), (nI lf9.2.2)])], [ob h0 10 [.int (nI ln), .int (nI sz), .int x2, .ref h1, .ref h2, .int x9, .int x10], (h1, aI dT [x3, x4, x5]), (h2, aI dT [(nI lf0.1), (nI lf0.2.1), (nI lf0.2.2)])]] := hw.pick [4] rfl rfl rfl
  have hw : Wd D A s.heap _ _ [[(q.1, aI dT [(nI (q.2 0)), (nI (q.2 1)), (nI (q.2 2)), (nI (q.2 3)), (nI (q.2 4)), (nI (q.2 5))])], ((t3.eraseIdx (7 * 0 + sz)).flatMap (m3E dT)), [(g9.1, aR dT 6 7 (fun i => g9.2[i]?))], ((t2.eraseIdx 0).flatMap (m2E dT)), [ob t 14 [.ref tm, .ref tl]], [(tm, aR dT 7 3 (fun i => (ads t2)[i]?))], [(tl, aI dT [((nI lf9.1) - 1), (nI lf9.2.1), (nI lf9.2.2)])], [ob h0 10 [.int (nI ln), .int (nI sz), .int x2, .ref h1, .ref h2, .int x9, .int x10], (h1, aI dT [x3, x4, x5]), (h2, aI dT [(nI lf0.1), (nI lf0.2.1), (nI lf0.2.2)])]] := hw.foc hq
  refine xr_iald hf hK hw 0 0 rfl 0 (by decide) (by decide) (Nat.le_of_ble_eq_true rfl) rfl dX15_join_62 ?_
  refine lv_iconst (v := 1) hx hb dX15_join_63 (by decide) ?_
  refine lv_iadd hx hb dX15_join_64 ?_
  refine lv_as (y := (nI ((q.2 0) + 1))) (nI_1 _) ?_
  refine xr_iast (LL' := [[(q.1, aI dT [(nI ((q.2 0) + 1)), (nI (q.2 1)), (nI (q.2 2)), (nI (q.2 3)), (nI (q.2 4)), (nI (q.2 5))])], ((t3.eraseIdx (7 * 0 + sz)).flatMap (m3E dT)), [(g9.1, aR dT 6 7 (fun i => g9.2[i]?))], ((t2.eraseIdx 0).flatMap (m2E dT)), [ob t 14 [.ref tm, .ref tl]], [(tm, aR dT 7 3 (fun i => (ads t2)[i]?))], [(tl, aI dT [((nI lf9.1) - 1), (nI lf9.2.1), (nI lf9.2.2)])], [ob h0 10 [.int (nI ln), .int (nI sz), .int x2, .ref h1, .ref h2, .int x9, .int x10], (h1, aI dT [x3, x4, x5]), (h2, aI dT [(nI lf0.1), (nI lf0.2.1), (nI lf0.2.2)])]]) hf hK hw 0 0 rfl 0 (by decide) (by decide) (Nat.le_of_ble_eq_true rfl) rfl dX15_join_65 (fun H locs hw => ?_)
  have hw : Wd D A s.heap _ _ [[(g9.1, aR dT 6 7 (fun i => g9.2[i]?))], ((t2.eraseIdx 0).flatMap (m2E dT)), [(q.1, aI dT [(nI ((q.2 0) + 1)), (nI (q.2 1)), (nI (q.2 2)), (nI (q.2 3)), (nI (q.2 4)), (nI (q.2 5))])], ((t3.eraseIdx (7 * 0 + sz)).flatMap (m3E dT)), [ob t 14 [.ref tm, .ref tl]], [(tm, aR dT 7 3 (fun i => (ads t2)[i]?))], [(tl, aI dT [((nI lf9.1) - 1), (nI lf9.2.1), (nI lf9.2.2)])], [ob h0 10 [.int (nI ln), .int (nI sz), .int x2, .ref h1, .ref h2, .int x9, .int x10], (h1, aI dT [x3, x4, x5]), (h2, aI dT [(nI lf0.1), (nI lf0.2.1), (nI lf0.2.2)])]] := hw.pick [2, 2] rfl rfl rfl
  have hw : Wd D A s.heap _ _ [(t2.flatMap (m2E dT)), [(q.1, aI dT [(nI ((q.2 0) + 1)), (nI (q.2 1)), (nI (q.2 2)), (nI (q.2 3)), (nI (q.2 4)), (nI (q.2 5))])], ((t3.eraseIdx (7 * 0 + sz)).flatMap (m3E dT)), [ob t 14 [.ref tm, .ref tl]], [(tm, aR dT 7 3 (fun i => (ads t2)[i]?))], [(tl, aI dT [((nI lf9.1) - 1), (nI lf9.2.1), (nI lf9.2.2)])], [ob h0 10 [.int (nI ln), .int (nI sz), .int x2, .ref h1, .ref h2, .int x9, .int x10], (h1, aI dT [x3, x4, x5]), (h2, aI dT [(nI lf0.1), (nI lf0.2.1), (nI lf0.2.2)])]] := Wd.unf0 (q := g9) (L := t2) (k := 0) hw hg
  have hw : Wd D A s.heap _ _ [[(q.1, aI dT [(nI ((q.2 0) + 1)), (nI (q.2 1)), (nI (q.2 2)), (nI (q.2 3)), (nI (q.2 4)), (nI (q.2 5))])], ((t3.eraseIdx (7 * 0 + sz)).flatMap (m3E dT)), (t2.flatMap (m2E dT)), [ob t 14 [.ref tm, .ref tl]], [(tm, aR dT 7 3 (fun i => (ads t2)[i]?))], [(tl, aI dT [((nI lf9.1) - 1), (nI lf9.2.1), (nI lf9.2.2)])], [ob h0 10 [.int (nI ln), .int (nI sz), .int x2, .ref h1, .ref h2, .int x9, .int x10], (h1, aI dT [x3, x4, x5]), (h2, aI dT [(nI lf0.1), (nI lf0.2.1), (nI lf0.2.2)])]] := hw.pick [1, 1] rfl rfl rfl
  have hw : Wd D A s.heap _ _ [((t3.set (7 * 0 + sz) (q.1, (inc6 q.2 0))).flatMap (m3E dT)), (t2.flatMap (m2E dT)), [ob t 14 [.ref tm, .ref tl]], [(tm, aR dT 7 3 (fun i => (ads t2)[i]?))], [(tl, aI dT [((nI lf9.1) - 1), (nI lf9.2.1), (nI lf9.2.2)])], [ob h0 10 [.int (nI ln), .int (nI sz), .int x2, .ref h1, .ref h2, .int x9, .int x10], (h1, aI dT [x3, x4, x5]), (h2, aI dT [(nI lf0.1), (nI lf0.2.1), (nI lf0.2.2)])]] := Wd.unf (q' := (q.1, (inc6 q.2 0))) (L := t3) (k := (7 * 0 + sz)) hw hq
  rw [nI_sub1 hk] at hw
  have hw : Wd D A s.heap _ _ [((t3.set (7 * 0 + sz) (q.1, (inc6 q.2 0))).flatMap (m3E dT)), (t2.flatMap (m2E dT)), [ob t 14 [.ref tm, .ref tl]], [(tm, aR dT 7 3 (fun i => (ads t2)[i]?))], [(tl, aI dT [(nI (lf9.1 - 1, lf9.2.1, lf9.2.2).1), (nI (lf9.1 - 1, lf9.2.1, lf9.2.2).2.1), (nI (lf9.1 - 1, lf9.2.1, lf9.2.2).2.2)])], [ob h0 10 [.int (nI ln), .int (nI sz), .int x2, .ref h1, .ref h2, .int x9, .int x10], (h1, aI dT [x3, x4, x5]), (h2, aI dT [(nI lf0.1), (nI lf0.2.1), (nI lf0.2.2)])]] := hw
  have hw : Wd D A s.heap _ _ [[ob t 14 [.ref tm, .ref tl]], [(tm, aR dT 7 3 (fun i => (ads t2)[i]?))], (t2.flatMap (m2E dT)), ((t3.set (7 * 0 + sz) (q.1, (inc6 q.2 0))).flatMap (m3E dT)), [(tl, aI dT [(nI (lf9.1 - 1, lf9.2.1, lf9.2.2).1), (nI (lf9.1 - 1, lf9.2.1, lf9.2.2).2.1), (nI (lf9.1 - 1, lf9.2.1, lf9.2.2).2.2)])], [ob h0 10 [.int (nI ln), .int (nI sz), .int x2, .ref h1, .ref h2, .int x9, .int x10], (h1, aI dT [x3, x4, x5]), (h2, aI dT [(nI lf0.1), (nI lf0.2.1), (nI lf0.2.2)])]] := Wd.take hw [2, 2, 1, 0, 0, 0] rfl rfl
  refine lv_iconst (v := 1) hx hb dX15_join_66 (by decide) ?_
  exact xr_zret hf hr hlocks hw (Nat.le_of_ble_eq_true rfl) (Nat.le_of_ble_eq_true rfl) rfl ⟨_, ⟨t3_ads hq, fun l9 ln9 h9 hT9 => Tab_add (f := (ln9, 0, sz, 0)) hT9 (okF_new h9 hsz1 hsz2 (by decide)) hq⟩, rfl, rfl⟩ dX15_join_67

set_option maxHeartbeats 4000000 in
theorem k_X15_join_k1 (l : Launch) (D : va_G) (dT g : Nat → Nat) (z0 : Nat) (t : Nat) (tm : Nat) (tl : Nat) (t2 : T2T) (t3 : T3T) (lf9 : Lf) (h0 : Nat) (h1 : Nat) (h2 : Nat) (ln : Nat) (sz : Nat) (x2 : Int32) (x9 : Int32) (x10 : Int32) (x3 : Int32) (x4 : Int32) (x5 : Int32) (lf0 : Lf) (hT : tabOK t2 (ads t3)) (hsz1 : 2 ≤ sz) (hsz2 : sz ≤ 6) (hlf : lfN lf9 < 2 ^ 20) (hk : lf9.1 = 0 ∧ 0 < lf9.2.1) : Con l D dT g z0 yX15_join (ws_ yX15_join cX15_join 3 (some .boolean)) ({ frames := 1, cells := 0, slots := 0, locals := 40 }) [.ref t, .ref h0] [[ob t 14 [.ref tm, .ref tl]], [(tm, aR dT 7 3 (fun i => (ads t2)[i]?))], (t2.flatMap (m2E dT)), (t3.flatMap (m3E dT)), [(tl, aI dT [(nI lf9.1), (nI lf9.2.1), (nI lf9.2.2)])], [ob h0 10 [.int (nI ln), .int (nI sz), .int x2, .ref h1, .ref h2, .int x9, .int x10], (h1, aI dT [x3, x4, x5]), (h2, aI dT [(nI lf0.1), (nI lf0.2.1), (nI lf0.2.2)])]] (fun r LL => ∃ (t31 : T3T), (ads t31 = ads t3 ∧ ∀ (l9 : List FvT) (ln9 : Nat), ln9 < 4 → Tab (tval t3) l9 → Tab (tval t31) (l9 ++ [(ln9, 0, sz, 1)])) ∧ r = some (.int 1) ∧ LL = [[ob t 14 [.ref tm, .ref tl]], [(tm, aR dT 7 3 (fun i => (ads t2)[i]?))], (t2.flatMap (m2E dT)), (t31.flatMap (m3E dT)), [(tl, aI dT [(nI (lf9.1, lf9.2.1 - 1, lf9.2.2).1), (nI (lf9.1, lf9.2.1 - 1, lf9.2.2).2.1), (nI (lf9.1, lf9.2.1 - 1, lf9.2.2).2.2)])], [ob h0 10 [.int (nI ln), .int (nI sz), .int x2, .ref h1, .ref h2, .int x9, .int x10], (h1, aI dT [x3, x4, x5]), (h2, aI dT [(nI lf0.1), (nI lf0.2.1), (nI lf0.2.2)])]]) noX 0 0 := by
  refine Con.of (maxL := 3) (ret := (some .boolean)) (by first | exact plainFor_of_name (by decide) | decide +kernel) (Nat.le_of_ble_eq_true rfl) ?_
  intro p e s m args below meth c A ls hf hr hlocks hnm hno hK hA hAz hw hl hst
  have hf : CallFix p m c cX15_join 3 s args lw_all "SilkRowModel$Trial" := hf
  have hnm : meth.name = "join" := hnm
  have hx := hf.1
  have hb := hf.2.1
  have hts := hf.2.2.2.2
  have hl : lv_has ls 3 [(0, .ref t), (1, .ref h0)] := hl
  have hw : Wd D A s.heap s.heap [] [[ob t 14 [.ref tm, .ref tl]], [(tm, aR dT 7 3 (fun i => (ads t2)[i]?))], (t2.flatMap (m2E dT)), (t3.flatMap (m3E dT)), [(tl, aI dT [(nI lf9.1), (nI lf9.2.1), (nI lf9.2.2)])], [ob h0 10 [.int (nI ln), .int (nI sz), .int x2, .ref h1, .ref h2, .int x9, .int x10], (h1, aI dT [x3, x4, x5]), (h2, aI dT [(nI lf0.1), (nI lf0.2.1), (nI lf0.2.2)])]] := hw
  have hb9 : lf9.1 < 2 ^ 20 ∧ lf9.2.1 < 2 ^ 20 ∧ lf9.2.2 < 2 ^ 20 := by unfold lfN at hlf; omega
  refine lv_aload_n hx hb dX15_join_0 rfl (lv_at hl 0 rfl) ?_
  refine xr_get hf hK hw 0 0 rfl rfl in_X15 1 (by decide) q1626 (fun _ h => h) rfl dX15_join_1 ?_
  refine lv_iconst (v := 0) hx hb dX15_join_4 (by decide) ?_
  refine xr_iald hf hK hw 4 0 rfl 0 (by decide) (by decide) (Nat.le_of_ble_eq_true rfl) rfl dX15_join_5 ?_
  refine lv_if_le (tgt := 13) hx hb dX15_join_6 (by decide) (fun _ => ?_) (fun c9 => absurd c9 (not_not_intro (show nI lf9.1 ≤ 0 by rw [hk.1]; decide)))
  refine lv_aload_n hx hb dX15_join_13 rfl (lv_at hl 0 rfl) ?_
  refine xr_get hf hK hw 0 0 rfl rfl in_X15 1 (by decide) q1626 (fun _ h => h) rfl dX15_join_14 ?_
  refine lv_iconst (v := 1) hx hb dX15_join_17 (by decide) ?_
  refine xr_iald hf hK hw 4 0 rfl 1 (by decide) (by decide) (Nat.le_of_ble_eq_true rfl) rfl dX15_join_18 ?_
  refine lv_if_le (tgt := 26) hx hb dX15_join_19 (by decide) (fun c9 => absurd c9 (nI_nle hk.2 (by omega))) (fun _ => ?_)
  refine lv_iconst (v := 1) hx hb dX15_join_22 (by decide) ?_
  refine lv_goto (tgt := 27) hx hb dX15_join_23 (by decide) ?_
  refine lv_istore_n (lv' := [(2, .int 1), (0, .ref t), (1, .ref h0)]) hx hb dX15_join_27 rfl hl (by decide) rfl (fun ls hl => ?_)
  refine lv_aload_n hx hb dX15_join_28 rfl (lv_at hl 1 rfl) ?_
  refine xr_get hf hK hw 0 0 rfl rfl in_X15 1 (by decide) q1626 (fun _ h => h) rfl dX15_join_29 ?_
  refine lv_iload_n hx hb dX15_join_32 rfl (lv_at hl 0 rfl) ?_
  refine xr_iald hf hK hw 4 0 rfl 1 (by decide) (by decide) (Nat.le_of_ble_eq_true rfl) rfl dX15_join_33 ?_
  refine lv_if_ne (tgt := 39) hx hb dX15_join_34 (by decide) (fun _ => ?_) (fun c9 => absurd c9 (nI_ne0 hk.2 (by omega)))
  refine lv_aload_n hx hb dX15_join_39 rfl (lv_at hl 1 rfl) ?_
  refine xr_get hf hK hw 0 0 rfl rfl in_X15 1 (by decide) q1626 (fun _ h => h) rfl dX15_join_40 ?_
  refine lv_iload_n hx hb dX15_join_43 rfl (lv_at hl 0 rfl) ?_
  refine lv_dup2_11 hx hb dX15_join_44 rfl rfl ?_
  refine xr_iald hf hK hw 4 0 rfl 1 (by decide) (by decide) (Nat.le_of_ble_eq_true rfl) rfl dX15_join_45 ?_
  refine lv_iconst (v := 1) hx hb dX15_join_46 (by decide) ?_
  refine lv_isub hx hb dX15_join_47 ?_
  refine xr_iast (LL' := [[ob t 14 [.ref tm, .ref tl]], [(tm, aR dT 7 3 (fun i => (ads t2)[i]?))], (t2.flatMap (m2E dT)), (t3.flatMap (m3E dT)), [(tl, aI dT [(nI lf9.1), ((nI lf9.2.1) - 1), (nI lf9.2.2)])], [ob h0 10 [.int (nI ln), .int (nI sz), .int x2, .ref h1, .ref h2, .int x9, .int x10], (h1, aI dT [x3, x4, x5]), (h2, aI dT [(nI lf0.1), (nI lf0.2.1), (nI lf0.2.2)])]]) hf hK hw 4 0 rfl 1 (by decide) (by decide) (Nat.le_of_ble_eq_true rfl) rfl dX15_join_48 (fun H locs hw => ?_)
  refine lv_aload_n hx hb dX15_join_49 rfl (lv_at hl 1 rfl) ?_
  obtain ⟨g9, q, hg, hgs, hq, hv⟩ := tab_at (k := 1) (s := sz) hT (by decide) (by omega)
  refine xr_get hf hK hw 0 0 rfl rfl in_X15 0 (by decide) q1625 (fun _ h => h) rfl dX15_join_50 ?_
  refine lv_iload_n hx hb dX15_join_53 rfl (lv_at hl 0 rfl) ?_
  refine xr_aaldA (r := (some g9.1)) hf hK hw 1 0 rfl rfl 1 (by decide) (by decide) (by decide) (ads_some hg) dX15_join_54 ?_
  refine lv_aload_n hx hb dX15_join_55 rfl (lv_at hl 2 rfl) ?_
  refine xr_get hf hK hw 5 0 rfl rfl in_X11 1 (by decide) q1393 (fun _ h => h) rfl dX15_join_56 ?_
  have hw : Wd D A s.heap _ _ [(t2.flatMap (m2E dT)), [ob t 14 [.ref tm, .ref tl]], [(tm, aR dT 7 3 (fun i => (ads t2)[i]?))], (t3.flatMap (m3E dT)), [(tl, aI dT [(nI lf9.1), ((nI lf9.2.1) - 1), (nI lf9.2.2)])], [ob h0 10 [.int (nI ln), .int (nI sz), .int x2, .ref h1, .ref h2, .int x9, .int x10], (h1, aI dT [x3, x4, x5]), (h2, aI dT [(nI lf0.1), (nI lf0.2.1), (nI lf0.2.2)])]] := hw.pick [2] rfl rfl rfl
  have hw : Wd D A s.heap _ _ [[(g9.1, aR dT 6 7 (fun i => g9.2[i]?))], ((t2.eraseIdx 1).flatMap (m2E dT)), [ob t 14 [.ref tm, .ref tl]], [(tm, aR dT 7 3 (fun i => (ads t2)[i]?))], (t3.flatMap (m3E dT)), [(tl, aI dT [(nI lf9.1), ((nI lf9.2.1) - 1), (nI lf9.2.2)])], [ob h0 10 [.int (nI ln), .int (nI sz), .int x2, .ref h1, .ref h2, .int x9, .int x10], (h1, aI dT [x3, x4, x5]), (h2, aI dT [(nI lf0.1), (nI lf0.2.1), (nI lf0.2.2)])]] := hw.foc hg
  refine xr_aaldA (r := (some q.1)) hf hK hw 0 0 rfl rfl sz (nI_pos (by omega)) (nI_clamp (by omega)) (show sz < 7 by omega) hgs dX15_join_59 ?_
  refine lv_iconst (v := 0) hx hb dX15_join_60 (by decide) ?_
  refine lv_dup2_11 hx hb dX15_join_61 rfl rfl ?_
  have hw : Wd D A s.heap _ _ [(t3.flatMap (m3E dT)), [(g9.1, aR dT 6 7 (fun i => g9.2[i]?))], ((t2.eraseIdx 1).flatMap (m2E dT)), [ob t 14 [.ref tm, .ref tl]], [(tm, aR dT 7 3 (fun i => (ads t2)[i]?))], [(tl, aI dT [(nI lf9.1), ((nI lf9.2.1) - 1), (nI lf9.2.2)])], [ob h0 10 [.int (nI ln), .int (nI sz), .int x2, .ref h1, .ref h2, .int x9, .int x10], (h1, aI dT [x3, x4, x5]), (h2, aI dT [(nI lf0.1), (nI lf0.2.1), (nI lf0.2.2)])]] := hw.pick [4] rfl rfl rfl
  have hw : Wd D A s.heap _ _ [[(q.1, aI dT [(nI (q.2 0)), (nI (q.2 1)), (nI (q.2 2)), (nI (q.2 3)), (nI (q.2 4)), (nI (q.2 5))])], ((t3.eraseIdx (7 * 1 + sz)).flatMap (m3E dT)), [(g9.1, aR dT 6 7 (fun i => g9.2[i]?))], ((t2.eraseIdx 1).flatMap (m2E dT)), [ob t 14 [.ref tm, .ref tl]], [(tm, aR dT 7 3 (fun i => (ads t2)[i]?))], [(tl, aI dT [(nI lf9.1), ((nI lf9.2.1) - 1), (nI lf9.2.2)])], [ob h0 10 [.int (nI ln), .int (nI sz), .int x2, .ref h1, .ref h2, .int x9, .int x10], (h1, aI dT [x3, x4, x5]), (h2, aI dT [(nI lf0.1), (nI lf0.2.1), (nI lf0.2.2)])]] := hw.foc hq
  refine xr_iald hf hK hw 0 0 rfl 0 (by decide) (by decide) (Nat.le_of_ble_eq_true rfl) rfl dX15_join_62 ?_
  refine lv_iconst (v := 1) hx hb dX15_join_63 (by decide) ?_
  refine lv_iadd hx hb dX15_join_64 ?_
  refine lv_as (y := (nI ((q.2 0) + 1))) (nI_1 _) ?_
  refine xr_iast (LL' := [[(q.1, aI dT [(nI ((q.2 0) + 1)), (nI (q.2 1)), (nI (q.2 2)), (nI (q.2 3)), (nI (q.2 4)), (nI (q.2 5))])], ((t3.eraseIdx (7 * 1 + sz)).flatMap (m3E dT)), [(g9.1, aR dT 6 7 (fun i => g9.2[i]?))], ((t2.eraseIdx 1).flatMap (m2E dT)), [ob t 14 [.ref tm, .ref tl]], [(tm, aR dT 7 3 (fun i => (ads t2)[i]?))], [(tl, aI dT [(nI lf9.1), ((nI lf9.2.1) - 1), (nI lf9.2.2)])], [ob h0 10 [.int (nI ln), .int (nI sz), .int x2, .ref h1, .ref h2, .int x9, .int x10], (h1, aI dT [x3, x4, x5]), (h2, aI dT [(nI lf0.1), (nI lf0.2.1), (nI lf0.2.2)])]]) hf hK hw 0 0 rfl 0 (by decide) (by decide) (Nat.le_of_ble_eq_true rfl) rfl dX15_join_65 (fun H locs hw => ?_)
  have hw : Wd D A s.heap _ _ [[(g9.1, aR dT 6 7 (fun i => g9.2[i]?))], ((t2.eraseIdx 1).flatMap (m2E dT)), [(q.1, aI dT [(nI ((q.2 0) + 1)), (nI (q.2 1)), (nI (q.2 2)), (nI (q.2 3)), (nI (q.2 4)), (nI (q.2 5))])], ((t3.eraseIdx (7 * 1 + sz)).flatMap (m3E dT)), [ob t 14 [.ref tm, .ref tl]], [(tm, aR dT 7 3 (fun i => (ads t2)[i]?))], [(tl, aI dT [(nI lf9.1), ((nI lf9.2.1) - 1), (nI lf9.2.2)])], [ob h0 10 [.int (nI ln), .int (nI sz), .int x2, .ref h1, .ref h2, .int x9, .int x10], (h1, aI dT [x3, x4, x5]), (h2, aI dT [(nI lf0.1), (nI lf0.2.1), (nI lf0.2.2)])]] := hw.pick [2, 2] rfl rfl rfl
  have hw : Wd D A s.heap _ _ [(t2.flatMap (m2E dT)), [(q.1, aI dT [(nI ((q.2 0) + 1)), (nI (q.2 1)), (nI (q.2 2)), (nI (q.2 3)), (nI (q.2 4)), (nI (q.2 5))])], ((t3.eraseIdx (7 * 1 + sz)).flatMap (m3E dT)), [ob t 14 [.ref tm, .ref tl]], [(tm, aR dT 7 3 (fun i => (ads t2)[i]?))], [(tl, aI dT [(nI lf9.1), ((nI lf9.2.1) - 1), (nI lf9.2.2)])], [ob h0 10 [.int (nI ln), .int (nI sz), .int x2, .ref h1, .ref h2, .int x9, .int x10], (h1, aI dT [x3, x4, x5]), (h2, aI dT [(nI lf0.1), (nI lf0.2.1), (nI lf0.2.2)])]] := Wd.unf0 (q := g9) (L := t2) (k := 1) hw hg
  have hw : Wd D A s.heap _ _ [[(q.1, aI dT [(nI ((q.2 0) + 1)), (nI (q.2 1)), (nI (q.2 2)), (nI (q.2 3)), (nI (q.2 4)), (nI (q.2 5))])], ((t3.eraseIdx (7 * 1 + sz)).flatMap (m3E dT)), (t2.flatMap (m2E dT)), [ob t 14 [.ref tm, .ref tl]], [(tm, aR dT 7 3 (fun i => (ads t2)[i]?))], [(tl, aI dT [(nI lf9.1), ((nI lf9.2.1) - 1), (nI lf9.2.2)])], [ob h0 10 [.int (nI ln), .int (nI sz), .int x2, .ref h1, .ref h2, .int x9, .int x10], (h1, aI dT [x3, x4, x5]), (h2, aI dT [(nI lf0.1), (nI lf0.2.1), (nI lf0.2.2)])]] := hw.pick [1, 1] rfl rfl rfl
  have hw : Wd D A s.heap _ _ [((t3.set (7 * 1 + sz) (q.1, (inc6 q.2 0))).flatMap (m3E dT)), (t2.flatMap (m2E dT)), [ob t 14 [.ref tm, .ref tl]], [(tm, aR dT 7 3 (fun i => (ads t2)[i]?))], [(tl, aI dT [(nI lf9.1), ((nI lf9.2.1) - 1), (nI lf9.2.2)])], [ob h0 10 [.int (nI ln), .int (nI sz), .int x2, .ref h1, .ref h2, .int x9, .int x10], (h1, aI dT [x3, x4, x5]), (h2, aI dT [(nI lf0.1), (nI lf0.2.1), (nI lf0.2.2)])]] := Wd.unf (q' := (q.1, (inc6 q.2 0))) (L := t3) (k := (7 * 1 + sz)) hw hq
  rw [nI_sub1 hk.2] at hw
  have hw : Wd D A s.heap _ _ [((t3.set (7 * 1 + sz) (q.1, (inc6 q.2 0))).flatMap (m3E dT)), (t2.flatMap (m2E dT)), [ob t 14 [.ref tm, .ref tl]], [(tm, aR dT 7 3 (fun i => (ads t2)[i]?))], [(tl, aI dT [(nI (lf9.1, lf9.2.1 - 1, lf9.2.2).1), (nI (lf9.1, lf9.2.1 - 1, lf9.2.2).2.1), (nI (lf9.1, lf9.2.1 - 1, lf9.2.2).2.2)])], [ob h0 10 [.int (nI ln), .int (nI sz), .int x2, .ref h1, .ref h2, .int x9, .int x10], (h1, aI dT [x3, x4, x5]), (h2, aI dT [(nI lf0.1), (nI lf0.2.1), (nI lf0.2.2)])]] := hw
  have hw : Wd D A s.heap _ _ [[ob t 14 [.ref tm, .ref tl]], [(tm, aR dT 7 3 (fun i => (ads t2)[i]?))], (t2.flatMap (m2E dT)), ((t3.set (7 * 1 + sz) (q.1, (inc6 q.2 0))).flatMap (m3E dT)), [(tl, aI dT [(nI (lf9.1, lf9.2.1 - 1, lf9.2.2).1), (nI (lf9.1, lf9.2.1 - 1, lf9.2.2).2.1), (nI (lf9.1, lf9.2.1 - 1, lf9.2.2).2.2)])], [ob h0 10 [.int (nI ln), .int (nI sz), .int x2, .ref h1, .ref h2, .int x9, .int x10], (h1, aI dT [x3, x4, x5]), (h2, aI dT [(nI lf0.1), (nI lf0.2.1), (nI lf0.2.2)])]] := Wd.take hw [2, 2, 1, 0, 0, 0] rfl rfl
  refine lv_iconst (v := 1) hx hb dX15_join_66 (by decide) ?_
  exact xr_zret hf hr hlocks hw (Nat.le_of_ble_eq_true rfl) (Nat.le_of_ble_eq_true rfl) rfl ⟨_, ⟨t3_ads hq, fun l9 ln9 h9 hT9 => Tab_add (f := (ln9, 0, sz, 1)) hT9 (okF_new h9 hsz1 hsz2 (by decide)) hq⟩, rfl, rfl⟩ dX15_join_67

set_option maxHeartbeats 4000000 in
theorem k_X15_join_k2 (l : Launch) (D : va_G) (dT g : Nat → Nat) (z0 : Nat) (t : Nat) (tm : Nat) (tl : Nat) (t2 : T2T) (t3 : T3T) (lf9 : Lf) (h0 : Nat) (h1 : Nat) (h2 : Nat) (ln : Nat) (sz : Nat) (x2 : Int32) (x9 : Int32) (x10 : Int32) (x3 : Int32) (x4 : Int32) (x5 : Int32) (lf0 : Lf) (hT : tabOK t2 (ads t3)) (hsz1 : 2 ≤ sz) (hsz2 : sz ≤ 6) (hlf : lfN lf9 < 2 ^ 20) (hk : lf9.1 = 0 ∧ lf9.2.1 = 0 ∧ 0 < lf9.2.2) : Con l D dT g z0 yX15_join (ws_ yX15_join cX15_join 3 (some .boolean)) ({ frames := 1, cells := 0, slots := 0, locals := 40 }) [.ref t, .ref h0] [[ob t 14 [.ref tm, .ref tl]], [(tm, aR dT 7 3 (fun i => (ads t2)[i]?))], (t2.flatMap (m2E dT)), (t3.flatMap (m3E dT)), [(tl, aI dT [(nI lf9.1), (nI lf9.2.1), (nI lf9.2.2)])], [ob h0 10 [.int (nI ln), .int (nI sz), .int x2, .ref h1, .ref h2, .int x9, .int x10], (h1, aI dT [x3, x4, x5]), (h2, aI dT [(nI lf0.1), (nI lf0.2.1), (nI lf0.2.2)])]] (fun r LL => ∃ (t31 : T3T), (ads t31 = ads t3 ∧ ∀ (l9 : List FvT) (ln9 : Nat), ln9 < 4 → Tab (tval t3) l9 → Tab (tval t31) (l9 ++ [(ln9, 0, sz, 2)])) ∧ r = some (.int 1) ∧ LL = [[ob t 14 [.ref tm, .ref tl]], [(tm, aR dT 7 3 (fun i => (ads t2)[i]?))], (t2.flatMap (m2E dT)), (t31.flatMap (m3E dT)), [(tl, aI dT [(nI (lf9.1, lf9.2.1, lf9.2.2 - 1).1), (nI (lf9.1, lf9.2.1, lf9.2.2 - 1).2.1), (nI (lf9.1, lf9.2.1, lf9.2.2 - 1).2.2)])], [ob h0 10 [.int (nI ln), .int (nI sz), .int x2, .ref h1, .ref h2, .int x9, .int x10], (h1, aI dT [x3, x4, x5]), (h2, aI dT [(nI lf0.1), (nI lf0.2.1), (nI lf0.2.2)])]]) noX 0 0 := by
  refine Con.of (maxL := 3) (ret := (some .boolean)) (by first | exact plainFor_of_name (by decide) | decide +kernel) (Nat.le_of_ble_eq_true rfl) ?_
  intro p e s m args below meth c A ls hf hr hlocks hnm hno hK hA hAz hw hl hst
  have hf : CallFix p m c cX15_join 3 s args lw_all "SilkRowModel$Trial" := hf
  have hnm : meth.name = "join" := hnm
  have hx := hf.1
  have hb := hf.2.1
  have hts := hf.2.2.2.2
  have hl : lv_has ls 3 [(0, .ref t), (1, .ref h0)] := hl
  have hw : Wd D A s.heap s.heap [] [[ob t 14 [.ref tm, .ref tl]], [(tm, aR dT 7 3 (fun i => (ads t2)[i]?))], (t2.flatMap (m2E dT)), (t3.flatMap (m3E dT)), [(tl, aI dT [(nI lf9.1), (nI lf9.2.1), (nI lf9.2.2)])], [ob h0 10 [.int (nI ln), .int (nI sz), .int x2, .ref h1, .ref h2, .int x9, .int x10], (h1, aI dT [x3, x4, x5]), (h2, aI dT [(nI lf0.1), (nI lf0.2.1), (nI lf0.2.2)])]] := hw
  have hb9 : lf9.1 < 2 ^ 20 ∧ lf9.2.1 < 2 ^ 20 ∧ lf9.2.2 < 2 ^ 20 := by unfold lfN at hlf; omega
  refine lv_aload_n hx hb dX15_join_0 rfl (lv_at hl 0 rfl) ?_
  refine xr_get hf hK hw 0 0 rfl rfl in_X15 1 (by decide) q1626 (fun _ h => h) rfl dX15_join_1 ?_
  refine lv_iconst (v := 0) hx hb dX15_join_4 (by decide) ?_
  refine xr_iald hf hK hw 4 0 rfl 0 (by decide) (by decide) (Nat.le_of_ble_eq_true rfl) rfl dX15_join_5 ?_
  refine lv_if_le (tgt := 13) hx hb dX15_join_6 (by decide) (fun _ => ?_) (fun c9 => absurd c9 (not_not_intro (show nI lf9.1 ≤ 0 by rw [hk.1]; decide)))
  refine lv_aload_n hx hb dX15_join_13 rfl (lv_at hl 0 rfl) ?_
  refine xr_get hf hK hw 0 0 rfl rfl in_X15 1 (by decide) q1626 (fun _ h => h) rfl dX15_join_14 ?_
  refine lv_iconst (v := 1) hx hb dX15_join_17 (by decide) ?_
  refine xr_iald hf hK hw 4 0 rfl 1 (by decide) (by decide) (Nat.le_of_ble_eq_true rfl) rfl dX15_join_18 ?_
  refine lv_if_le (tgt := 26) hx hb dX15_join_19 (by decide) (fun _ => ?_) (fun c9 => absurd c9 (not_not_intro (show nI lf9.2.1 ≤ 0 by rw [hk.2.1]; decide)))
  refine lv_iconst (v := 2) hx hb dX15_join_26 (by decide) ?_
  refine lv_istore_n (lv' := [(2, .int 2), (0, .ref t), (1, .ref h0)]) hx hb dX15_join_27 rfl hl (by decide) rfl (fun ls hl => ?_)
  refine lv_aload_n hx hb dX15_join_28 rfl (lv_at hl 1 rfl) ?_
  refine xr_get hf hK hw 0 0 rfl rfl in_X15 1 (by decide) q1626 (fun _ h => h) rfl dX15_join_29 ?_
  refine lv_iload_n hx hb dX15_join_32 rfl (lv_at hl 0 rfl) ?_
  refine xr_iald hf hK hw 4 0 rfl 2 (by decide) (by decide) (Nat.le_of_ble_eq_true rfl) rfl dX15_join_33 ?_
  refine lv_if_ne (tgt := 39) hx hb dX15_join_34 (by decide) (fun _ => ?_) (fun c9 => absurd c9 (nI_ne0 hk.2.2 (by omega)))
  refine lv_aload_n hx hb dX15_join_39 rfl (lv_at hl 1 rfl) ?_
  refine xr_get hf hK hw 0 0 rfl rfl in_X15 1 (by decide) q1626 (fun _ h => h) rfl dX15_join_40 ?_
  refine lv_iload_n hx hb dX15_join_43 rfl (lv_at hl 0 rfl) ?_
  refine lv_dup2_11 hx hb dX15_join_44 rfl rfl ?_
  refine xr_iald hf hK hw 4 0 rfl 2 (by decide) (by decide) (Nat.le_of_ble_eq_true rfl) rfl dX15_join_45 ?_
  refine lv_iconst (v := 1) hx hb dX15_join_46 (by decide) ?_
  refine lv_isub hx hb dX15_join_47 ?_
  refine xr_iast (LL' := [[ob t 14 [.ref tm, .ref tl]], [(tm, aR dT 7 3 (fun i => (ads t2)[i]?))], (t2.flatMap (m2E dT)), (t3.flatMap (m3E dT)), [(tl, aI dT [(nI lf9.1), (nI lf9.2.1), ((nI lf9.2.2) - 1)])], [ob h0 10 [.int (nI ln), .int (nI sz), .int x2, .ref h1, .ref h2, .int x9, .int x10], (h1, aI dT [x3, x4, x5]), (h2, aI dT [(nI lf0.1), (nI lf0.2.1), (nI lf0.2.2)])]]) hf hK hw 4 0 rfl 2 (by decide) (by decide) (Nat.le_of_ble_eq_true rfl) rfl dX15_join_48 (fun H locs hw => ?_)
  refine lv_aload_n hx hb dX15_join_49 rfl (lv_at hl 1 rfl) ?_
  obtain ⟨g9, q, hg, hgs, hq, hv⟩ := tab_at (k := 2) (s := sz) hT (by decide) (by omega)
  refine xr_get hf hK hw 0 0 rfl rfl in_X15 0 (by decide) q1625 (fun _ h => h) rfl dX15_join_50 ?_
  refine lv_iload_n hx hb dX15_join_53 rfl (lv_at hl 0 rfl) ?_
  refine xr_aaldA (r := (some g9.1)) hf hK hw 1 0 rfl rfl 2 (by decide) (by decide) (by decide) (ads_some hg) dX15_join_54 ?_
  refine lv_aload_n hx hb dX15_join_55 rfl (lv_at hl 2 rfl) ?_
  refine xr_get hf hK hw 5 0 rfl rfl in_X11 1 (by decide) q1393 (fun _ h => h) rfl dX15_join_56 ?_
  have hw : Wd D A s.heap _ _ [(t2.flatMap (m2E dT)), [ob t 14 [.ref tm, .ref tl]], [(tm, aR dT 7 3 (fun i => (ads t2)[i]?))], (t3.flatMap (m3E dT)), [(tl, aI dT [(nI lf9.1), (nI lf9.2.1), ((nI lf9.2.2) - 1)])], [ob h0 10 [.int (nI ln), .int (nI sz), .int x2, .ref h1, .ref h2, .int x9, .int x10], (h1, aI dT [x3, x4, x5]), (h2, aI dT [(nI lf0.1), (nI lf0.2.1), (nI lf0.2.2)])]] := hw.pick [2] rfl rfl rfl
  have hw : Wd D A s.heap _ _ [[(g9.1, aR dT 6 7 (fun i => g9.2[i]?))], ((t2.eraseIdx 2).flatMap (m2E dT)), [ob t 14 [.ref tm, .ref tl]], [(tm, aR dT 7 3 (fun i => (ads t2)[i]?))], (t3.flatMap (m3E dT)), [(tl, aI dT [(nI lf9.1), (nI lf9.2.1), ((nI lf9.2.2) - 1)])], [ob h0 10 [.int (nI ln), .int (nI sz), .int x2, .ref h1, .ref h2, .int x9, .int x10], (h1, aI dT [x3, x4, x5]), (h2, aI dT [(nI lf0.1), (nI lf0.2.1), (nI lf0.2.2)])]] := hw.foc hg
  refine xr_aaldA (r := (some q.1)) hf hK hw 0 0 rfl rfl sz (nI_pos (by omega)) (nI_clamp (by omega)) (show sz < 7 by omega) hgs dX15_join_59 ?_
  refine lv_iconst (v := 0) hx hb dX15_join_60 (by decide) ?_
  refine lv_dup2_11 hx hb dX15_join_61 rfl rfl ?_
  have hw : Wd D A s.heap _ _ [(t3.flatMap (m3E dT)), [(g9.1, aR dT 6 7 (fun i => g9.2[i]?))], ((t2.eraseIdx 2).flatMap (m2E dT)), [ob t 14 [.ref tm, .ref tl]], [(tm, aR dT 7 3 (fun i => (ads t2)[i]?))], [(tl, aI dT [(nI lf9.1), (nI lf9.2.1), ((nI lf9.2.2) - 1)])], [ob h0 10 [.int (nI ln), .int (nI sz), .int x2, .ref h1, .ref h2, .int x9, .int x10], (h1, aI dT [x3, x4, x5]), (h2, aI dT [(nI lf0.1), (nI lf0.2.1), (nI lf0.2.2)])]] := hw.pick [4] rfl rfl rfl
  have hw : Wd D A s.heap _ _ [[(q.1, aI dT [(nI (q.2 0)), (nI (q.2 1)), (nI (q.2 2)), (nI (q.2 3)), (nI (q.2 4)), (nI (q.2 5))])], ((t3.eraseIdx (7 * 2 + sz)).flatMap (m3E dT)), [(g9.1, aR dT 6 7 (fun i => g9.2[i]?))], ((t2.eraseIdx 2).flatMap (m2E dT)), [ob t 14 [.ref tm, .ref tl]], [(tm, aR dT 7 3 (fun i => (ads t2)[i]?))], [(tl, aI dT [(nI lf9.1), (nI lf9.2.1), ((nI lf9.2.2) - 1)])], [ob h0 10 [.int (nI ln), .int (nI sz), .int x2, .ref h1, .ref h2, .int x9, .int x10], (h1, aI dT [x3, x4, x5]), (h2, aI dT [(nI lf0.1), (nI lf0.2.1), (nI lf0.2.2)])]] := hw.foc hq
  refine xr_iald hf hK hw 0 0 rfl 0 (by decide) (by decide) (Nat.le_of_ble_eq_true rfl) rfl dX15_join_62 ?_
  refine lv_iconst (v := 1) hx hb dX15_join_63 (by decide) ?_
  refine lv_iadd hx hb dX15_join_64 ?_
  refine lv_as (y := (nI ((q.2 0) + 1))) (nI_1 _) ?_
  refine xr_iast (LL' := [[(q.1, aI dT [(nI ((q.2 0) + 1)), (nI (q.2 1)), (nI (q.2 2)), (nI (q.2 3)), (nI (q.2 4)), (nI (q.2 5))])], ((t3.eraseIdx (7 * 2 + sz)).flatMap (m3E dT)), [(g9.1, aR dT 6 7 (fun i => g9.2[i]?))], ((t2.eraseIdx 2).flatMap (m2E dT)), [ob t 14 [.ref tm, .ref tl]], [(tm, aR dT 7 3 (fun i => (ads t2)[i]?))], [(tl, aI dT [(nI lf9.1), (nI lf9.2.1), ((nI lf9.2.2) - 1)])], [ob h0 10 [.int (nI ln), .int (nI sz), .int x2, .ref h1, .ref h2, .int x9, .int x10], (h1, aI dT [x3, x4, x5]), (h2, aI dT [(nI lf0.1), (nI lf0.2.1), (nI lf0.2.2)])]]) hf hK hw 0 0 rfl 0 (by decide) (by decide) (Nat.le_of_ble_eq_true rfl) rfl dX15_join_65 (fun H locs hw => ?_)
  have hw : Wd D A s.heap _ _ [[(g9.1, aR dT 6 7 (fun i => g9.2[i]?))], ((t2.eraseIdx 2).flatMap (m2E dT)), [(q.1, aI dT [(nI ((q.2 0) + 1)), (nI (q.2 1)), (nI (q.2 2)), (nI (q.2 3)), (nI (q.2 4)), (nI (q.2 5))])], ((t3.eraseIdx (7 * 2 + sz)).flatMap (m3E dT)), [ob t 14 [.ref tm, .ref tl]], [(tm, aR dT 7 3 (fun i => (ads t2)[i]?))], [(tl, aI dT [(nI lf9.1), (nI lf9.2.1), ((nI lf9.2.2) - 1)])], [ob h0 10 [.int (nI ln), .int (nI sz), .int x2, .ref h1, .ref h2, .int x9, .int x10], (h1, aI dT [x3, x4, x5]), (h2, aI dT [(nI lf0.1), (nI lf0.2.1), (nI lf0.2.2)])]] := hw.pick [2, 2] rfl rfl rfl
  have hw : Wd D A s.heap _ _ [(t2.flatMap (m2E dT)), [(q.1, aI dT [(nI ((q.2 0) + 1)), (nI (q.2 1)), (nI (q.2 2)), (nI (q.2 3)), (nI (q.2 4)), (nI (q.2 5))])], ((t3.eraseIdx (7 * 2 + sz)).flatMap (m3E dT)), [ob t 14 [.ref tm, .ref tl]], [(tm, aR dT 7 3 (fun i => (ads t2)[i]?))], [(tl, aI dT [(nI lf9.1), (nI lf9.2.1), ((nI lf9.2.2) - 1)])], [ob h0 10 [.int (nI ln), .int (nI sz), .int x2, .ref h1, .ref h2, .int x9, .int x10], (h1, aI dT [x3, x4, x5]), (h2, aI dT [(nI lf0.1), (nI lf0.2.1), (nI lf0.2.2)])]] := Wd.unf0 (q := g9) (L := t2) (k := 2) hw hg
  have hw : Wd D A s.heap _ _ [[(q.1, aI dT [(nI ((q.2 0) + 1)), (nI (q.2 1)), (nI (q.2 2)), (nI (q.2 3)), (nI (q.2 4)), (nI (q.2 5))])], ((t3.eraseIdx (7 * 2 + sz)).flatMap (m3E dT)), (t2.flatMap (m2E dT)), [ob t 14 [.ref tm, .ref tl]], [(tm, aR dT 7 3 (fun i => (ads t2)[i]?))], [(tl, aI dT [(nI lf9.1), (nI lf9.2.1), ((nI lf9.2.2) - 1)])], [ob h0 10 [.int (nI ln), .int (nI sz), .int x2, .ref h1, .ref h2, .int x9, .int x10], (h1, aI dT [x3, x4, x5]), (h2, aI dT [(nI lf0.1), (nI lf0.2.1), (nI lf0.2.2)])]] := hw.pick [1, 1] rfl rfl rfl
  have hw : Wd D A s.heap _ _ [((t3.set (7 * 2 + sz) (q.1, (inc6 q.2 0))).flatMap (m3E dT)), (t2.flatMap (m2E dT)), [ob t 14 [.ref tm, .ref tl]], [(tm, aR dT 7 3 (fun i => (ads t2)[i]?))], [(tl, aI dT [(nI lf9.1), (nI lf9.2.1), ((nI lf9.2.2) - 1)])], [ob h0 10 [.int (nI ln), .int (nI sz), .int x2, .ref h1, .ref h2, .int x9, .int x10], (h1, aI dT [x3, x4, x5]), (h2, aI dT [(nI lf0.1), (nI lf0.2.1), (nI lf0.2.2)])]] := Wd.unf (q' := (q.1, (inc6 q.2 0))) (L := t3) (k := (7 * 2 + sz)) hw hq
  rw [nI_sub1 hk.2.2] at hw
  have hw : Wd D A s.heap _ _ [((t3.set (7 * 2 + sz) (q.1, (inc6 q.2 0))).flatMap (m3E dT)), (t2.flatMap (m2E dT)), [ob t 14 [.ref tm, .ref tl]], [(tm, aR dT 7 3 (fun i => (ads t2)[i]?))], [(tl, aI dT [(nI (lf9.1, lf9.2.1, lf9.2.2 - 1).1), (nI (lf9.1, lf9.2.1, lf9.2.2 - 1).2.1), (nI (lf9.1, lf9.2.1, lf9.2.2 - 1).2.2)])], [ob h0 10 [.int (nI ln), .int (nI sz), .int x2, .ref h1, .ref h2, .int x9, .int x10], (h1, aI dT [x3, x4, x5]), (h2, aI dT [(nI lf0.1), (nI lf0.2.1), (nI lf0.2.2)])]] := hw
  have hw : Wd D A s.heap _ _ [[ob t 14 [.ref tm, .ref tl]], [(tm, aR dT 7 3 (fun i => (ads t2)[i]?))], (t2.flatMap (m2E dT)), ((t3.set (7 * 2 + sz) (q.1, (inc6 q.2 0))).flatMap (m3E dT)), [(tl, aI dT [(nI (lf9.1, lf9.2.1, lf9.2.2 - 1).1), (nI (lf9.1, lf9.2.1, lf9.2.2 - 1).2.1), (nI (lf9.1, lf9.2.1, lf9.2.2 - 1).2.2)])], [ob h0 10 [.int (nI ln), .int (nI sz), .int x2, .ref h1, .ref h2, .int x9, .int x10], (h1, aI dT [x3, x4, x5]), (h2, aI dT [(nI lf0.1), (nI lf0.2.1), (nI lf0.2.2)])]] := Wd.take hw [2, 2, 1, 0, 0, 0] rfl rfl
  refine lv_iconst (v := 1) hx hb dX15_join_66 (by decide) ?_
  exact xr_zret hf hr hlocks hw (Nat.le_of_ble_eq_true rfl) (Nat.le_of_ble_eq_true rfl) rfl ⟨_, ⟨t3_ads hq, fun l9 ln9 h9 hT9 => Tab_add (f := (ln9, 0, sz, 2)) hT9 (okF_new h9 hsz1 hsz2 (by decide)) hq⟩, rfl, rfl⟩ dX15_join_67

set_option maxHeartbeats 4000000 in
theorem wl_gs {p : Program} {l : Launch} {e : Env} {s : State} {m : MethodId} {args : Array Value} {below : List Frame} {meth : Method} {c : Code} {A : Nat → Prop} {Q : State → Prop} {D : va_G} {dT g : Nat → Nat} {z0 mc ms : Nat} (hf : CallFix p m c cX15_go 10 s args lw_all "SilkRowModel$Trial") (hK : KK D dT g z0 s s.heap) (hA : ∀ q, s.heap.size ≤ q → A q) (hAz : ∀ q, A q → zA z0 q) (hst : l.stackTraces = false) {t tm tl kc ks k : Nat} {t2 : T2T} {V0 : Nat → Nat → Nat} {as : List Nat} {lf9 : Lf} {g9 : Nat × List Nat} (hT : tabOK t2 as) (hk : k < 3) (hg : t2[k]? = some g9) (hmc : kc ≤ mc) (hms : ks ≤ ms) (K83 : (∀ (t3 : T3T) (ls : Array Slot) (H : Heap) (locs : List Loc), goJ V0 as (7 * k + 7) t3 → lv_has ls 10 [(3, .int (nI k)), (2, .int (nI 3)), (1, .ref tm), (0, .ref t)] → Wd D A s.heap H locs [[ob t 14 [.ref tm, .ref tl]], [(tm, aR dT 7 3 (fun i => (ads t2)[i]?))], (t2.flatMap (m2E dT)), (t3.flatMap (m3E dT)), [(tl, aI dT [(nI lf9.1), (nI lf9.2.1), (nI lf9.2.2)])]] → W p l e ({ frames := 7, cells := mc, slots := ms, locals := 200 }) s m args below meth c H locs kc ks Q (F0 m 83 ls []))) : ∀ (n s9 : Nat) (t3 : T3T) (ls : Array Slot) (H : Heap) (locs : List Loc), s9 + n = 7 → goJ V0 as (7 * k + s9) t3 → lv_has ls 10 [(7, .int (nI s9)), (6, .int (nI 7)), (5, .ref g9.1), (3, .int (nI k)), (2, .int (nI 3)), (1, .ref tm), (0, .ref t)] → Wd D A s.heap H locs [[ob t 14 [.ref tm, .ref tl]], [(tm, aR dT 7 3 (fun i => (ads t2)[i]?))], (t2.flatMap (m2E dT)), (t3.flatMap (m3E dT)), [(tl, aI dT [(nI lf9.1), (nI lf9.2.1), (nI lf9.2.2)])]] → W p l e ({ frames := 7, cells := mc, slots := ms, locals := 200 }) s m args below meth c H locs kc ks Q (F0 m 32 ls []) := by
  have hx := hf.1
  have hb := hf.2.1
  have hts := hf.2.2.2.2
  intro n
  induction n with
  | zero =>
    intro s9 t3 ls H locs hsn hz hl hw
    have hs7 : s9 = 7 := by omega
    have hw : Wd D A s.heap _ _ [[ob t 14 [.ref tm, .ref tl]], [(tm, aR dT 7 3 (fun i => (ads t2)[i]?))], (t2.flatMap (m2E dT)), (t3.flatMap (m3E dT)), [(tl, aI dT [(nI lf9.1), (nI lf9.2.1), (nI lf9.2.2)])]] := hw
    refine lv_iload hx hb dX15_go_32 (lv_at hl 0 rfl) ?_
    refine lv_iload hx hb dX15_go_34 (lv_at hl 1 rfl) ?_
    refine lv_icmp_ge (tgt := 83) hx hb dX15_go_36 (by decide) (fun _ => ?_) (fun c9 => absurd c9 (not_not_intro (nI_le (by omega) (by omega))))
    have hl9 := lv_sub hl [3, 4, 5, 6] rfl
    exact K83 t3 _ _ _ (by rw [hs7] at hz; exact hz) hl9 hw
  | succ n ih =>
    intro s9 t3 ls H locs hsn hz hl hw
    obtain ⟨g2, q, hg2, hgs, hq, hv⟩ := tab_at (by rw [hz.1]; exact hT) hk (show s9 < 7 by omega)
    have e2 : g2 = g9 := Option.some.inj (hg2.symm.trans hg)
    rw [e2] at hgs
    have hw : Wd D A s.heap _ _ [[ob t 14 [.ref tm, .ref tl]], [(tm, aR dT 7 3 (fun i => (ads t2)[i]?))], (t2.flatMap (m2E dT)), (t3.flatMap (m3E dT)), [(tl, aI dT [(nI lf9.1), (nI lf9.2.1), (nI lf9.2.2)])]] := hw
    refine lv_iload hx hb dX15_go_32 (lv_at hl 0 rfl) ?_
    refine lv_iload hx hb dX15_go_34 (lv_at hl 1 rfl) ?_
    refine lv_icmp_ge (tgt := 83) hx hb dX15_go_36 (by decide) (fun c9 => absurd c9 (nI_ge (by omega) (by omega))) (fun _ => ?_)
    refine lv_aload hx hb dX15_go_39 (lv_at hl 2 rfl) ?_
    refine lv_iload hx hb dX15_go_41 (lv_at hl 0 rfl) ?_
    have hw : Wd D A s.heap _ _ [(t2.flatMap (m2E dT)), [ob t 14 [.ref tm, .ref tl]], [(tm, aR dT 7 3 (fun i => (ads t2)[i]?))], (t3.flatMap (m3E dT)), [(tl, aI dT [(nI lf9.1), (nI lf9.2.1), (nI lf9.2.2)])]] := hw.pick [2] rfl rfl rfl
    have hw : Wd D A s.heap _ _ [[(g9.1, aR dT 6 7 (fun i => g9.2[i]?))], ((t2.eraseIdx k).flatMap (m2E dT)), [ob t 14 [.ref tm, .ref tl]], [(tm, aR dT 7 3 (fun i => (ads t2)[i]?))], (t3.flatMap (m3E dT)), [(tl, aI dT [(nI lf9.1), (nI lf9.2.1), (nI lf9.2.2)])]] := hw.foc hg
    refine xr_aaldA (r := (some q.1)) hf hK hw 0 0 rfl rfl s9 (nI_pos (by omega)) (nI_clamp (by omega)) (show s9 < 7 by omega) hgs dX15_go_43 ?_
    refine lv_astore (lv' := [(8, .ref q.1), (7, .int (nI s9)), (6, .int (nI 7)), (5, .ref g9.1), (3, .int (nI k)), (2, .int (nI 3)), (1, .ref tm), (0, .ref t)]) hx hb dX15_go_44 hl (by decide) rfl (fun ls hl => ?_)
    refine lv_iconst (v := 5) hx hb dX15_go_46 (by decide) ?_
    refine lv_istore (lv' := [(9, .int 5), (8, .ref q.1), (7, .int (nI s9)), (6, .int (nI 7)), (5, .ref g9.1), (3, .int (nI k)), (2, .int (nI 3)), (1, .ref tm), (0, .ref t)]) hx hb dX15_go_47 hl (by decide) rfl (fun ls hl => ?_)
    refine lv_iload hx hb dX15_go_49 (lv_at hl 0 rfl) ?_
    refine lv_if_le (tgt := 72) hx hb dX15_go_51 (by decide) (fun c9 => absurd c9 (by decide)) (fun _ => ?_)
    refine lv_aload hx hb dX15_go_54 (lv_at hl 1 rfl) ?_
    refine lv_iload hx hb dX15_go_56 (lv_at hl 0 rfl) ?_
    refine lv_aload hx hb dX15_go_58 (lv_at hl 1 rfl) ?_
    refine lv_iload hx hb dX15_go_60 (lv_at hl 0 rfl) ?_
    refine lv_iconst (v := 1) hx hb dX15_go_62 (by decide) ?_
    refine lv_isub hx hb dX15_go_63 ?_
    refine lv_as (y := 4) (by decide) ?_
    have hw : Wd D A s.heap _ _ [(t3.flatMap (m3E dT)), [(g9.1, aR dT 6 7 (fun i => g9.2[i]?))], ((t2.eraseIdx k).flatMap (m2E dT)), [ob t 14 [.ref tm, .ref tl]], [(tm, aR dT 7 3 (fun i => (ads t2)[i]?))], [(tl, aI dT [(nI lf9.1), (nI lf9.2.1), (nI lf9.2.2)])]] := hw.pick [4] rfl rfl rfl
    have hw : Wd D A s.heap _ _ [[(q.1, aI dT [(nI (q.2 0)), (nI (q.2 1)), (nI (q.2 2)), (nI (q.2 3)), (nI (q.2 4)), (nI (q.2 5))])], ((t3.eraseIdx (7 * k + s9)).flatMap (m3E dT)), [(g9.1, aR dT 6 7 (fun i => g9.2[i]?))], ((t2.eraseIdx k).flatMap (m2E dT)), [ob t 14 [.ref tm, .ref tl]], [(tm, aR dT 7 3 (fun i => (ads t2)[i]?))], [(tl, aI dT [(nI lf9.1), (nI lf9.2.1), (nI lf9.2.2)])]] := hw.foc hq
    refine xr_iald hf hK hw 0 0 rfl 4 (by decide) (by decide) (Nat.le_of_ble_eq_true rfl) rfl dX15_go_64 ?_
    refine xr_iast (LL' := [[(q.1, aI dT [(nI (q.2 0)), (nI (q.2 1)), (nI (q.2 2)), (nI (q.2 3)), (nI (q.2 4)), (nI (q.2 4))])], ((t3.eraseIdx (7 * k + s9)).flatMap (m3E dT)), [(g9.1, aR dT 6 7 (fun i => g9.2[i]?))], ((t2.eraseIdx k).flatMap (m2E dT)), [ob t 14 [.ref tm, .ref tl]], [(tm, aR dT 7 3 (fun i => (ads t2)[i]?))], [(tl, aI dT [(nI lf9.1), (nI lf9.2.1), (nI lf9.2.2)])]]) hf hK hw 0 0 rfl 5 (by decide) (by decide) (Nat.le_of_ble_eq_true rfl) rfl dX15_go_65 (fun H locs hw => ?_)
    refine lv_iinc (v := 4) (lv' := [(9, .int 4), (8, .ref q.1), (7, .int (nI s9)), (6, .int (nI 7)), (5, .ref g9.1), (3, .int (nI k)), (2, .int (nI 3)), (1, .ref tm), (0, .ref t)]) hx hb dX15_go_66 hl (k := 0) rfl (by decide) (by decide) rfl (fun ls hl => ?_)
    refine lv_goto (tgt := 49) hx hb dX15_go_69 (by decide) ?_
    refine lv_iload hx hb dX15_go_49 (lv_at hl 0 rfl) ?_
    refine lv_if_le (tgt := 72) hx hb dX15_go_51 (by decide) (fun c9 => absurd c9 (by decide)) (fun _ => ?_)
    refine lv_aload hx hb dX15_go_54 (lv_at hl 1 rfl) ?_
    refine lv_iload hx hb dX15_go_56 (lv_at hl 0 rfl) ?_
    refine lv_aload hx hb dX15_go_58 (lv_at hl 1 rfl) ?_
    refine lv_iload hx hb dX15_go_60 (lv_at hl 0 rfl) ?_
    refine lv_iconst (v := 1) hx hb dX15_go_62 (by decide) ?_
    refine lv_isub hx hb dX15_go_63 ?_
    refine lv_as (y := 3) (by decide) ?_
    refine xr_iald hf hK hw 0 0 rfl 3 (by decide) (by decide) (Nat.le_of_ble_eq_true rfl) rfl dX15_go_64 ?_
    refine xr_iast (LL' := [[(q.1, aI dT [(nI (q.2 0)), (nI (q.2 1)), (nI (q.2 2)), (nI (q.2 3)), (nI (q.2 3)), (nI (q.2 4))])], ((t3.eraseIdx (7 * k + s9)).flatMap (m3E dT)), [(g9.1, aR dT 6 7 (fun i => g9.2[i]?))], ((t2.eraseIdx k).flatMap (m2E dT)), [ob t 14 [.ref tm, .ref tl]], [(tm, aR dT 7 3 (fun i => (ads t2)[i]?))], [(tl, aI dT [(nI lf9.1), (nI lf9.2.1), (nI lf9.2.2)])]]) hf hK hw 0 0 rfl 4 (by decide) (by decide) (Nat.le_of_ble_eq_true rfl) rfl dX15_go_65 (fun H locs hw => ?_)
    refine lv_iinc (v := 3) (lv' := [(9, .int 3), (8, .ref q.1), (7, .int (nI s9)), (6, .int (nI 7)), (5, .ref g9.1), (3, .int (nI k)), (2, .int (nI 3)), (1, .ref tm), (0, .ref t)]) hx hb dX15_go_66 hl (k := 0) rfl (by decide) (by decide) rfl (fun ls hl => ?_)
    refine lv_goto (tgt := 49) hx hb dX15_go_69 (by decide) ?_
    refine lv_iload hx hb dX15_go_49 (lv_at hl 0 rfl) ?_
    refine lv_if_le (tgt := 72) hx hb dX15_go_51 (by decide) (fun c9 => absurd c9 (by decide)) (fun _ => ?_)
    refine lv_aload hx hb dX15_go_54 (lv_at hl 1 rfl) ?_
    refine lv_iload hx hb dX15_go_56 (lv_at hl 0 rfl) ?_
    refine lv_aload hx hb dX15_go_58 (lv_at hl 1 rfl) ?_
    refine lv_iload hx hb dX15_go_60 (lv_at hl 0 rfl) ?_
    refine lv_iconst (v := 1) hx hb dX15_go_62 (by decide) ?_
    refine lv_isub hx hb dX15_go_63 ?_
    refine lv_as (y := 2) (by decide) ?_
    refine xr_iald hf hK hw 0 0 rfl 2 (by decide) (by decide) (Nat.le_of_ble_eq_true rfl) rfl dX15_go_64 ?_
    refine xr_iast (LL' := [[(q.1, aI dT [(nI (q.2 0)), (nI (q.2 1)), (nI (q.2 2)), (nI (q.2 2)), (nI (q.2 3)), (nI (q.2 4))])], ((t3.eraseIdx (7 * k + s9)).flatMap (m3E dT)), [(g9.1, aR dT 6 7 (fun i => g9.2[i]?))], ((t2.eraseIdx k).flatMap (m2E dT)), [ob t 14 [.ref tm, .ref tl]], [(tm, aR dT 7 3 (fun i => (ads t2)[i]?))], [(tl, aI dT [(nI lf9.1), (nI lf9.2.1), (nI lf9.2.2)])]]) hf hK hw 0 0 rfl 3 (by decide) (by decide) (Nat.le_of_ble_eq_true rfl) rfl dX15_go_65 (fun H locs hw => ?_)
    refine lv_iinc (v := 2) (lv' := [(9, .int 2), (8, .ref q.1), (7, .int (nI s9)), (6, .int (nI 7)), (5, .ref g9.1), (3, .int (nI k)), (2, .int (nI 3)), (1, .ref tm), (0, .ref t)]) hx hb dX15_go_66 hl (k := 0) rfl (by decide) (by decide) rfl (fun ls hl => ?_)
    refine lv_goto (tgt := 49) hx hb dX15_go_69 (by decide) ?_
    refine lv_iload hx hb dX15_go_49 (lv_at hl 0 rfl) ?_
    refine lv_if_le (tgt := 72) hx hb dX15_go_51 (by decide) (fun c9 => absurd c9 (by decide)) (fun _ => ?_)
    refine lv_aload hx hb dX15_go_54 (lv_at hl 1 rfl) ?_
    refine lv_iload hx hb dX15_go_56 (lv_at hl 0 rfl) ?_
    refine lv_aload hx hb dX15_go_58 (lv_at hl 1 rfl) ?_
    refine lv_iload hx hb dX15_go_60 (lv_at hl 0 rfl) ?_
    refine lv_iconst (v := 1) hx hb dX15_go_62 (by decide) ?_
    refine lv_isub hx hb dX15_go_63 ?_
    refine lv_as (y := 1) (by decide) ?_
    refine xr_iald hf hK hw 0 0 rfl 1 (by decide) (by decide) (Nat.le_of_ble_eq_true rfl) rfl dX15_go_64 ?_
    refine xr_iast (LL' := [[(q.1, aI dT [(nI (q.2 0)), (nI (q.2 1)), (nI (q.2 1)), (nI (q.2 2)), (nI (q.2 3)), (nI (q.2 4))])], ((t3.eraseIdx (7 * k + s9)).flatMap (m3E dT)), [(g9.1, aR dT 6 7 (fun i => g9.2[i]?))], ((t2.eraseIdx k).flatMap (m2E dT)), [ob t 14 [.ref tm, .ref tl]], [(tm, aR dT 7 3 (fun i => (ads t2)[i]?))], [(tl, aI dT [(nI lf9.1), (nI lf9.2.1), (nI lf9.2.2)])]]) hf hK hw 0 0 rfl 2 (by decide) (by decide) (Nat.le_of_ble_eq_true rfl) rfl dX15_go_65 (fun H locs hw => ?_)
    refine lv_iinc (v := 1) (lv' := [(9, .int 1), (8, .ref q.1), (7, .int (nI s9)), (6, .int (nI 7)), (5, .ref g9.1), (3, .int (nI k)), (2, .int (nI 3)), (1, .ref tm), (0, .ref t)]) hx hb dX15_go_66 hl (k := 0) rfl (by decide) (by decide) rfl (fun ls hl => ?_)
    refine lv_goto (tgt := 49) hx hb dX15_go_69 (by decide) ?_
    refine lv_iload hx hb dX15_go_49 (lv_at hl 0 rfl) ?_
    refine lv_if_le (tgt := 72) hx hb dX15_go_51 (by decide) (fun c9 => absurd c9 (by decide)) (fun _ => ?_)
    refine lv_aload hx hb dX15_go_54 (lv_at hl 1 rfl) ?_
    refine lv_iload hx hb dX15_go_56 (lv_at hl 0 rfl) ?_
    refine lv_aload hx hb dX15_go_58 (lv_at hl 1 rfl) ?_
    refine lv_iload hx hb dX15_go_60 (lv_at hl 0 rfl) ?_
    refine lv_iconst (v := 1) hx hb dX15_go_62 (by decide) ?_
    refine lv_isub hx hb dX15_go_63 ?_
    refine lv_as (y := 0) (by decide) ?_
    refine xr_iald hf hK hw 0 0 rfl 0 (by decide) (by decide) (Nat.le_of_ble_eq_true rfl) rfl dX15_go_64 ?_
    refine xr_iast (LL' := [[(q.1, aI dT [(nI (q.2 0)), (nI (q.2 0)), (nI (q.2 1)), (nI (q.2 2)), (nI (q.2 3)), (nI (q.2 4))])], ((t3.eraseIdx (7 * k + s9)).flatMap (m3E dT)), [(g9.1, aR dT 6 7 (fun i => g9.2[i]?))], ((t2.eraseIdx k).flatMap (m2E dT)), [ob t 14 [.ref tm, .ref tl]], [(tm, aR dT 7 3 (fun i => (ads t2)[i]?))], [(tl, aI dT [(nI lf9.1), (nI lf9.2.1), (nI lf9.2.2)])]]) hf hK hw 0 0 rfl 1 (by decide) (by decide) (Nat.le_of_ble_eq_true rfl) rfl dX15_go_65 (fun H locs hw => ?_)
    refine lv_iinc (v := 0) (lv' := [(9, .int 0), (8, .ref q.1), (7, .int (nI s9)), (6, .int (nI 7)), (5, .ref g9.1), (3, .int (nI k)), (2, .int (nI 3)), (1, .ref tm), (0, .ref t)]) hx hb dX15_go_66 hl (k := 0) rfl (by decide) (by decide) rfl (fun ls hl => ?_)
    refine lv_goto (tgt := 49) hx hb dX15_go_69 (by decide) ?_
    refine lv_iload hx hb dX15_go_49 (lv_at hl 0 rfl) ?_
    refine lv_if_le (tgt := 72) hx hb dX15_go_51 (by decide) (fun _ => ?_) (fun c9 => absurd c9 (by decide))
    refine lv_aload hx hb dX15_go_72 (lv_at hl 1 rfl) ?_
    refine lv_iconst (v := 0) hx hb dX15_go_74 (by decide) ?_
    refine lv_iconst (v := 0) hx hb dX15_go_75 (by decide) ?_
    refine lv_as (y := (nI 0)) (by decide) ?_
    refine xr_iast (LL' := [[(q.1, aI dT [(nI 0), (nI (q.2 0)), (nI (q.2 1)), (nI (q.2 2)), (nI (q.2 3)), (nI (q.2 4))])], ((t3.eraseIdx (7 * k + s9)).flatMap (m3E dT)), [(g9.1, aR dT 6 7 (fun i => g9.2[i]?))], ((t2.eraseIdx k).flatMap (m2E dT)), [ob t 14 [.ref tm, .ref tl]], [(tm, aR dT 7 3 (fun i => (ads t2)[i]?))], [(tl, aI dT [(nI lf9.1), (nI lf9.2.1), (nI lf9.2.2)])]]) hf hK hw 0 0 rfl 0 (by decide) (by decide) (Nat.le_of_ble_eq_true rfl) rfl dX15_go_76 (fun H locs hw => ?_)
    refine lv_iinc (v := (nI (s9 + 1))) (lv' := [(7, .int (nI (s9 + 1))), (9, .int 0), (8, .ref q.1), (6, .int (nI 7)), (5, .ref g9.1), (3, .int (nI k)), (2, .int (nI 3)), (1, .ref tm), (0, .ref t)]) hx hb dX15_go_77 hl (k := 2) rfl (nI_1 _) (by decide) rfl (fun ls hl => ?_)
    refine lv_goto (tgt := 32) hx hb dX15_go_80 (by decide) ?_
    have hw : Wd D A s.heap _ _ [[(g9.1, aR dT 6 7 (fun i => g9.2[i]?))], ((t2.eraseIdx k).flatMap (m2E dT)), [(q.1, aI dT [(nI 0), (nI (q.2 0)), (nI (q.2 1)), (nI (q.2 2)), (nI (q.2 3)), (nI (q.2 4))])], ((t3.eraseIdx (7 * k + s9)).flatMap (m3E dT)), [ob t 14 [.ref tm, .ref tl]], [(tm, aR dT 7 3 (fun i => (ads t2)[i]?))], [(tl, aI dT [(nI lf9.1), (nI lf9.2.1), (nI lf9.2.2)])]] := hw.pick [2, 2] rfl rfl rfl
    have hw : Wd D A s.heap _ _ [(t2.flatMap (m2E dT)), [(q.1, aI dT [(nI 0), (nI (q.2 0)), (nI (q.2 1)), (nI (q.2 2)), (nI (q.2 3)), (nI (q.2 4))])], ((t3.eraseIdx (7 * k + s9)).flatMap (m3E dT)), [ob t 14 [.ref tm, .ref tl]], [(tm, aR dT 7 3 (fun i => (ads t2)[i]?))], [(tl, aI dT [(nI lf9.1), (nI lf9.2.1), (nI lf9.2.2)])]] := Wd.unf0 (q := g9) (L := t2) (k := k) hw hg
    have hw : Wd D A s.heap _ _ [[(q.1, aI dT [(nI 0), (nI (q.2 0)), (nI (q.2 1)), (nI (q.2 2)), (nI (q.2 3)), (nI (q.2 4))])], ((t3.eraseIdx (7 * k + s9)).flatMap (m3E dT)), (t2.flatMap (m2E dT)), [ob t 14 [.ref tm, .ref tl]], [(tm, aR dT 7 3 (fun i => (ads t2)[i]?))], [(tl, aI dT [(nI lf9.1), (nI lf9.2.1), (nI lf9.2.2)])]] := hw.pick [1, 1] rfl rfl rfl
    have hw : Wd D A s.heap _ _ [((t3.set (7 * k + s9) (q.1, (vecN [0, (q.2 0), (q.2 1), (q.2 2), (q.2 3), (q.2 4)]))).flatMap (m3E dT)), (t2.flatMap (m2E dT)), [ob t 14 [.ref tm, .ref tl]], [(tm, aR dT 7 3 (fun i => (ads t2)[i]?))], [(tl, aI dT [(nI lf9.1), (nI lf9.2.1), (nI lf9.2.2)])]] := Wd.unf (q' := (q.1, (vecN [0, (q.2 0), (q.2 1), (q.2 2), (q.2 3), (q.2 4)]))) (L := t3) (k := (7 * k + s9)) hw hq
    have hw : Wd D A s.heap _ _ [[ob t 14 [.ref tm, .ref tl]], [(tm, aR dT 7 3 (fun i => (ads t2)[i]?))], (t2.flatMap (m2E dT)), ((t3.set (7 * k + s9) (q.1, (vecN [0, (q.2 0), (q.2 1), (q.2 2), (q.2 3), (q.2 4)]))).flatMap (m3E dT)), [(tl, aI dT [(nI lf9.1), (nI lf9.2.1), (nI lf9.2.2)])]] := Wd.take hw [2, 2, 1, 0, 0] rfl rfl
    have hl9 := lv_sub hl [0, 3, 4, 5, 6, 7, 8] rfl
    exact ih (s9 + 1) _ _ _ _ (by omega) (goJ_S hz hq) hl9 hw
set_option maxHeartbeats 4000000 in
theorem wl_gk {p : Program} {l : Launch} {e : Env} {s : State} {m : MethodId} {args : Array Value} {below : List Frame} {meth : Method} {c : Code} {A : Nat → Prop} {Q : State → Prop} {D : va_G} {dT g : Nat → Nat} {z0 mc ms : Nat} (hf : CallFix p m c cX15_go 10 s args lw_all "SilkRowModel$Trial") (hK : KK D dT g z0 s s.heap) (hA : ∀ q, s.heap.size ≤ q → A q) (hAz : ∀ q, A q → zA z0 q) (hst : l.stackTraces = false) {t tm tl kc ks : Nat} {t2 : T2T} {V0 : Nat → Nat → Nat} {as : List Nat} {lf9 : Lf} (hT : tabOK t2 as) (hmc : kc ≤ mc) (hms : ks ≤ ms) (K89 : (∀ (t3 : T3T) (ls : Array Slot) (H : Heap) (locs : List Loc), goJ V0 as 21 t3 → lv_has ls 10 [(0, .ref t)] → Wd D A s.heap H locs [[ob t 14 [.ref tm, .ref tl]], [(tm, aR dT 7 3 (fun i => (ads t2)[i]?))], (t2.flatMap (m2E dT)), (t3.flatMap (m3E dT)), [(tl, aI dT [(nI lf9.1), (nI lf9.2.1), (nI lf9.2.2)])]] → W p l e ({ frames := 7, cells := mc, slots := ms, locals := 200 }) s m args below meth c H locs kc ks Q (F0 m 89 ls []))) : ∀ (n k : Nat) (t3 : T3T) (ls : Array Slot) (H : Heap) (locs : List Loc), k + n = 3 → goJ V0 as (7 * k) t3 → lv_has ls 10 [(3, .int (nI k)), (2, .int (nI 3)), (1, .ref tm), (0, .ref t)] → Wd D A s.heap H locs [[ob t 14 [.ref tm, .ref tl]], [(tm, aR dT 7 3 (fun i => (ads t2)[i]?))], (t2.flatMap (m2E dT)), (t3.flatMap (m3E dT)), [(tl, aI dT [(nI lf9.1), (nI lf9.2.1), (nI lf9.2.2)])]] → W p l e ({ frames := 7, cells := mc, slots := ms, locals := 200 }) s m args below meth c H locs kc ks Q (F0 m 10 ls []) := by
  have hx := hf.1
  have hb := hf.2.1
  have hts := hf.2.2.2.2
  intro n
  induction n with
  | zero =>
    intro k t3 ls H locs hkn hz hl hw
    have hk3 : k = 3 := by omega
    have hw : Wd D A s.heap _ _ [[ob t 14 [.ref tm, .ref tl]], [(tm, aR dT 7 3 (fun i => (ads t2)[i]?))], (t2.flatMap (m2E dT)), (t3.flatMap (m3E dT)), [(tl, aI dT [(nI lf9.1), (nI lf9.2.1), (nI lf9.2.2)])]] := hw
    refine lv_iload_n hx hb dX15_go_10 rfl (lv_at hl 0 rfl) ?_
    refine lv_iload_n hx hb dX15_go_11 rfl (lv_at hl 1 rfl) ?_
    refine lv_icmp_ge (tgt := 89) hx hb dX15_go_12 (by decide) (fun _ => ?_) (fun c9 => absurd c9 (not_not_intro (nI_le (by omega) (by omega))))
    have hl9 := lv_sub hl [3] rfl
    exact K89 t3 _ _ _ (by rw [hk3] at hz; exact hz) hl9 hw
  | succ n ih =>
    intro k t3 ls H locs hkn hz hl hw
    obtain ⟨g9, q, hg, hgs, hq, hv⟩ := tab_at (k := k) (s := 0) (by rw [hz.1]; exact hT) (by omega) (by decide)
    have hw : Wd D A s.heap _ _ [[ob t 14 [.ref tm, .ref tl]], [(tm, aR dT 7 3 (fun i => (ads t2)[i]?))], (t2.flatMap (m2E dT)), (t3.flatMap (m3E dT)), [(tl, aI dT [(nI lf9.1), (nI lf9.2.1), (nI lf9.2.2)])]] := hw
    refine lv_iload_n hx hb dX15_go_10 rfl (lv_at hl 0 rfl) ?_
    refine lv_iload_n hx hb dX15_go_11 rfl (lv_at hl 1 rfl) ?_
    refine lv_icmp_ge (tgt := 89) hx hb dX15_go_12 (by decide) (fun c9 => absurd c9 (nI_ge (by omega) (by omega))) (fun _ => ?_)
    refine lv_aload_n hx hb dX15_go_15 rfl (lv_at hl 2 rfl) ?_
    refine lv_iload_n hx hb dX15_go_16 rfl (lv_at hl 0 rfl) ?_
    refine xr_aaldA (r := (some g9.1)) hf hK hw 1 0 rfl rfl k (nI_pos (by omega)) (nI_clamp (by omega)) (show k < 3 by omega) (ads_some hg) dX15_go_17 ?_
    refine lv_astore (lv' := [(4, .ref g9.1), (3, .int (nI k)), (2, .int (nI 3)), (1, .ref tm), (0, .ref t)]) hx hb dX15_go_18 hl (by decide) rfl (fun ls hl => ?_)
    refine lv_aload hx hb dX15_go_20 (lv_at hl 0 rfl) ?_
    refine lv_astore (lv' := [(5, .ref g9.1), (4, .ref g9.1), (3, .int (nI k)), (2, .int (nI 3)), (1, .ref tm), (0, .ref t)]) hx hb dX15_go_22 hl (by decide) rfl (fun ls hl => ?_)
    refine lv_aload hx hb dX15_go_24 (lv_at hl 0 rfl) ?_
    have hw : Wd D A s.heap _ _ [(t2.flatMap (m2E dT)), [ob t 14 [.ref tm, .ref tl]], [(tm, aR dT 7 3 (fun i => (ads t2)[i]?))], (t3.flatMap (m3E dT)), [(tl, aI dT [(nI lf9.1), (nI lf9.2.1), (nI lf9.2.2)])]] := hw.pick [2] rfl rfl rfl
    have hw : Wd D A s.heap _ _ [[(g9.1, aR dT 6 7 (fun i => g9.2[i]?))], ((t2.eraseIdx k).flatMap (m2E dT)), [ob t 14 [.ref tm, .ref tl]], [(tm, aR dT 7 3 (fun i => (ads t2)[i]?))], (t3.flatMap (m3E dT)), [(tl, aI dT [(nI lf9.1), (nI lf9.2.1), (nI lf9.2.2)])]] := hw.foc hg
    refine xr_rlen (v := nI 7) hf hK hw 0 0 rfl rfl rfl dX15_go_26 ?_
    refine lv_istore (lv' := [(6, .int (nI 7)), (5, .ref g9.1), (4, .ref g9.1), (3, .int (nI k)), (2, .int (nI 3)), (1, .ref tm), (0, .ref t)]) hx hb dX15_go_27 hl (by decide) rfl (fun ls hl => ?_)
    refine lv_iconst (v := 0) hx hb dX15_go_29 (by decide) ?_
    refine lv_as (y := (nI 0)) (by decide) ?_
    refine lv_istore (lv' := [(7, .int (nI 0)), (6, .int (nI 7)), (5, .ref g9.1), (4, .ref g9.1), (3, .int (nI k)), (2, .int (nI 3)), (1, .ref tm), (0, .ref t)]) hx hb dX15_go_30 hl (by decide) rfl (fun ls hl => ?_)
    have hw : Wd D A s.heap _ _ [(t2.flatMap (m2E dT)), [ob t 14 [.ref tm, .ref tl]], [(tm, aR dT 7 3 (fun i => (ads t2)[i]?))], (t3.flatMap (m3E dT)), [(tl, aI dT [(nI lf9.1), (nI lf9.2.1), (nI lf9.2.2)])]] := Wd.unf0 (q := g9) (L := t2) (k := k) hw hg
    have hw : Wd D A s.heap _ _ [[ob t 14 [.ref tm, .ref tl]], [(tm, aR dT 7 3 (fun i => (ads t2)[i]?))], (t2.flatMap (m2E dT)), (t3.flatMap (m3E dT)), [(tl, aI dT [(nI lf9.1), (nI lf9.2.1), (nI lf9.2.2)])]] := Wd.take hw [1, 1, 0, 0, 0] rfl rfl
    have hl9 := lv_sub hl [0, 1, 2, 4, 5, 6, 7] rfl
    refine wl_gs hf hK hA hAz hst hT (show k < 3 by omega) hg hmc hms ?_ 7 0 t3 _ _ _ rfl hz hl9 hw
    intro t3 ls H locs hz hl hw
    have hw : Wd D A s.heap _ _ [[ob t 14 [.ref tm, .ref tl]], [(tm, aR dT 7 3 (fun i => (ads t2)[i]?))], (t2.flatMap (m2E dT)), (t3.flatMap (m3E dT)), [(tl, aI dT [(nI lf9.1), (nI lf9.2.1), (nI lf9.2.2)])]] := hw
    refine lv_iinc (v := (nI (k + 1))) (lv' := [(3, .int (nI (k + 1))), (2, .int (nI 3)), (1, .ref tm), (0, .ref t)]) hx hb dX15_go_83 hl (k := 0) rfl (nI_1 _) (by decide) rfl (fun ls hl => ?_)
    refine lv_goto (tgt := 10) hx hb dX15_go_86 (by decide) ?_
    have hw : Wd D A s.heap _ _ [[ob t 14 [.ref tm, .ref tl]], [(tm, aR dT 7 3 (fun i => (ads t2)[i]?))], (t2.flatMap (m2E dT)), (t3.flatMap (m3E dT)), [(tl, aI dT [(nI lf9.1), (nI lf9.2.1), (nI lf9.2.2)])]] := Wd.take hw [0, 0, 0, 0, 0] rfl rfl
    have hl9 := lv_sub hl [0, 1, 2, 3] rfl
    exact ih (k + 1) _ _ _ _ (by omega) hz hl9 hw
set_option maxHeartbeats 4000000 in
theorem k_X15_go (l : Launch) (D : va_G) (dT g : Nat → Nat) (z0 : Nat) (t : Nat) (tm : Nat) (tl : Nat) (t2 : T2T) (t3 : T3T) (lf9 : Lf) (hT : tabOK t2 (ads t3)) : Con l D dT g z0 yX15_go (ws_ yX15_go cX15_go 10 none) ({ frames := 7, cells := 0, slots := 0, locals := 200 }) [.ref t] [[ob t 14 [.ref tm, .ref tl]], [(tm, aR dT 7 3 (fun i => (ads t2)[i]?))], (t2.flatMap (m2E dT)), (t3.flatMap (m3E dT)), [(tl, aI dT [(nI lf9.1), (nI lf9.2.1), (nI lf9.2.2)])]] (fun r LL => ∃ (t31 : T3T), (ads t31 = ads t3 ∧ ∀ l9 : List FvT, Tab (tval t3) l9 → Tab (tval t31) (goL l9)) ∧ r = none ∧ LL = [[ob t 14 [.ref tm, .ref tl]], [(tm, aR dT 7 3 (fun i => (ads t2)[i]?))], (t2.flatMap (m2E dT)), (t31.flatMap (m3E dT)), [(tl, aI dT [(nI lf9.1), (nI lf9.2.1), (nI lf9.2.2)])]]) noX 0 0 := by
  refine Con.of (maxL := 10) (ret := none) (by first | exact plainFor_of_name (by decide) | decide +kernel) (Nat.le_of_ble_eq_true rfl) ?_
  intro p e s m args below meth c A ls hf hr hlocks hnm hno hK hA hAz hw hl hst
  have hf : CallFix p m c cX15_go 10 s args lw_all "SilkRowModel$Trial" := hf
  have hnm : meth.name = "go" := hnm
  have hx := hf.1
  have hb := hf.2.1
  have hts := hf.2.2.2.2
  have hl : lv_has ls 10 [(0, .ref t)] := hl
  have hw : Wd D A s.heap s.heap [] [[ob t 14 [.ref tm, .ref tl]], [(tm, aR dT 7 3 (fun i => (ads t2)[i]?))], (t2.flatMap (m2E dT)), (t3.flatMap (m3E dT)), [(tl, aI dT [(nI lf9.1), (nI lf9.2.1), (nI lf9.2.2)])]] := hw
  refine lv_aload_n hx hb dX15_go_0 rfl (lv_at hl 0 rfl) ?_
  refine xr_get hf hK hw 0 0 rfl rfl in_X15 0 (by decide) q1625 (fun _ h => h) rfl dX15_go_1 ?_
  refine lv_astore_n (lv' := [(1, .ref tm), (0, .ref t)]) hx hb dX15_go_4 rfl hl (by decide) rfl (fun ls hl => ?_)
  refine lv_aload_n hx hb dX15_go_5 rfl (lv_at hl 0 rfl) ?_
  refine xr_rlen (v := nI 3) hf hK hw 1 0 rfl rfl rfl dX15_go_6 ?_
  refine lv_istore_n (lv' := [(2, .int (nI 3)), (1, .ref tm), (0, .ref t)]) hx hb dX15_go_7 rfl hl (by decide) rfl (fun ls hl => ?_)
  refine lv_iconst (v := 0) hx hb dX15_go_8 (by decide) ?_
  refine lv_as (y := (nI 0)) (by decide) ?_
  refine lv_istore_n (lv' := [(3, .int (nI 0)), (2, .int (nI 3)), (1, .ref tm), (0, .ref t)]) hx hb dX15_go_9 rfl hl (by decide) rfl (fun ls hl => ?_)
  have hw : Wd D A s.heap _ _ [[ob t 14 [.ref tm, .ref tl]], [(tm, aR dT 7 3 (fun i => (ads t2)[i]?))], (t2.flatMap (m2E dT)), (t3.flatMap (m3E dT)), [(tl, aI dT [(nI lf9.1), (nI lf9.2.1), (nI lf9.2.2)])]] := Wd.take hw [0, 0, 0, 0, 0] rfl rfl
  have hl9 := lv_sub hl [0, 1, 2, 3] rfl
  refine wl_gk (V0 := tval t3) hf hK hA hAz hst hT (Nat.le_refl _) (Nat.le_refl _) ?_ 3 0 t3 _ _ _ rfl goJ_0 hl9 hw
  intro t31 ls H locs hz hl hw
  have hw : Wd D A s.heap _ _ [[ob t 14 [.ref tm, .ref tl]], [(tm, aR dT 7 3 (fun i => (ads t2)[i]?))], (t2.flatMap (m2E dT)), (t31.flatMap (m3E dT)), [(tl, aI dT [(nI lf9.1), (nI lf9.2.1), (nI lf9.2.2)])]] := hw
  exact xr_vret hf hr hlocks hw (Nat.le_of_ble_eq_true rfl) (Nat.le_of_ble_eq_true rfl) ⟨t31, ⟨hz.1, fun l9 h9 => Tab_go h9 hz⟩, rfl, rfl⟩ dX15_go_89

