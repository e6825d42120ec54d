/-! 72.mops (printed by gen/silk.py) -/
set_option maxRecDepth 100000
set_option maxHeartbeats 4000000 in
theorem k_X4_buy (l : Launch) (D : va_G) (dT g : Nat → Nat) (z0 : Nat) (x : Nat) (th : Int32) (L : Nat → Nat) (sc : Nat → Int32) (y : Int32) : Con l D dT g z0 yX4_buy (ws_ yX4_buy cX4_buy 2 (some .int)) ({ frames := 3, cells := 0, slots := 0, locals := 84 }) [.ref x, .int y] [[ob x 3 [.int th, .ref (L 0), .ref (L 1), .ref (L 2), .ref (L 3), .ref (L 4), .ref (L 5), .int (sc 0), .int (bz (sc 1)), .int (sc 2), .int (sc 3), .int (sc 4), .int (sc 5), .int (sc 6)]]] (fun r LL => ((y < 1 ∨ 300 < y) ∧ r = some (.int 0) ∧ LL = [[ob x 3 [.int 1, .ref (L 0), .ref (L 1), .ref (L 2), .ref (L 3), .ref (L 4), .ref (L 5), .int (sc 0), .int (bz (sc 1)), .int (sc 2), .int (sc 3), .int (sc 4), .int (sc 5), .int (sc 6)]]]) ∨ ((¬ (y < 1 ∨ 300 < y)) ∧ (sc 5 < (f_X4_up y 3)) ∧ r = some (.int 0) ∧ LL = [[ob x 3 [.int 2, .ref (L 0), .ref (L 1), .ref (L 2), .ref (L 3), .ref (L 4), .ref (L 5), .int (sc 0), .int (bz (sc 1)), .int (sc 2), .int (sc 3), .int (sc 4), .int (sc 5), .int (sc 6)]]]) ∨ ((¬ (y < 1 ∨ 300 < y)) ∧ (¬ (sc 5 < (f_X4_up y 3))) ∧ (¬ (sc 5 < (f_X4_up y 3))) ∧ r = some (.int (f_X4_up y 3)) ∧ LL = [mxS x 0 L (vec [sc 0, sc 1, sc 2 + y, sc 3, sc 4, sc 5 - f_X4_up y 3, sc 6])])) noX 0 0 := by
  refine Con.of (maxL := 2) (ret := (some .int)) (by first | exact plainFor_of_name (by decide) | decide +kernel) (Nat.le_of_ble_eq_true rfl) ?_
  intro p e s m args below meth c A ls hf hr hlocks hnm hno hK hA hAz hw hl hst
  have hf : CallFix p m c cX4_buy 2 s args lw_all "SilkRowModel" := hf
  have hnm : meth.name = "buy" := hnm
  have hx := hf.1
  have hb := hf.2.1
  have hts := hf.2.2.2.2
  have hl : lv_has ls 2 [(0, .ref x), (1, .int y)] := hl
  have hw : Wd D A s.heap s.heap [] [[ob x 3 [.int th, .ref (L 0), .ref (L 1), .ref (L 2), .ref (L 3), .ref (L 4), .ref (L 5), .int (sc 0), .int (bz (sc 1)), .int (sc 2), .int (sc 3), .int (sc 4), .int (sc 5), .int (sc 6)]]] := hw
  refine lv_aload_n hx hb dX4_buy_0 rfl (lv_at hl 0 rfl) ?_
  refine lv_iload_n hx hb dX4_buy_1 rfl (lv_at hl 1 rfl) ?_
  refine lv_iconst (v := 1) hx hb dX4_buy_2 (by decide) ?_
  refine lv_sipush (v := 300) hx hb dX4_buy_3 (by decide) ?_
  rcases Decidable.em (y < 1 ∨ 300 < y) with f_6 | f_6
  · refine xc_S (rest := [.ref x]) (As := [.int y, .int 1, .int 300]) hf hK hA hAz hst (hw.pick [] rfl rfl rfl) (k_X4_isIn_no l D dT g z0 y 1 300 f_6) (va_cwS 3 hts (lw_S q1231 q1232 q54 q1233) rfl rfl rfl (by decide +kernel) ⟨Nat.le_of_ble_eq_true rfl, Nat.le_of_ble_eq_true rfl⟩) rfl hl.1 rfl (Nat.le_of_ble_eq_true rfl) dX4_buy_6 ⟨(Nat.le_of_ble_eq_true rfl), (Nat.le_of_ble_eq_true rfl)⟩ (fun _ _ _ _ _ _ h => h.elim) (fun v9 LL1 H locs hp hw => ?_)
    obtain ⟨rfl, rfl⟩ := hp
    have hw : Wd D A s.heap _ _ [[ob x 3 [.int th, .ref (L 0), .ref (L 1), .ref (L 2), .ref (L 3), .ref (L 4), .ref (L 5), .int (sc 0), .int (bz (sc 1)), .int (sc 2), .int (sc 3), .int (sc 4), .int (sc 5), .int (sc 6)]]] := hw
    refine W.eq (g2 := F0 m 9 ls [.int 0, .ref x]) rfl ?_
    refine lv_if_ne (tgt := 16) hx hb dX4_buy_9 (by decide) (fun c9 => absurd c9 (by decide)) (fun _ => ?_)
    refine lv_iconst (v := 1) hx hb dX4_buy_12 (by decide) ?_
    refine lv_goto (tgt := 17) hx hb dX4_buy_13 (by decide) ?_
    refine lv_iconst (v := 1) hx hb dX4_buy_17 (by decide) ?_
    refine xc_V (rest := []) (As := [.int 1, .int 1]) hf hK hA hAz hst (hw.pick [0] rfl rfl rfl) (k_X4_start_yes l D dT g z0 x th (.ref (L 0)) (.ref (L 1)) (.ref (L 2)) (.ref (L 3)) (.ref (L 4)) (.ref (L 5)) (.int (sc 0)) (.int (bz (sc 1))) (.int (sc 2)) (.int (sc 3)) (.int (sc 4)) (.int (sc 5)) (.int (sc 6)) 1 (by decide)) (cwV 2 hts (lw_V q1234 q1236 qs19 q54 q1237) rfl rfl rfl (by decide +kernel) ⟨Nat.le_of_ble_eq_true rfl, Nat.le_of_ble_eq_true rfl⟩) (xr_rv hK hw 0 0 rfl rfl) rfl hl.1 rfl (Nat.le_of_ble_eq_true rfl) dX4_buy_18 ⟨(Nat.le_of_ble_eq_true rfl), (Nat.le_of_ble_eq_true rfl)⟩ (fun _ _ _ _ _ _ h => h.elim) (fun v9 LL1 H locs hp hw => ?_)
    obtain ⟨rfl, rfl⟩ := hp
    have hw : Wd D A s.heap _ _ [[ob x 3 [.int 1, .ref (L 0), .ref (L 1), .ref (L 2), .ref (L 3), .ref (L 4), .ref (L 5), .int (sc 0), .int (bz (sc 1)), .int (sc 2), .int (sc 3), .int (sc 4), .int (sc 5), .int (sc 6)]]] := hw
    refine W.eq (g2 := F0 m 21 ls [.int 1]) rfl ?_
    refine lv_if_ne (tgt := 49) hx hb dX4_buy_21 (by decide) (fun _ => ?_) (fun c9 => absurd c9 (by decide))
    refine lv_iconst (v := 0) hx hb dX4_buy_49 (by decide) ?_
    have hw : Wd D A s.heap _ _ [[ob x 3 [.int 1, .ref (L 0), .ref (L 1), .ref (L 2), .ref (L 3), .ref (L 4), .ref (L 5), .int (sc 0), .int (bz (sc 1)), .int (sc 2), .int (sc 3), .int (sc 4), .int (sc 5), .int (sc 6)]]] := Wd.take hw [0] rfl rfl
    exact xr_iret hf hr hlocks hw (Nat.le_of_ble_eq_true rfl) (Nat.le_of_ble_eq_true rfl) (Or.inl ⟨(by first | (simp only [f_6, true_or, or_true, false_or, or_false, not_true_eq_false, not_false_eq_true, and_true, true_and, and_self]; done) | (simp only [← Int32.not_le, f_6, true_or, or_true, false_or, or_false, not_true_eq_false, not_false_eq_true, and_true, true_and, and_self]; done)), rfl, rfl⟩) dX4_buy_50
  · refine xc_S (rest := [.ref x]) (As := [.int y, .int 1, .int 300]) hf hK hA hAz hst (hw.pick [] rfl rfl rfl) (k_X4_isIn_in l D dT g z0 y 1 300 f_6) (va_cwS 3 hts (lw_S q1231 q1232 q54 q1233) rfl rfl rfl (by decide +kernel) ⟨Nat.le_of_ble_eq_true rfl, Nat.le_of_ble_eq_true rfl⟩) rfl hl.1 rfl (Nat.le_of_ble_eq_true rfl) dX4_buy_6 ⟨(Nat.le_of_ble_eq_true rfl), (Nat.le_of_ble_eq_true rfl)⟩ (fun _ _ _ _ _ _ h => h.elim) (fun v9 LL1 H locs hp hw => ?_)
    obtain ⟨rfl, rfl⟩ := hp
    have hw : Wd D A s.heap _ _ [[ob x 3 [.int th, .ref (L 0), .ref (L 1), .ref (L 2), .ref (L 3), .ref (L 4), .ref (L 5), .int (sc 0), .int (bz (sc 1)), .int (sc 2), .int (sc 3), .int (sc 4), .int (sc 5), .int (sc 6)]]] := hw
    refine W.eq (g2 := F0 m 9 ls [.int 1, .ref x]) rfl ?_
    refine lv_if_ne (tgt := 16) hx hb dX4_buy_9 (by decide) (fun _ => ?_) (fun c9 => absurd c9 (by decide))
    refine lv_iconst (v := 0) hx hb dX4_buy_16 (by decide) ?_
    refine lv_iconst (v := 1) hx hb dX4_buy_17 (by decide) ?_
    refine xc_V (rest := []) (As := [.int 0, .int 1]) hf hK hA hAz hst (hw.pick [0] rfl rfl rfl) (k_X4_start_no l D dT g z0 x th (.ref (L 0)) (.ref (L 1)) (.ref (L 2)) (.ref (L 3)) (.ref (L 4)) (.ref (L 5)) (.int (sc 0)) (.int (bz (sc 1))) (.int (sc 2)) (.int (sc 3)) (.int (sc 4)) (.int (sc 5)) (.int (sc 6)) 1) (cwV 2 hts (lw_V q1234 q1236 qs19 q54 q1237) rfl rfl rfl (by decide +kernel) ⟨Nat.le_of_ble_eq_true rfl, Nat.le_of_ble_eq_true rfl⟩) (xr_rv hK hw 0 0 rfl rfl) rfl hl.1 rfl (Nat.le_of_ble_eq_true rfl) dX4_buy_18 ⟨(Nat.le_of_ble_eq_true rfl), (Nat.le_of_ble_eq_true rfl)⟩ (fun _ _ _ _ _ _ h => h.elim) (fun v9 LL1 H locs hp hw => ?_)
    obtain ⟨rfl, rfl⟩ := hp
    have hw : Wd D A s.heap _ _ [[ob x 3 [.int 0, .ref (L 0), .ref (L 1), .ref (L 2), .ref (L 3), .ref (L 4), .ref (L 5), .int (sc 0), .int (bz (sc 1)), .int (sc 2), .int (sc 3), .int (sc 4), .int (sc 5), .int (sc 6)]]] := hw
    refine W.eq (g2 := F0 m 21 ls [.int 0]) rfl ?_
    refine lv_if_ne (tgt := 49) hx hb dX4_buy_21 (by decide) (fun c9 => absurd c9 (by decide)) (fun _ => ?_)
    refine lv_aload_n hx hb dX4_buy_24 rfl (lv_at hl 0 rfl) ?_
    refine lv_iload_n hx hb dX4_buy_25 rfl (lv_at hl 1 rfl) ?_
    refine lv_iconst (v := 3) hx hb dX4_buy_26 (by decide) ?_
    refine xc_S (rest := [.ref x]) (As := [.int y, .int 3]) hf hK hA hAz hst (hw.pick [] rfl rfl rfl) (k_X4_up l D dT g z0 y 3 (by decide)) (va_cwS 2 hts (lw_S q1315 q1298 q54 q1299) rfl rfl rfl (by decide +kernel) ⟨Nat.le_of_ble_eq_true rfl, Nat.le_of_ble_eq_true rfl⟩) rfl hl.1 rfl (Nat.le_of_ble_eq_true rfl) dX4_buy_27 ⟨(Nat.le_of_ble_eq_true rfl), (Nat.le_of_ble_eq_true rfl)⟩ (fun _ _ _ _ _ _ h => h.elim) (fun v9 LL1 H locs hp hw => ?_)
    obtain ⟨r1, hr1⟩ : ∃ z, z = f_X4_up y 3 := ⟨_, rfl⟩
    rw [← hr1] at hp
    obtain ⟨rfl, rfl⟩ := hp
    have hw : Wd D A s.heap _ _ [[ob x 3 [.int 0, .ref (L 0), .ref (L 1), .ref (L 2), .ref (L 3), .ref (L 4), .ref (L 5), .int (sc 0), .int (bz (sc 1)), .int (sc 2), .int (sc 3), .int (sc 4), .int (sc 5), .int (sc 6)]]] := hw
    refine W.eq (g2 := F0 m 30 ls [.int r1, .ref x]) rfl ?_
    refine lv_aload_n hx hb dX4_buy_30 rfl (lv_at hl 0 rfl) ?_
    refine xr_get hf hK hw 0 0 rfl rfl in_X4 12 (by decide) q1192 (fun _ h => h) rfl dX4_buy_31 ?_
    refine lv_icmp_le (tgt := 41) hx hb dX4_buy_34 (by decide) (fun c_34 => ?_) (fun c_34 => ?_)
    · refine lv_iconst (v := 0) hx hb dX4_buy_41 (by decide) ?_
      refine lv_iconst (v := 2) hx hb dX4_buy_42 (by decide) ?_
      refine xc_V (rest := []) (As := [.int 0, .int 2]) hf hK hA hAz hst (hw.pick [0] rfl rfl rfl) (k_X4_refuse_no l D dT g z0 x (.ref (L 0)) (.ref (L 1)) (.ref (L 2)) (.ref (L 3)) (.ref (L 4)) (.ref (L 5)) (.int (sc 0)) (.int (bz (sc 1))) (.int (sc 2)) (.int (sc 3)) (.int (sc 4)) (.int (sc 5)) (.int (sc 6)) 2) (cwV 2 hts (lw_V q1238 q1240 qs20 q54 q1241) rfl rfl rfl (by decide +kernel) ⟨Nat.le_of_ble_eq_true rfl, Nat.le_of_ble_eq_true rfl⟩) (xr_rv hK hw 0 0 rfl rfl) rfl hl.1 rfl (Nat.le_of_ble_eq_true rfl) dX4_buy_43 ⟨(Nat.le_of_ble_eq_true rfl), (Nat.le_of_ble_eq_true rfl)⟩ (fun _ _ _ _ _ _ h => h.elim) (fun v9 LL1 H locs hp hw => ?_)
      obtain ⟨rfl, rfl⟩ := hp
      have hw : Wd D A s.heap _ _ [[ob x 3 [.int 0, .ref (L 0), .ref (L 1), .ref (L 2), .ref (L 3), .ref (L 4), .ref (L 5), .int (sc 0), .int (bz (sc 1)), .int (sc 2), .int (sc 3), .int (sc 4), .int (sc 5), .int (sc 6)]]] := hw
      refine W.eq (g2 := F0 m 46 ls [.int 0]) rfl ?_
      refine lv_if_eq (tgt := 51) hx hb dX4_buy_46 (by decide) (fun _ => ?_) (fun c9 => absurd c9 (by decide))
      refine lv_aload_n hx hb dX4_buy_51 rfl (lv_at hl 0 rfl) ?_
      refine lv_dup hx hb dX4_buy_52 rfl ?_
      refine xr_get hf hK hw 0 0 rfl rfl in_X4 12 (by decide) q1192 (fun _ h => h) rfl dX4_buy_53 ?_
      refine lv_iload_n hx hb dX4_buy_56 rfl (lv_at hl 1 rfl) ?_
      refine lv_iconst (v := 3) hx hb dX4_buy_57 (by decide) ?_
      refine xc_S (rest := [.int (sc 5), .ref x]) (As := [.int y, .int 3]) hf hK hA hAz hst (hw.pick [] rfl rfl rfl) (k_X4_up l D dT g z0 y 3 (by decide)) (va_cwS 2 hts (lw_S q1315 q1298 q54 q1299) rfl rfl rfl (by decide +kernel) ⟨Nat.le_of_ble_eq_true rfl, Nat.le_of_ble_eq_true rfl⟩) rfl hl.1 rfl (Nat.le_of_ble_eq_true rfl) dX4_buy_58 ⟨(Nat.le_of_ble_eq_true rfl), (Nat.le_of_ble_eq_true rfl)⟩ (fun _ _ _ _ _ _ h => h.elim) (fun v9 LL1 H locs hp hw => ?_)
      rw [← hr1] at hp
      obtain ⟨rfl, rfl⟩ := hp
      have hw : Wd D A s.heap _ _ [[ob x 3 [.int 0, .ref (L 0), .ref (L 1), .ref (L 2), .ref (L 3), .ref (L 4), .ref (L 5), .int (sc 0), .int (bz (sc 1)), .int (sc 2), .int (sc 3), .int (sc 4), .int (sc 5), .int (sc 6)]]] := hw
      refine W.eq (g2 := F0 m 61 ls [.int r1, .int (sc 5), .ref x]) rfl ?_
      refine lv_isub hx hb dX4_buy_61 ?_
      refine xr_put (LL' := [[ob x 3 [.int 0, .ref (L 0), .ref (L 1), .ref (L 2), .ref (L 3), .ref (L 4), .ref (L 5), .int (sc 0), .int (bz (sc 1)), .int (sc 2), .int (sc 3), .int (sc 4), .int ((sc 5) - r1), .int (sc 6)]]]) hf hK hw 0 0 rfl rfl in_X4 tyX4_ok nmX4 12 (by decide) q1192 (fun _ h => h) rfl rfl rfl (Nat.le_of_ble_eq_true rfl) rfl dX4_buy_62 (fun H locs hw => ?_)
      refine lv_aload_n hx hb dX4_buy_65 rfl (lv_at hl 0 rfl) ?_
      refine lv_dup hx hb dX4_buy_66 rfl ?_
      refine xr_get hf hK hw 0 0 rfl rfl in_X4 9 (by decide) q1189 (fun _ h => h) rfl dX4_buy_67 ?_
      refine lv_iload_n hx hb dX4_buy_70 rfl (lv_at hl 1 rfl) ?_
      refine lv_iadd hx hb dX4_buy_71 ?_
      refine xr_put (LL' := [[ob x 3 [.int 0, .ref (L 0), .ref (L 1), .ref (L 2), .ref (L 3), .ref (L 4), .ref (L 5), .int (sc 0), .int (bz (sc 1)), .int ((sc 2) + y), .int (sc 3), .int (sc 4), .int ((sc 5) - r1), .int (sc 6)]]]) hf hK hw 0 0 rfl rfl in_X4 tyX4_ok nmX4 9 (by decide) q1189 (fun _ h => h) rfl rfl rfl (Nat.le_of_ble_eq_true rfl) rfl dX4_buy_72 (fun H locs hw => ?_)
      refine lv_iload_n hx hb dX4_buy_75 rfl (lv_at hl 1 rfl) ?_
      refine lv_iconst (v := 3) hx hb dX4_buy_76 (by decide) ?_
      refine xc_S (rest := []) (As := [.int y, .int 3]) hf hK hA hAz hst (hw.pick [] rfl rfl rfl) (k_X4_up l D dT g z0 y 3 (by decide)) (va_cwS 2 hts (lw_S q1315 q1298 q54 q1299) rfl rfl rfl (by decide +kernel) ⟨Nat.le_of_ble_eq_true rfl, Nat.le_of_ble_eq_true rfl⟩) rfl hl.1 rfl (Nat.le_of_ble_eq_true rfl) dX4_buy_77 ⟨(Nat.le_of_ble_eq_true rfl), (Nat.le_of_ble_eq_true rfl)⟩ (fun _ _ _ _ _ _ h => h.elim) (fun v9 LL1 H locs hp hw => ?_)
      rw [← hr1] at hp
      obtain ⟨rfl, rfl⟩ := hp
      have hw : Wd D A s.heap _ _ [[ob x 3 [.int 0, .ref (L 0), .ref (L 1), .ref (L 2), .ref (L 3), .ref (L 4), .ref (L 5), .int (sc 0), .int (bz (sc 1)), .int ((sc 2) + y), .int (sc 3), .int (sc 4), .int ((sc 5) - r1), .int (sc 6)]]] := hw
      refine W.eq (g2 := F0 m 80 ls [.int r1]) rfl ?_
      have hw : Wd D A s.heap _ _ [[ob x 3 [.int 0, .ref (L 0), .ref (L 1), .ref (L 2), .ref (L 3), .ref (L 4), .ref (L 5), .int (sc 0), .int (bz (sc 1)), .int ((sc 2) + y), .int (sc 3), .int (sc 4), .int ((sc 5) - r1), .int (sc 6)]]] := Wd.take hw [0] rfl rfl
      have hwZ := hw
      subst hr1
      have hw := hwZ
      exact xr_iret hf hr hlocks hw (Nat.le_of_ble_eq_true rfl) (Nat.le_of_ble_eq_true rfl) (Or.inr (Or.inr ⟨(by first | (simp only [f_6, c_34, true_or, or_true, false_or, or_false, not_true_eq_false, not_false_eq_true, and_true, true_and, and_self]; done) | (simp only [← Int32.not_le, f_6, c_34, true_or, or_true, false_or, or_false, not_true_eq_false, not_false_eq_true, and_true, true_and, and_self]; done)), (Int32.not_lt.mpr c_34), (Int32.not_lt.mpr c_34), rfl, rfl⟩)) dX4_buy_80
    · refine lv_iconst (v := 1) hx hb dX4_buy_37 (by decide) ?_
      refine lv_goto (tgt := 42) hx hb dX4_buy_38 (by decide) ?_
      refine lv_iconst (v := 2) hx hb dX4_buy_42 (by decide) ?_
      refine xc_V (rest := []) (As := [.int 1, .int 2]) hf hK hA hAz hst (hw.pick [0] rfl rfl rfl) (k_X4_refuse_yes l D dT g z0 x (.ref (L 0)) (.ref (L 1)) (.ref (L 2)) (.ref (L 3)) (.ref (L 4)) (.ref (L 5)) (.int (sc 0)) (.int (bz (sc 1))) (.int (sc 2)) (.int (sc 3)) (.int (sc 4)) (.int (sc 5)) (.int (sc 6)) 2 (by decide)) (cwV 2 hts (lw_V q1238 q1240 qs20 q54 q1241) rfl rfl rfl (by decide +kernel) ⟨Nat.le_of_ble_eq_true rfl, Nat.le_of_ble_eq_true rfl⟩) (xr_rv hK hw 0 0 rfl rfl) rfl hl.1 rfl (Nat.le_of_ble_eq_true rfl) dX4_buy_43 ⟨(Nat.le_of_ble_eq_true rfl), (Nat.le_of_ble_eq_true rfl)⟩ (fun _ _ _ _ _ _ h => h.elim) (fun v9 LL1 H locs hp hw => ?_)
      obtain ⟨rfl, rfl⟩ := hp
      have hw : Wd D A s.heap _ _ [[ob x 3 [.int 2, .ref (L 0), .ref (L 1), .ref (L 2), .ref (L 3), .ref (L 4), .ref (L 5), .int (sc 0), .int (bz (sc 1)), .int (sc 2), .int (sc 3), .int (sc 4), .int (sc 5), .int (sc 6)]]] := hw
      refine W.eq (g2 := F0 m 46 ls [.int 1]) rfl ?_
      refine lv_if_eq (tgt := 51) hx hb dX4_buy_46 (by decide) (fun c9 => absurd c9 (by decide)) (fun _ => ?_)
      refine lv_iconst (v := 0) hx hb dX4_buy_49 (by decide) ?_
      have hw : Wd D A s.heap _ _ [[ob x 3 [.int 2, .ref (L 0), .ref (L 1), .ref (L 2), .ref (L 3), .ref (L 4), .ref (L 5), .int (sc 0), .int (bz (sc 1)), .int (sc 2), .int (sc 3), .int (sc 4), .int (sc 5), .int (sc 6)]]] := Wd.take hw [0] rfl rfl
      exact xr_iret hf hr hlocks hw (Nat.le_of_ble_eq_true rfl) (Nat.le_of_ble_eq_true rfl) (Or.inr (Or.inl ⟨(by first | (simp only [f_6, c_34, true_or, or_true, false_or, or_false, not_true_eq_false, not_false_eq_true, and_true, true_and, and_self]; done) | (simp only [← Int32.not_le, f_6, c_34, true_or, or_true, false_or, or_false, not_true_eq_false, not_false_eq_true, and_true, true_and, and_self]; done)), (by subst hr1; exact Int32.not_le.mp c_34), rfl, rfl⟩)) dX4_buy_50

set_option maxHeartbeats 4000000 in
theorem k_X4_borrow (l : Launch) (D : va_G) (dT g : Nat → Nat) (z0 : Nat) (x : Nat) (th : Int32) (L : Nat → Nat) (sc : Nat → Int32) (y : Int32) : Con l D dT g z0 yX4_borrow (ws_ yX4_borrow cX4_borrow 2 (some .int)) ({ frames := 3, cells := 0, slots := 0, locals := 84 }) [.ref x, .int y] [[ob x 3 [.int th, .ref (L 0), .ref (L 1), .ref (L 2), .ref (L 3), .ref (L 4), .ref (L 5), .int (sc 0), .int (bz (sc 1)), .int (sc 2), .int (sc 3), .int (sc 4), .int (sc 5), .int (sc 6)]]] (fun r LL => ((y < 1 ∨ 500 < y) ∧ r = some (.int 0) ∧ LL = [[ob x 3 [.int 1, .ref (L 0), .ref (L 1), .ref (L 2), .ref (L 3), .ref (L 4), .ref (L 5), .int (sc 0), .int (bz (sc 1)), .int (sc 2), .int (sc 3), .int (sc 4), .int (sc 5), .int (sc 6)]]]) ∨ ((¬ (y < 1 ∨ 500 < y)) ∧ (9999 < sc 6 + y) ∧ r = some (.int 0) ∧ LL = [[ob x 3 [.int 2, .ref (L 0), .ref (L 1), .ref (L 2), .ref (L 3), .ref (L 4), .ref (L 5), .int (sc 0), .int (bz (sc 1)), .int (sc 2), .int (sc 3), .int (sc 4), .int (sc 5), .int (sc 6)]]]) ∨ ((¬ (y < 1 ∨ 500 < y)) ∧ (¬ (9999 < sc 6 + y)) ∧ r = some (.int (sc 6 + y)) ∧ LL = [mxS x 0 L (vec [sc 0, sc 1, sc 2, sc 3, sc 4, sc 5 + y, sc 6 + y])])) noX 0 0 := by
  refine Con.of (maxL := 2) (ret := (some .int)) (by first | exact plainFor_of_name (by decide) | decide +kernel) (Nat.le_of_ble_eq_true rfl) ?_
  intro p e s m args below meth c A ls hf hr hlocks hnm hno hK hA hAz hw hl hst
  have hf : CallFix p m c cX4_borrow 2 s args lw_all "SilkRowModel" := hf
  have hnm : meth.name = "borrow" := hnm
  have hx := hf.1
  have hb := hf.2.1
  have hts := hf.2.2.2.2
  have hl : lv_has ls 2 [(0, .ref x), (1, .int y)] := hl
  have hw : Wd D A s.heap s.heap [] [[ob x 3 [.int th, .ref (L 0), .ref (L 1), .ref (L 2), .ref (L 3), .ref (L 4), .ref (L 5), .int (sc 0), .int (bz (sc 1)), .int (sc 2), .int (sc 3), .int (sc 4), .int (sc 5), .int (sc 6)]]] := hw
  refine lv_aload_n hx hb dX4_borrow_0 rfl (lv_at hl 0 rfl) ?_
  refine lv_iload_n hx hb dX4_borrow_1 rfl (lv_at hl 1 rfl) ?_
  refine lv_iconst (v := 1) hx hb dX4_borrow_2 (by decide) ?_
  refine lv_sipush (v := 500) hx hb dX4_borrow_3 (by decide) ?_
  rcases Decidable.em (y < 1 ∨ 500 < y) with f_6 | f_6
  · refine xc_S (rest := [.ref x]) (As := [.int y, .int 1, .int 500]) hf hK hA hAz hst (hw.pick [] rfl rfl rfl) (k_X4_isIn_no l D dT g z0 y 1 500 f_6) (va_cwS 3 hts (lw_S q1231 q1232 q54 q1233) rfl rfl rfl (by decide +kernel) ⟨Nat.le_of_ble_eq_true rfl, Nat.le_of_ble_eq_true rfl⟩) rfl hl.1 rfl (Nat.le_of_ble_eq_true rfl) dX4_borrow_6 ⟨(Nat.le_of_ble_eq_true rfl), (Nat.le_of_ble_eq_true rfl)⟩ (fun _ _ _ _ _ _ h => h.elim) (fun v9 LL1 H locs hp hw => ?_)
    obtain ⟨rfl, rfl⟩ := hp
    have hw : Wd D A s.heap _ _ [[ob x 3 [.int th, .ref (L 0), .ref (L 1), .ref (L 2), .ref (L 3), .ref (L 4), .ref (L 5), .int (sc 0), .int (bz (sc 1)), .int (sc 2), .int (sc 3), .int (sc 4), .int (sc 5), .int (sc 6)]]] := hw
    refine W.eq (g2 := F0 m 9 ls [.int 0, .ref x]) rfl ?_
    refine lv_if_ne (tgt := 16) hx hb dX4_borrow_9 (by decide) (fun c9 => absurd c9 (by decide)) (fun _ => ?_)
    refine lv_iconst (v := 1) hx hb dX4_borrow_12 (by decide) ?_
    refine lv_goto (tgt := 17) hx hb dX4_borrow_13 (by decide) ?_
    refine lv_iconst (v := 1) hx hb dX4_borrow_17 (by decide) ?_
    refine xc_V (rest := []) (As := [.int 1, .int 1]) hf hK hA hAz hst (hw.pick [0] rfl rfl rfl) (k_X4_start_yes l D dT g z0 x th (.ref (L 0)) (.ref (L 1)) (.ref (L 2)) (.ref (L 3)) (.ref (L 4)) (.ref (L 5)) (.int (sc 0)) (.int (bz (sc 1))) (.int (sc 2)) (.int (sc 3)) (.int (sc 4)) (.int (sc 5)) (.int (sc 6)) 1 (by decide)) (cwV 2 hts (lw_V q1234 q1236 qs19 q54 q1237) rfl rfl rfl (by decide +kernel) ⟨Nat.le_of_ble_eq_true rfl, Nat.le_of_ble_eq_true rfl⟩) (xr_rv hK hw 0 0 rfl rfl) rfl hl.1 rfl (Nat.le_of_ble_eq_true rfl) dX4_borrow_18 ⟨(Nat.le_of_ble_eq_true rfl), (Nat.le_of_ble_eq_true rfl)⟩ (fun _ _ _ _ _ _ h => h.elim) (fun v9 LL1 H locs hp hw => ?_)
    obtain ⟨rfl, rfl⟩ := hp
    have hw : Wd D A s.heap _ _ [[ob x 3 [.int 1, .ref (L 0), .ref (L 1), .ref (L 2), .ref (L 3), .ref (L 4), .ref (L 5), .int (sc 0), .int (bz (sc 1)), .int (sc 2), .int (sc 3), .int (sc 4), .int (sc 5), .int (sc 6)]]] := hw
    refine W.eq (g2 := F0 m 21 ls [.int 1]) rfl ?_
    refine lv_if_ne (tgt := 49) hx hb dX4_borrow_21 (by decide) (fun _ => ?_) (fun c9 => absurd c9 (by decide))
    refine lv_iconst (v := 0) hx hb dX4_borrow_49 (by decide) ?_
    have hw : Wd D A s.heap _ _ [[ob x 3 [.int 1, .ref (L 0), .ref (L 1), .ref (L 2), .ref (L 3), .ref (L 4), .ref (L 5), .int (sc 0), .int (bz (sc 1)), .int (sc 2), .int (sc 3), .int (sc 4), .int (sc 5), .int (sc 6)]]] := Wd.take hw [0] rfl rfl
    exact xr_iret hf hr hlocks hw (Nat.le_of_ble_eq_true rfl) (Nat.le_of_ble_eq_true rfl) (Or.inl ⟨(by first | (simp only [f_6, true_or, or_true, false_or, or_false, not_true_eq_false, not_false_eq_true, and_true, true_and, and_self]; done) | (simp only [← Int32.not_le, f_6, true_or, or_true, false_or, or_false, not_true_eq_false, not_false_eq_true, and_true, true_and, and_self]; done)), rfl, rfl⟩) dX4_borrow_50
  · refine xc_S (rest := [.ref x]) (As := [.int y, .int 1, .int 500]) hf hK hA hAz hst (hw.pick [] rfl rfl rfl) (k_X4_isIn_in l D dT g z0 y 1 500 f_6) (va_cwS 3 hts (lw_S q1231 q1232 q54 q1233) rfl rfl rfl (by decide +kernel) ⟨Nat.le_of_ble_eq_true rfl, Nat.le_of_ble_eq_true rfl⟩) rfl hl.1 rfl (Nat.le_of_ble_eq_true rfl) dX4_borrow_6 ⟨(Nat.le_of_ble_eq_true rfl), (Nat.le_of_ble_eq_true rfl)⟩ (fun _ _ _ _ _ _ h => h.elim) (fun v9 LL1 H locs hp hw => ?_)
    obtain ⟨rfl, rfl⟩ := hp
    have hw : Wd D A s.heap _ _ [[ob x 3 [.int th, .ref (L 0), .ref (L 1), .ref (L 2), .ref (L 3), .ref (L 4), .ref (L 5), .int (sc 0), .int (bz (sc 1)), .int (sc 2), .int (sc 3), .int (sc 4), .int (sc 5), .int (sc 6)]]] := hw
    refine W.eq (g2 := F0 m 9 ls [.int 1, .ref x]) rfl ?_
    refine lv_if_ne (tgt := 16) hx hb dX4_borrow_9 (by decide) (fun _ => ?_) (fun c9 => absurd c9 (by decide))
    refine lv_iconst (v := 0) hx hb dX4_borrow_16 (by decide) ?_
    refine lv_iconst (v := 1) hx hb dX4_borrow_17 (by decide) ?_
    refine xc_V (rest := []) (As := [.int 0, .int 1]) hf hK hA hAz hst (hw.pick [0] rfl rfl rfl) (k_X4_start_no l D dT g z0 x th (.ref (L 0)) (.ref (L 1)) (.ref (L 2)) (.ref (L 3)) (.ref (L 4)) (.ref (L 5)) (.int (sc 0)) (.int (bz (sc 1))) (.int (sc 2)) (.int (sc 3)) (.int (sc 4)) (.int (sc 5)) (.int (sc 6)) 1) (cwV 2 hts (lw_V q1234 q1236 qs19 q54 q1237) rfl rfl rfl (by decide +kernel) ⟨Nat.le_of_ble_eq_true rfl, Nat.le_of_ble_eq_true rfl⟩) (xr_rv hK hw 0 0 rfl rfl) rfl hl.1 rfl (Nat.le_of_ble_eq_true rfl) dX4_borrow_18 ⟨(Nat.le_of_ble_eq_true rfl), (Nat.le_of_ble_eq_true rfl)⟩ (fun _ _ _ _ _ _ h => h.elim) (fun v9 LL1 H locs hp hw => ?_)
    obtain ⟨rfl, rfl⟩ := hp
    have hw : Wd D A s.heap _ _ [[ob x 3 [.int 0, .ref (L 0), .ref (L 1), .ref (L 2), .ref (L 3), .ref (L 4), .ref (L 5), .int (sc 0), .int (bz (sc 1)), .int (sc 2), .int (sc 3), .int (sc 4), .int (sc 5), .int (sc 6)]]] := hw
    refine W.eq (g2 := F0 m 21 ls [.int 0]) rfl ?_
    refine lv_if_ne (tgt := 49) hx hb dX4_borrow_21 (by decide) (fun c9 => absurd c9 (by decide)) (fun _ => ?_)
    refine lv_aload_n hx hb dX4_borrow_24 rfl (lv_at hl 0 rfl) ?_
    refine lv_aload_n hx hb dX4_borrow_25 rfl (lv_at hl 0 rfl) ?_
    refine xr_get hf hK hw 0 0 rfl rfl in_X4 13 (by decide) q1193 (fun _ h => h) rfl dX4_borrow_26 ?_
    refine lv_iload_n hx hb dX4_borrow_29 rfl (lv_at hl 1 rfl) ?_
    refine lv_iadd hx hb dX4_borrow_30 ?_
    refine lv_sipush (v := 9999) hx hb dX4_borrow_31 (by decide) ?_
    refine lv_icmp_le (tgt := 41) hx hb dX4_borrow_34 (by decide) (fun c_34 => ?_) (fun c_34 => ?_)
    · refine lv_iconst (v := 0) hx hb dX4_borrow_41 (by decide) ?_
      refine lv_iconst (v := 2) hx hb dX4_borrow_42 (by decide) ?_
      refine xc_V (rest := []) (As := [.int 0, .int 2]) hf hK hA hAz hst (hw.pick [0] rfl rfl rfl) (k_X4_refuse_no l D dT g z0 x (.ref (L 0)) (.ref (L 1)) (.ref (L 2)) (.ref (L 3)) (.ref (L 4)) (.ref (L 5)) (.int (sc 0)) (.int (bz (sc 1))) (.int (sc 2)) (.int (sc 3)) (.int (sc 4)) (.int (sc 5)) (.int (sc 6)) 2) (cwV 2 hts (lw_V q1238 q1240 qs20 q54 q1241) rfl rfl rfl (by decide +kernel) ⟨Nat.le_of_ble_eq_true rfl, Nat.le_of_ble_eq_true rfl⟩) (xr_rv hK hw 0 0 rfl rfl) rfl hl.1 rfl (Nat.le_of_ble_eq_true rfl) dX4_borrow_43 ⟨(Nat.le_of_ble_eq_true rfl), (Nat.le_of_ble_eq_true rfl)⟩ (fun _ _ _ _ _ _ h => h.elim) (fun v9 LL1 H locs hp hw => ?_)
      obtain ⟨rfl, rfl⟩ := hp
      have hw : Wd D A s.heap _ _ [[ob x 3 [.int 0, .ref (L 0), .ref (L 1), .ref (L 2), .ref (L 3), .ref (L 4), .ref (L 5), .int (sc 0), .int (bz (sc 1)), .int (sc 2), .int (sc 3), .int (sc 4), .int (sc 5), .int (sc 6)]]] := hw
      refine W.eq (g2 := F0 m 46 ls [.int 0]) rfl ?_
      refine lv_if_eq (tgt := 51) hx hb dX4_borrow_46 (by decide) (fun _ => ?_) (fun c9 => absurd c9 (by decide))
      refine lv_aload_n hx hb dX4_borrow_51 rfl (lv_at hl 0 rfl) ?_
      refine lv_dup hx hb dX4_borrow_52 rfl ?_
      refine xr_get hf hK hw 0 0 rfl rfl in_X4 12 (by decide) q1192 (fun _ h => h) rfl dX4_borrow_53 ?_
      refine lv_iload_n hx hb dX4_borrow_56 rfl (lv_at hl 1 rfl) ?_
      refine lv_iadd hx hb dX4_borrow_57 ?_
      refine xr_put (LL' := [[ob x 3 [.int 0, .ref (L 0), .ref (L 1), .ref (L 2), .ref (L 3), .ref (L 4), .ref (L 5), .int (sc 0), .int (bz (sc 1)), .int (sc 2), .int (sc 3), .int (sc 4), .int ((sc 5) + y), .int (sc 6)]]]) hf hK hw 0 0 rfl rfl in_X4 tyX4_ok nmX4 12 (by decide) q1192 (fun _ h => h) rfl rfl rfl (Nat.le_of_ble_eq_true rfl) rfl dX4_borrow_58 (fun H locs hw => ?_)
      refine lv_aload_n hx hb dX4_borrow_61 rfl (lv_at hl 0 rfl) ?_
      refine lv_dup hx hb dX4_borrow_62 rfl ?_
      refine xr_get hf hK hw 0 0 rfl rfl in_X4 13 (by decide) q1193 (fun _ h => h) rfl dX4_borrow_63 ?_
      refine lv_iload_n hx hb dX4_borrow_66 rfl (lv_at hl 1 rfl) ?_
      refine lv_iadd hx hb dX4_borrow_67 ?_
      refine xr_put (LL' := [[ob x 3 [.int 0, .ref (L 0), .ref (L 1), .ref (L 2), .ref (L 3), .ref (L 4), .ref (L 5), .int (sc 0), .int (bz (sc 1)), .int (sc 2), .int (sc 3), .int (sc 4), .int ((sc 5) + y), .int ((sc 6) + y)]]]) hf hK hw 0 0 rfl rfl in_X4 tyX4_ok nmX4 13 (by decide) q1193 (fun _ h => h) rfl rfl rfl (Nat.le_of_ble_eq_true rfl) rfl dX4_borrow_68 (fun H locs hw => ?_)
      refine lv_aload_n hx hb dX4_borrow_71 rfl (lv_at hl 0 rfl) ?_
      refine xr_get hf hK hw 0 0 rfl rfl in_X4 13 (by decide) q1193 (fun _ h => h) rfl dX4_borrow_72 ?_
      have hw : Wd D A s.heap _ _ [[ob x 3 [.int 0, .ref (L 0), .ref (L 1), .ref (L 2), .ref (L 3), .ref (L 4), .ref (L 5), .int (sc 0), .int (bz (sc 1)), .int (sc 2), .int (sc 3), .int (sc 4), .int ((sc 5) + y), .int ((sc 6) + y)]]] := Wd.take hw [0] rfl rfl
      exact xr_iret hf hr hlocks hw (Nat.le_of_ble_eq_true rfl) (Nat.le_of_ble_eq_true rfl) (Or.inr (Or.inr ⟨(by first | (simp only [f_6, c_34, true_or, or_true, false_or, or_false, not_true_eq_false, not_false_eq_true, and_true, true_and, and_self]; done) | (simp only [← Int32.not_le, f_6, c_34, true_or, or_true, false_or, or_false, not_true_eq_false, not_false_eq_true, and_true, true_and, and_self]; done)), (by first | (simp only [f_6, c_34, true_or, or_true, false_or, or_false, not_true_eq_false, not_false_eq_true, and_true, true_and, and_self]; done) | (simp only [← Int32.not_le, f_6, c_34, true_or, or_true, false_or, or_false, not_true_eq_false, not_false_eq_true, and_true, true_and, and_self]; done)), rfl, rfl⟩)) dX4_borrow_75
    · refine lv_iconst (v := 1) hx hb dX4_borrow_37 (by decide) ?_
      refine lv_goto (tgt := 42) hx hb dX4_borrow_38 (by decide) ?_
      refine lv_iconst (v := 2) hx hb dX4_borrow_42 (by decide) ?_
      refine xc_V (rest := []) (As := [.int 1, .int 2]) hf hK hA hAz hst (hw.pick [0] rfl rfl rfl) (k_X4_refuse_yes l D dT g z0 x (.ref (L 0)) (.ref (L 1)) (.ref (L 2)) (.ref (L 3)) (.ref (L 4)) (.ref (L 5)) (.int (sc 0)) (.int (bz (sc 1))) (.int (sc 2)) (.int (sc 3)) (.int (sc 4)) (.int (sc 5)) (.int (sc 6)) 2 (by decide)) (cwV 2 hts (lw_V q1238 q1240 qs20 q54 q1241) rfl rfl rfl (by decide +kernel) ⟨Nat.le_of_ble_eq_true rfl, Nat.le_of_ble_eq_true rfl⟩) (xr_rv hK hw 0 0 rfl rfl) rfl hl.1 rfl (Nat.le_of_ble_eq_true rfl) dX4_borrow_43 ⟨(Nat.le_of_ble_eq_true rfl), (Nat.le_of_ble_eq_true rfl)⟩ (fun _ _ _ _ _ _ h => h.elim) (fun v9 LL1 H locs hp hw => ?_)
      obtain ⟨rfl, rfl⟩ := hp
      have hw : Wd D A s.heap _ _ [[ob x 3 [.int 2, .ref (L 0), .ref (L 1), .ref (L 2), .ref (L 3), .ref (L 4), .ref (L 5), .int (sc 0), .int (bz (sc 1)), .int (sc 2), .int (sc 3), .int (sc 4), .int (sc 5), .int (sc 6)]]] := hw
      refine W.eq (g2 := F0 m 46 ls [.int 1]) rfl ?_
      refine lv_if_eq (tgt := 51) hx hb dX4_borrow_46 (by decide) (fun c9 => absurd c9 (by decide)) (fun _ => ?_)
      refine lv_iconst (v := 0) hx hb dX4_borrow_49 (by decide) ?_
      have hw : Wd D A s.heap _ _ [[ob x 3 [.int 2, .ref (L 0), .ref (L 1), .ref (L 2), .ref (L 3), .ref (L 4), .ref (L 5), .int (sc 0), .int (bz (sc 1)), .int (sc 2), .int (sc 3), .int (sc 4), .int (sc 5), .int (sc 6)]]] := Wd.take hw [0] rfl rfl
      exact xr_iret hf hr hlocks hw (Nat.le_of_ble_eq_true rfl) (Nat.le_of_ble_eq_true rfl) (Or.inr (Or.inl ⟨(by first | (simp only [f_6, c_34, true_or, or_true, false_or, or_false, not_true_eq_false, not_false_eq_true, and_true, true_and, and_self]; done) | (simp only [← Int32.not_le, f_6, c_34, true_or, or_true, false_or, or_false, not_true_eq_false, not_false_eq_true, and_true, true_and, and_self]; done)), (by first | (simp only [f_6, c_34, true_or, or_true, false_or, or_false, not_true_eq_false, not_false_eq_true, and_true, true_and, and_self]; done) | (simp only [← Int32.not_le, f_6, c_34, true_or, or_true, false_or, or_false, not_true_eq_false, not_false_eq_true, and_true, true_and, and_self]; done)), rfl, rfl⟩)) dX4_borrow_50

set_option maxHeartbeats 4000000 in
theorem k_X4_pay (l : Launch) (D : va_G) (dT g : Nat → Nat) (z0 : Nat) (x : Nat) (th : Int32) (L : Nat → Nat) (sc : Nat → Int32) (y : Int32) : Con l D dT g z0 yX4_pay (ws_ yX4_pay cX4_pay 3 (some .int)) ({ frames := 3, cells := 0, slots := 0, locals := 84 }) [.ref x, .int y] [[ob x 3 [.int th, .ref (L 0), .ref (L 1), .ref (L 2), .ref (L 3), .ref (L 4), .ref (L 5), .int (sc 0), .int (bz (sc 1)), .int (sc 2), .int (sc 3), .int (sc 4), .int (sc 5), .int (sc 6)]]] (fun r LL => ((y < 1 ∨ 999 < y) ∧ r = some (.int 0) ∧ LL = [[ob x 3 [.int 1, .ref (L 0), .ref (L 1), .ref (L 2), .ref (L 3), .ref (L 4), .ref (L 5), .int (sc 0), .int (bz (sc 1)), .int (sc 2), .int (sc 3), .int (sc 4), .int (sc 5), .int (sc 6)]]]) ∨ ((¬ (y < 1 ∨ 999 < y)) ∧ r = some (.int (sc 6 - imin y (imin (sc 5) (sc 6)))) ∧ LL = [mxS x 0 L (vec [sc 0, sc 1, sc 2, sc 3, sc 4, sc 5 - imin y (imin (sc 5) (sc 6)), sc 6 - imin y (imin (sc 5) (sc 6))])])) noX 0 0 := by
  refine Con.of (maxL := 3) (ret := (some .int)) (by first | exact plainFor_of_name (by decide) | decide +kernel) (Nat.le_of_ble_eq_true rfl) ?_
  intro p e s m args below meth c A ls hf hr hlocks hnm hno hK hA hAz hw hl hst
  have hf : CallFix p m c cX4_pay 3 s args lw_all "SilkRowModel" := hf
  have hnm : meth.name = "pay" := hnm
  have hx := hf.1
  have hb := hf.2.1
  have hts := hf.2.2.2.2
  have hl : lv_has ls 3 [(0, .ref x), (1, .int y)] := hl
  have hw : Wd D A s.heap s.heap [] [[ob x 3 [.int th, .ref (L 0), .ref (L 1), .ref (L 2), .ref (L 3), .ref (L 4), .ref (L 5), .int (sc 0), .int (bz (sc 1)), .int (sc 2), .int (sc 3), .int (sc 4), .int (sc 5), .int (sc 6)]]] := hw
  refine lv_aload_n hx hb dX4_pay_0 rfl (lv_at hl 0 rfl) ?_
  refine lv_iload_n hx hb dX4_pay_1 rfl (lv_at hl 1 rfl) ?_
  refine lv_iconst (v := 1) hx hb dX4_pay_2 (by decide) ?_
  refine lv_sipush (v := 999) hx hb dX4_pay_3 (by decide) ?_
  rcases Decidable.em (y < 1 ∨ 999 < y) with f_6 | f_6
  · refine xc_S (rest := [.ref x]) (As := [.int y, .int 1, .int 999]) hf hK hA hAz hst (hw.pick [] rfl rfl rfl) (k_X4_isIn_no l D dT g z0 y 1 999 f_6) (va_cwS 3 hts (lw_S q1231 q1232 q54 q1233) rfl rfl rfl (by decide +kernel) ⟨Nat.le_of_ble_eq_true rfl, Nat.le_of_ble_eq_true rfl⟩) rfl hl.1 rfl (Nat.le_of_ble_eq_true rfl) dX4_pay_6 ⟨(Nat.le_of_ble_eq_true rfl), (Nat.le_of_ble_eq_true rfl)⟩ (fun _ _ _ _ _ _ h => h.elim) (fun v9 LL1 H locs hp hw => ?_)
    obtain ⟨rfl, rfl⟩ := hp
    have hw : Wd D A s.heap _ _ [[ob x 3 [.int th, .ref (L 0), .ref (L 1), .ref (L 2), .ref (L 3), .ref (L 4), .ref (L 5), .int (sc 0), .int (bz (sc 1)), .int (sc 2), .int (sc 3), .int (sc 4), .int (sc 5), .int (sc 6)]]] := hw
    refine W.eq (g2 := F0 m 9 ls [.int 0, .ref x]) rfl ?_
    refine lv_if_ne (tgt := 16) hx hb dX4_pay_9 (by decide) (fun c9 => absurd c9 (by decide)) (fun _ => ?_)
    refine lv_iconst (v := 1) hx hb dX4_pay_12 (by decide) ?_
    refine lv_goto (tgt := 17) hx hb dX4_pay_13 (by decide) ?_
    refine lv_iconst (v := 1) hx hb dX4_pay_17 (by decide) ?_
    refine xc_V (rest := []) (As := [.int 1, .int 1]) hf hK hA hAz hst (hw.pick [0] rfl rfl rfl) (k_X4_start_yes l D dT g z0 x th (.ref (L 0)) (.ref (L 1)) (.ref (L 2)) (.ref (L 3)) (.ref (L 4)) (.ref (L 5)) (.int (sc 0)) (.int (bz (sc 1))) (.int (sc 2)) (.int (sc 3)) (.int (sc 4)) (.int (sc 5)) (.int (sc 6)) 1 (by decide)) (cwV 2 hts (lw_V q1234 q1236 qs19 q54 q1237) rfl rfl rfl (by decide +kernel) ⟨Nat.le_of_ble_eq_true rfl, Nat.le_of_ble_eq_true rfl⟩) (xr_rv hK hw 0 0 rfl rfl) rfl hl.1 rfl (Nat.le_of_ble_eq_true rfl) dX4_pay_18 ⟨(Nat.le_of_ble_eq_true rfl), (Nat.le_of_ble_eq_true rfl)⟩ (fun _ _ _ _ _ _ h => h.elim) (fun v9 LL1 H locs hp hw => ?_)
    obtain ⟨rfl, rfl⟩ := hp
    have hw : Wd D A s.heap _ _ [[ob x 3 [.int 1, .ref (L 0), .ref (L 1), .ref (L 2), .ref (L 3), .ref (L 4), .ref (L 5), .int (sc 0), .int (bz (sc 1)), .int (sc 2), .int (sc 3), .int (sc 4), .int (sc 5), .int (sc 6)]]] := hw
    refine W.eq (g2 := F0 m 21 ls [.int 1]) rfl ?_
    refine lv_if_eq (tgt := 26) hx hb dX4_pay_21 (by decide) (fun c9 => absurd c9 (by decide)) (fun _ => ?_)
    refine lv_iconst (v := 0) hx hb dX4_pay_24 (by decide) ?_
    have hw : Wd D A s.heap _ _ [[ob x 3 [.int 1, .ref (L 0), .ref (L 1), .ref (L 2), .ref (L 3), .ref (L 4), .ref (L 5), .int (sc 0), .int (bz (sc 1)), .int (sc 2), .int (sc 3), .int (sc 4), .int (sc 5), .int (sc 6)]]] := Wd.take hw [0] rfl rfl
    exact xr_iret hf hr hlocks hw (Nat.le_of_ble_eq_true rfl) (Nat.le_of_ble_eq_true rfl) (Or.inl ⟨(by first | (simp only [f_6, true_or, or_true, false_or, or_false, not_true_eq_false, not_false_eq_true, and_true, true_and, and_self]; done) | (simp only [← Int32.not_le, f_6, true_or, or_true, false_or, or_false, not_true_eq_false, not_false_eq_true, and_true, true_and, and_self]; done)), rfl, rfl⟩) dX4_pay_25
  · refine xc_S (rest := [.ref x]) (As := [.int y, .int 1, .int 999]) hf hK hA hAz hst (hw.pick [] rfl rfl rfl) (k_X4_isIn_in l D dT g z0 y 1 999 f_6) (va_cwS 3 hts (lw_S q1231 q1232 q54 q1233) rfl rfl rfl (by decide +kernel) ⟨Nat.le_of_ble_eq_true rfl, Nat.le_of_ble_eq_true rfl⟩) rfl hl.1 rfl (Nat.le_of_ble_eq_true rfl) dX4_pay_6 ⟨(Nat.le_of_ble_eq_true rfl), (Nat.le_of_ble_eq_true rfl)⟩ (fun _ _ _ _ _ _ h => h.elim) (fun v9 LL1 H locs hp hw => ?_)
    obtain ⟨rfl, rfl⟩ := hp
    have hw : Wd D A s.heap _ _ [[ob x 3 [.int th, .ref (L 0), .ref (L 1), .ref (L 2), .ref (L 3), .ref (L 4), .ref (L 5), .int (sc 0), .int (bz (sc 1)), .int (sc 2), .int (sc 3), .int (sc 4), .int (sc 5), .int (sc 6)]]] := hw
    refine W.eq (g2 := F0 m 9 ls [.int 1, .ref x]) rfl ?_
    refine lv_if_ne (tgt := 16) hx hb dX4_pay_9 (by decide) (fun _ => ?_) (fun c9 => absurd c9 (by decide))
    refine lv_iconst (v := 0) hx hb dX4_pay_16 (by decide) ?_
    refine lv_iconst (v := 1) hx hb dX4_pay_17 (by decide) ?_
    refine xc_V (rest := []) (As := [.int 0, .int 1]) hf hK hA hAz hst (hw.pick [0] rfl rfl rfl) (k_X4_start_no l D dT g z0 x th (.ref (L 0)) (.ref (L 1)) (.ref (L 2)) (.ref (L 3)) (.ref (L 4)) (.ref (L 5)) (.int (sc 0)) (.int (bz (sc 1))) (.int (sc 2)) (.int (sc 3)) (.int (sc 4)) (.int (sc 5)) (.int (sc 6)) 1) (cwV 2 hts (lw_V q1234 q1236 qs19 q54 q1237) rfl rfl rfl (by decide +kernel) ⟨Nat.le_of_ble_eq_true rfl, Nat.le_of_ble_eq_true rfl⟩) (xr_rv hK hw 0 0 rfl rfl) rfl hl.1 rfl (Nat.le_of_ble_eq_true rfl) dX4_pay_18 ⟨(Nat.le_of_ble_eq_true rfl), (Nat.le_of_ble_eq_true rfl)⟩ (fun _ _ _ _ _ _ h => h.elim) (fun v9 LL1 H locs hp hw => ?_)
    obtain ⟨rfl, rfl⟩ := hp
    have hw : Wd D A s.heap _ _ [[ob x 3 [.int 0, .ref (L 0), .ref (L 1), .ref (L 2), .ref (L 3), .ref (L 4), .ref (L 5), .int (sc 0), .int (bz (sc 1)), .int (sc 2), .int (sc 3), .int (sc 4), .int (sc 5), .int (sc 6)]]] := hw
    refine W.eq (g2 := F0 m 21 ls [.int 0]) rfl ?_
    refine lv_if_eq (tgt := 26) hx hb dX4_pay_21 (by decide) (fun _ => ?_) (fun c9 => absurd c9 (by decide))
    refine lv_iload_n hx hb dX4_pay_26 rfl (lv_at hl 1 rfl) ?_
    refine lv_aload_n hx hb dX4_pay_27 rfl (lv_at hl 0 rfl) ?_
    refine xr_get hf hK hw 0 0 rfl rfl in_X4 12 (by decide) q1192 (fun _ h => h) rfl dX4_pay_28 ?_
    refine lv_aload_n hx hb dX4_pay_31 rfl (lv_at hl 0 rfl) ?_
    refine xr_get hf hK hw 0 0 rfl rfl in_X4 13 (by decide) q1193 (fun _ h => h) rfl dX4_pay_32 ?_
    refine va_mmin hx hb (by rw [hf.2.2.1]; exact hl.1.symm) hf.2.2.2.1 (hts _ q1316) (hts _ q193) (hts _ q50) (hts _ q194) (Nat.le_of_ble_eq_true rfl) (Nat.le_of_ble_eq_true rfl) (Nat.le_of_ble_eq_true rfl) (Nat.le_of_ble_eq_true rfl) dX4_pay_35 ?_
    refine lv_as (y := imin (sc 5) (sc 6)) rfl ?_
    refine va_mmin hx hb (by rw [hf.2.2.1]; exact hl.1.symm) hf.2.2.2.1 (hts _ q1316) (hts _ q193) (hts _ q50) (hts _ q194) (Nat.le_of_ble_eq_true rfl) (Nat.le_of_ble_eq_true rfl) (Nat.le_of_ble_eq_true rfl) (Nat.le_of_ble_eq_true rfl) dX4_pay_38 ?_
    refine lv_as (y := imin y (imin (sc 5) (sc 6))) rfl ?_
    refine lv_istore_n (lv' := [(2, .int (imin y (imin (sc 5) (sc 6)))), (0, .ref x), (1, .int y)]) hx hb dX4_pay_41 rfl hl (by decide) rfl (fun ls hl => ?_)
    refine lv_aload_n hx hb dX4_pay_42 rfl (lv_at hl 1 rfl) ?_
    refine lv_dup hx hb dX4_pay_43 rfl ?_
    refine xr_get hf hK hw 0 0 rfl rfl in_X4 12 (by decide) q1192 (fun _ h => h) rfl dX4_pay_44 ?_
    refine lv_iload_n hx hb dX4_pay_47 rfl (lv_at hl 0 rfl) ?_
    refine lv_isub hx hb dX4_pay_48 ?_
    refine xr_put (LL' := [[ob x 3 [.int 0, .ref (L 0), .ref (L 1), .ref (L 2), .ref (L 3), .ref (L 4), .ref (L 5), .int (sc 0), .int (bz (sc 1)), .int (sc 2), .int (sc 3), .int (sc 4), .int ((sc 5) - (imin y (imin (sc 5) (sc 6)))), .int (sc 6)]]]) hf hK hw 0 0 rfl rfl in_X4 tyX4_ok nmX4 12 (by decide) q1192 (fun _ h => h) rfl rfl rfl (Nat.le_of_ble_eq_true rfl) rfl dX4_pay_49 (fun H locs hw => ?_)
    refine lv_aload_n hx hb dX4_pay_52 rfl (lv_at hl 1 rfl) ?_
    refine lv_dup hx hb dX4_pay_53 rfl ?_
    refine xr_get hf hK hw 0 0 rfl rfl in_X4 13 (by decide) q1193 (fun _ h => h) rfl dX4_pay_54 ?_
    refine lv_iload_n hx hb dX4_pay_57 rfl (lv_at hl 0 rfl) ?_
    refine lv_isub hx hb dX4_pay_58 ?_
    refine xr_put (LL' := [[ob x 3 [.int 0, .ref (L 0), .ref (L 1), .ref (L 2), .ref (L 3), .ref (L 4), .ref (L 5), .int (sc 0), .int (bz (sc 1)), .int (sc 2), .int (sc 3), .int (sc 4), .int ((sc 5) - (imin y (imin (sc 5) (sc 6)))), .int ((sc 6) - (imin y (imin (sc 5) (sc 6))))]]]) hf hK hw 0 0 rfl rfl in_X4 tyX4_ok nmX4 13 (by decide) q1193 (fun _ h => h) rfl rfl rfl (Nat.le_of_ble_eq_true rfl) rfl dX4_pay_59 (fun H locs hw => ?_)
    refine lv_aload_n hx hb dX4_pay_62 rfl (lv_at hl 1 rfl) ?_
    refine xr_get hf hK hw 0 0 rfl rfl in_X4 13 (by decide) q1193 (fun _ h => h) rfl dX4_pay_63 ?_
    have hw : Wd D A s.heap _ _ [[ob x 3 [.int 0, .ref (L 0), .ref (L 1), .ref (L 2), .ref (L 3), .ref (L 4), .ref (L 5), .int (sc 0), .int (bz (sc 1)), .int (sc 2), .int (sc 3), .int (sc 4), .int ((sc 5) - (imin y (imin (sc 5) (sc 6)))), .int ((sc 6) - (imin y (imin (sc 5) (sc 6))))]]] := Wd.take hw [0] rfl rfl
    exact xr_iret hf hr hlocks hw (Nat.le_of_ble_eq_true rfl) (Nat.le_of_ble_eq_true rfl) (Or.inr ⟨(by first | (simp only [f_6, true_or, or_true, false_or, or_false, not_true_eq_false, not_false_eq_true, and_true, true_and, and_self]; done) | (simp only [← Int32.not_le, f_6, true_or, or_true, false_or, or_false, not_true_eq_false, not_false_eq_true, and_true, true_and, and_self]; done)), rfl, rfl⟩) dX4_pay_66

set_option maxHeartbeats 4000000 in
theorem k_X4_pick (l : Launch) (D : va_G) (dT g : Nat → Nat) (z0 : Nat) (x : Nat) (th : Int32) (L : Nat → Nat) (sc : Nat → Int32) (up : Int32) (stp : Option (Nat × Nat)) (mp : List (Nat × Nat × (Nat → Int32))) (i : Int32) (y : Int32) (hokp : alOK stp (ads mp)) : Con l D dT g z0 yX4_pick (ws_ yX4_pick cX4_pick 4 (some .int)) ({ frames := 4, cells := 1, slots := 4, locals := 104 }) [.ref x, .int i, .int y] [[ob x 3 [.int th, .ref (L 0), .ref (L 1), .ref (L 2), .ref (L 3), .ref (L 4), .ref (L 5), .int (sc 0), .int (bz (sc 1)), .int (sc 2), .int (sc 3), .int (sc 4), .int (sc 5), .int (sc 6)]], ((ob (L 0) 15 [.int up, .ref (al_d g stp), .int (nI (ads mp).length)]) :: (al_t dT stp (ads mp))), (mp.flatMap (mpE dT))] (fun r LL => ((i < 0 ∨ ¬ i < nI (ads mp).length) ∧ r = some (.int 0) ∧ LL = [[ob x 3 [.int 1, .ref (L 0), .ref (L 1), .ref (L 2), .ref (L 3), .ref (L 4), .ref (L 5), .int (sc 0), .int (bz (sc 1)), .int (sc 2), .int (sc 3), .int (sc 4), .int (sc 5), .int (sc 6)]], ((ob (L 0) 15 [.int up, .ref (al_d g stp), .int (nI (ads mp).length)]) :: (al_t dT stp (ads mp))), (mp.flatMap (mpE dT))]) ∨ ((¬ (i < 0 ∨ ¬ i < nI (ads mp).length)) ∧ (y < 1 ∨ 99 < y) ∧ r = some (.int 0) ∧ LL = [[ob x 3 [.int 2, .ref (L 0), .ref (L 1), .ref (L 2), .ref (L 3), .ref (L 4), .ref (L 5), .int (sc 0), .int (bz (sc 1)), .int (sc 2), .int (sc 3), .int (sc 4), .int (sc 5), .int (sc 6)]], ((ob (L 0) 15 [.int up, .ref (al_d g stp), .int (nI (ads mp).length)]) :: (al_t dT stp (ads mp))), (mp.flatMap (mpE dT))]) ∨ (∃ (k : Nat) (q : Nat × Nat × (Nat → Int32)), (¬ (i < 0 ∨ ¬ i < nI (ads mp).length)) ∧ (¬ (y < 1 ∨ 99 < y)) ∧ (mp[k]? = some q ∧ i = nI k) ∧ r = some (.int ((f_X9_pick q.2.2 y).1)) ∧ LL = [mxS x 0 L (sc_pick sc (f_X9_pick q.2.2 y).1), ((ob (L 0) 15 [.int up, .ref (al_d g stp), .int (nI (ads mp).length)]) :: (al_t dT stp (ads mp))), ((mp.set k (q.1, q.2.1, (f_X9_pick q.2.2 y).2)).flatMap (mpE dT))])) noX 1 4 := by
  refine Con.of (maxL := 4) (ret := (some .int)) (by first | exact plainFor_of_name (by decide) | decide +kernel) (Nat.le_of_ble_eq_true rfl) ?_
  intro p e s m args below meth c A ls hf hr hlocks hnm hno hK hA hAz hw hl hst
  have hf : CallFix p m c cX4_pick 4 s args lw_all "SilkRowModel" := hf
  have hnm : meth.name = "pick" := hnm
  have hx := hf.1
  have hb := hf.2.1
  have hts := hf.2.2.2.2
  have hl : lv_has ls 4 [(0, .ref x), (1, .int i), (2, .int y)] := hl
  have hw : Wd D A s.heap s.heap [] [[ob x 3 [.int th, .ref (L 0), .ref (L 1), .ref (L 2), .ref (L 3), .ref (L 4), .ref (L 5), .int (sc 0), .int (bz (sc 1)), .int (sc 2), .int (sc 3), .int (sc 4), .int (sc 5), .int (sc 6)]], ((ob (L 0) 15 [.int up, .ref (al_d g stp), .int (nI (ads mp).length)]) :: (al_t dT stp (ads mp))), (mp.flatMap (mpE dT))] := hw
  refine lv_aload_n hx hb dX4_pick_0 rfl (lv_at hl 0 rfl) ?_
  refine lv_aload_n hx hb dX4_pick_1 rfl (lv_at hl 0 rfl) ?_
  refine lv_iload_n hx hb dX4_pick_2 rfl (lv_at hl 1 rfl) ?_
  rcases Decidable.em (i < 0 ∨ ¬ i < nI (ads mp).length) with f_3 | f_3
  · refine xc_V (rest := [.ref x]) (As := [.int i]) hf hK hA hAz hst (hw.pick [0, 0] rfl rfl rfl) (k_X4_isNoPlot_yes l D dT g z0 x th L sc up (.ref (al_d g stp)) (al_t dT stp (ads mp)) (ads mp).length i (al_short hokp) f_3) (cwV 1 hts (lw_V q1321 q1323 qs25 q54 q1324) rfl rfl rfl (by decide +kernel) ⟨Nat.le_of_ble_eq_true rfl, Nat.le_of_ble_eq_true rfl⟩) (xr_rv hK hw 0 0 rfl rfl) rfl hl.1 rfl (Nat.le_of_ble_eq_true rfl) dX4_pick_3 ⟨(Nat.le_of_ble_eq_true rfl), (Nat.le_of_ble_eq_true rfl)⟩ (fun _ _ _ _ _ _ h => h.elim) (fun v9 LL1 H locs hp hw => ?_)
    obtain ⟨rfl, rfl⟩ := hp
    have hw : Wd D A s.heap _ _ [[ob x 3 [.int th, .ref (L 0), .ref (L 1), .ref (L 2), .ref (L 3), .ref (L 4), .ref (L 5), .int (sc 0), .int (bz (sc 1)), .int (sc 2), .int (sc 3), .int (sc 4), .int (sc 5), .int (sc 6)]], ((ob (L 0) 15 [.int up, .ref (al_d g stp), .int (nI (ads mp).length)]) :: (al_t dT stp (ads mp))), (mp.flatMap (mpE dT))] := hw
    refine W.eq (g2 := F0 m 6 ls [.int 1, .ref x]) rfl ?_
    refine lv_iconst (v := 1) hx hb dX4_pick_6 (by decide) ?_
    refine xc_V (rest := []) (As := [.int 1, .int 1]) hf hK hA hAz hst (hw.pick [0] rfl rfl rfl) (k_X4_start_yes l D dT g z0 x th (.ref (L 0)) (.ref (L 1)) (.ref (L 2)) (.ref (L 3)) (.ref (L 4)) (.ref (L 5)) (.int (sc 0)) (.int (bz (sc 1))) (.int (sc 2)) (.int (sc 3)) (.int (sc 4)) (.int (sc 5)) (.int (sc 6)) 1 (by decide)) (cwV 2 hts (lw_V q1234 q1236 qs19 q54 q1237) rfl rfl rfl (by decide +kernel) ⟨Nat.le_of_ble_eq_true rfl, Nat.le_of_ble_eq_true rfl⟩) (xr_rv hK hw 0 0 rfl rfl) rfl hl.1 rfl (Nat.le_of_ble_eq_true rfl) dX4_pick_7 ⟨(Nat.le_of_ble_eq_true rfl), (Nat.le_of_ble_eq_true rfl)⟩ (fun _ _ _ _ _ _ h => h.elim) (fun v9 LL1 H locs hp hw => ?_)
    obtain ⟨rfl, rfl⟩ := hp
    have hw : Wd D A s.heap _ _ [[ob x 3 [.int 1, .ref (L 0), .ref (L 1), .ref (L 2), .ref (L 3), .ref (L 4), .ref (L 5), .int (sc 0), .int (bz (sc 1)), .int (sc 2), .int (sc 3), .int (sc 4), .int (sc 5), .int (sc 6)]], ((ob (L 0) 15 [.int up, .ref (al_d g stp), .int (nI (ads mp).length)]) :: (al_t dT stp (ads mp))), (mp.flatMap (mpE dT))] := hw
    refine W.eq (g2 := F0 m 10 ls [.int 1]) rfl ?_
    refine lv_if_ne (tgt := 36) hx hb dX4_pick_10 (by decide) (fun _ => ?_) (fun c9 => absurd c9 (by decide))
    refine lv_iconst (v := 0) hx hb dX4_pick_36 (by decide) ?_
    have hw : Wd D A s.heap _ _ [[ob x 3 [.int 1, .ref (L 0), .ref (L 1), .ref (L 2), .ref (L 3), .ref (L 4), .ref (L 5), .int (sc 0), .int (bz (sc 1)), .int (sc 2), .int (sc 3), .int (sc 4), .int (sc 5), .int (sc 6)]], ((ob (L 0) 15 [.int up, .ref (al_d g stp), .int (nI (ads mp).length)]) :: (al_t dT stp (ads mp))), (mp.flatMap (mpE dT))] := Wd.take hw [0, 0, 0] rfl rfl
    exact xr_iret hf hr hlocks hw (Nat.le_of_ble_eq_true rfl) (Nat.le_of_ble_eq_true rfl) (Or.inl ⟨(by first | (simp only [f_3, true_or, or_true, false_or, or_false, not_true_eq_false, not_false_eq_true, and_true, true_and, and_self]; done) | (simp only [← Int32.not_le, f_3, true_or, or_true, false_or, or_false, not_true_eq_false, not_false_eq_true, and_true, true_and, and_self]; done)), rfl, rfl⟩) dX4_pick_37
  · obtain ⟨k_mp, q_mp, hq_mp, e_mp, hk_mp⟩ := list_of hokp f_3
    obtain ⟨d_mp, cap_mp, hd_mp, hc_q_mp, hC_q_mp⟩ := al_some (k := k_mp) hokp (ads_lt hq_mp)
    subst hd_mp
    have hw : Wd D A s.heap _ _ [[ob x 3 [.int th, .ref (L 0), .ref (L 1), .ref (L 2), .ref (L 3), .ref (L 4), .ref (L 5), .int (sc 0), .int (bz (sc 1)), .int (sc 2), .int (sc 3), .int (sc 4), .int (sc 5), .int (sc 6)]], [ob (L 0) 15 [.int up, .ref d_mp, .int (nI (ads mp).length)], (d_mp, aR dT 1 cap_mp (fun i => (ads mp)[i]?))], (mp.flatMap (mpE dT))] := hw
    refine xc_V (rest := [.ref x]) (As := [.int i]) hf hK hA hAz hst (hw.pick [0, 0] rfl rfl rfl) (k_X4_isNoPlot_no l D dT g z0 x th L sc up (.ref d_mp) ((d_mp, aR dT 1 cap_mp (fun i => (ads mp)[i]?)) :: []) (ads mp).length i (al_short hokp) f_3) (cwV 1 hts (lw_V q1321 q1323 qs25 q54 q1324) rfl rfl rfl (by decide +kernel) ⟨Nat.le_of_ble_eq_true rfl, Nat.le_of_ble_eq_true rfl⟩) (xr_rv hK hw 0 0 rfl rfl) rfl hl.1 rfl (Nat.le_of_ble_eq_true rfl) dX4_pick_3 ⟨(Nat.le_of_ble_eq_true rfl), (Nat.le_of_ble_eq_true rfl)⟩ (fun _ _ _ _ _ _ h => h.elim) (fun v9 LL1 H locs hp hw => ?_)
    obtain ⟨rfl, rfl⟩ := hp
    have hw : Wd D A s.heap _ _ [[ob x 3 [.int th, .ref (L 0), .ref (L 1), .ref (L 2), .ref (L 3), .ref (L 4), .ref (L 5), .int (sc 0), .int (bz (sc 1)), .int (sc 2), .int (sc 3), .int (sc 4), .int (sc 5), .int (sc 6)]], [ob (L 0) 15 [.int up, .ref d_mp, .int (nI (ads mp).length)], (d_mp, aR dT 1 cap_mp (fun i => (ads mp)[i]?))], (mp.flatMap (mpE dT))] := hw
    refine W.eq (g2 := F0 m 6 ls [.int 0, .ref x]) rfl ?_
    refine lv_iconst (v := 1) hx hb dX4_pick_6 (by decide) ?_
    refine xc_V (rest := []) (As := [.int 0, .int 1]) hf hK hA hAz hst (hw.pick [0] rfl rfl rfl) (k_X4_start_no l D dT g z0 x th (.ref (L 0)) (.ref (L 1)) (.ref (L 2)) (.ref (L 3)) (.ref (L 4)) (.ref (L 5)) (.int (sc 0)) (.int (bz (sc 1))) (.int (sc 2)) (.int (sc 3)) (.int (sc 4)) (.int (sc 5)) (.int (sc 6)) 1) (cwV 2 hts (lw_V q1234 q1236 qs19 q54 q1237) rfl rfl rfl (by decide +kernel) ⟨Nat.le_of_ble_eq_true rfl, Nat.le_of_ble_eq_true rfl⟩) (xr_rv hK hw 0 0 rfl rfl) rfl hl.1 rfl (Nat.le_of_ble_eq_true rfl) dX4_pick_7 ⟨(Nat.le_of_ble_eq_true rfl), (Nat.le_of_ble_eq_true rfl)⟩ (fun _ _ _ _ _ _ h => h.elim) (fun v9 LL1 H locs hp hw => ?_)
    obtain ⟨rfl, rfl⟩ := hp
    have hw : Wd D A s.heap _ _ [[ob x 3 [.int 0, .ref (L 0), .ref (L 1), .ref (L 2), .ref (L 3), .ref (L 4), .ref (L 5), .int (sc 0), .int (bz (sc 1)), .int (sc 2), .int (sc 3), .int (sc 4), .int (sc 5), .int (sc 6)]], [ob (L 0) 15 [.int up, .ref d_mp, .int (nI (ads mp).length)], (d_mp, aR dT 1 cap_mp (fun i => (ads mp)[i]?))], (mp.flatMap (mpE dT))] := hw
    refine W.eq (g2 := F0 m 10 ls [.int 0]) rfl ?_
    refine lv_if_ne (tgt := 36) hx hb dX4_pick_10 (by decide) (fun c9 => absurd c9 (by decide)) (fun _ => ?_)
    refine lv_aload_n hx hb dX4_pick_13 rfl (lv_at hl 0 rfl) ?_
    refine lv_iload_n hx hb dX4_pick_14 rfl (lv_at hl 2 rfl) ?_
    refine lv_iconst (v := 1) hx hb dX4_pick_15 (by decide) ?_
    refine lv_bipush (v := 99) hx hb dX4_pick_16 (by decide) ?_
    rcases Decidable.em (y < 1 ∨ 99 < y) with f_18 | f_18
    · refine xc_S (rest := [.ref x]) (As := [.int y, .int 1, .int 99]) hf hK hA hAz hst (hw.pick [] rfl rfl rfl) (k_X4_isIn_no l D dT g z0 y 1 99 f_18) (va_cwS 3 hts (lw_S q1231 q1232 q54 q1233) rfl rfl rfl (by decide +kernel) ⟨Nat.le_of_ble_eq_true rfl, Nat.le_of_ble_eq_true rfl⟩) rfl hl.1 rfl (Nat.le_of_ble_eq_true rfl) dX4_pick_18 ⟨(Nat.le_of_ble_eq_true rfl), (Nat.le_of_ble_eq_true rfl)⟩ (fun _ _ _ _ _ _ h => h.elim) (fun v9 LL1 H locs hp hw => ?_)
      obtain ⟨rfl, rfl⟩ := hp
      have hw : Wd D A s.heap _ _ [[ob x 3 [.int 0, .ref (L 0), .ref (L 1), .ref (L 2), .ref (L 3), .ref (L 4), .ref (L 5), .int (sc 0), .int (bz (sc 1)), .int (sc 2), .int (sc 3), .int (sc 4), .int (sc 5), .int (sc 6)]], [ob (L 0) 15 [.int up, .ref d_mp, .int (nI (ads mp).length)], (d_mp, aR dT 1 cap_mp (fun i => (ads mp)[i]?))], (mp.flatMap (mpE dT))] := hw
      refine W.eq (g2 := F0 m 21 ls [.int 0, .ref x]) rfl ?_
      refine lv_if_ne (tgt := 28) hx hb dX4_pick_21 (by decide) (fun c9 => absurd c9 (by decide)) (fun _ => ?_)
      refine lv_iconst (v := 1) hx hb dX4_pick_24 (by decide) ?_
      refine lv_goto (tgt := 29) hx hb dX4_pick_25 (by decide) ?_
      refine lv_iconst (v := 2) hx hb dX4_pick_29 (by decide) ?_
      refine xc_V (rest := []) (As := [.int 1, .int 2]) hf hK hA hAz hst (hw.pick [0] rfl rfl rfl) (k_X4_refuse_yes l D dT g z0 x (.ref (L 0)) (.ref (L 1)) (.ref (L 2)) (.ref (L 3)) (.ref (L 4)) (.ref (L 5)) (.int (sc 0)) (.int (bz (sc 1))) (.int (sc 2)) (.int (sc 3)) (.int (sc 4)) (.int (sc 5)) (.int (sc 6)) 2 (by decide)) (cwV 2 hts (lw_V q1238 q1240 qs20 q54 q1241) rfl rfl rfl (by decide +kernel) ⟨Nat.le_of_ble_eq_true rfl, Nat.le_of_ble_eq_true rfl⟩) (xr_rv hK hw 0 0 rfl rfl) rfl hl.1 rfl (Nat.le_of_ble_eq_true rfl) dX4_pick_30 ⟨(Nat.le_of_ble_eq_true rfl), (Nat.le_of_ble_eq_true rfl)⟩ (fun _ _ _ _ _ _ h => h.elim) (fun v9 LL1 H locs hp hw => ?_)
      obtain ⟨rfl, rfl⟩ := hp
      have hw : Wd D A s.heap _ _ [[ob x 3 [.int 2, .ref (L 0), .ref (L 1), .ref (L 2), .ref (L 3), .ref (L 4), .ref (L 5), .int (sc 0), .int (bz (sc 1)), .int (sc 2), .int (sc 3), .int (sc 4), .int (sc 5), .int (sc 6)]], [ob (L 0) 15 [.int up, .ref d_mp, .int (nI (ads mp).length)], (d_mp, aR dT 1 cap_mp (fun i => (ads mp)[i]?))], (mp.flatMap (mpE dT))] := hw
      refine W.eq (g2 := F0 m 33 ls [.int 1]) rfl ?_
      refine lv_if_eq (tgt := 38) hx hb dX4_pick_33 (by decide) (fun c9 => absurd c9 (by decide)) (fun _ => ?_)
      refine lv_iconst (v := 0) hx hb dX4_pick_36 (by decide) ?_
      have hw : Wd D A s.heap _ _ [[ob x 3 [.int 2, .ref (L 0), .ref (L 1), .ref (L 2), .ref (L 3), .ref (L 4), .ref (L 5), .int (sc 0), .int (bz (sc 1)), .int (sc 2), .int (sc 3), .int (sc 4), .int (sc 5), .int (sc 6)]], ((ob (L 0) 15 [.int up, .ref (al_d g (some (d_mp, cap_mp))), .int (nI (ads mp).length)]) :: (al_t dT (some (d_mp, cap_mp)) (ads mp))), (mp.flatMap (mpE dT))] := hw
      have hw : Wd D A s.heap _ _ [[ob x 3 [.int 2, .ref (L 0), .ref (L 1), .ref (L 2), .ref (L 3), .ref (L 4), .ref (L 5), .int (sc 0), .int (bz (sc 1)), .int (sc 2), .int (sc 3), .int (sc 4), .int (sc 5), .int (sc 6)]], ((ob (L 0) 15 [.int up, .ref (al_d g (some (d_mp, cap_mp))), .int (nI (ads mp).length)]) :: (al_t dT (some (d_mp, cap_mp)) (ads mp))), (mp.flatMap (mpE dT))] := Wd.take hw [0, 0, 0] rfl rfl
      exact xr_iret hf hr hlocks hw (Nat.le_of_ble_eq_true rfl) (Nat.le_of_ble_eq_true rfl) (Or.inr (Or.inl ⟨(by first | (simp only [f_3, f_18, true_or, or_true, false_or, or_false, not_true_eq_false, not_false_eq_true, and_true, true_and, and_self]; done) | (simp only [← Int32.not_le, f_3, f_18, true_or, or_true, false_or, or_false, not_true_eq_false, not_false_eq_true, and_true, true_and, and_self]; done)), (by first | (simp only [f_3, f_18, true_or, or_true, false_or, or_false, not_true_eq_false, not_false_eq_true, and_true, true_and, and_self]; done) | (simp only [← Int32.not_le, f_3, f_18, true_or, or_true, false_or, or_false, not_true_eq_false, not_false_eq_true, and_true, true_and, and_self]; done)), rfl, rfl⟩)) dX4_pick_37
    · refine xc_S (rest := [.ref x]) (As := [.int y, .int 1, .int 99]) hf hK hA hAz hst (hw.pick [] rfl rfl rfl) (k_X4_isIn_in l D dT g z0 y 1 99 f_18) (va_cwS 3 hts (lw_S q1231 q1232 q54 q1233) rfl rfl rfl (by decide +kernel) ⟨Nat.le_of_ble_eq_true rfl, Nat.le_of_ble_eq_true rfl⟩) rfl hl.1 rfl (Nat.le_of_ble_eq_true rfl) dX4_pick_18 ⟨(Nat.le_of_ble_eq_true rfl), (Nat.le_of_ble_eq_true rfl)⟩ (fun _ _ _ _ _ _ h => h.elim) (fun v9 LL1 H locs hp hw => ?_)
      obtain ⟨rfl, rfl⟩ := hp
      have hw : Wd D A s.heap _ _ [[ob x 3 [.int 0, .ref (L 0), .ref (L 1), .ref (L 2), .ref (L 3), .ref (L 4), .ref (L 5), .int (sc 0), .int (bz (sc 1)), .int (sc 2), .int (sc 3), .int (sc 4), .int (sc 5), .int (sc 6)]], [ob (L 0) 15 [.int up, .ref d_mp, .int (nI (ads mp).length)], (d_mp, aR dT 1 cap_mp (fun i => (ads mp)[i]?))], (mp.flatMap (mpE dT))] := hw
      refine W.eq (g2 := F0 m 21 ls [.int 1, .ref x]) rfl ?_
      refine lv_if_ne (tgt := 28) hx hb dX4_pick_21 (by decide) (fun _ => ?_) (fun c9 => absurd c9 (by decide))
      refine lv_iconst (v := 0) hx hb dX4_pick_28 (by decide) ?_
      refine lv_iconst (v := 2) hx hb dX4_pick_29 (by decide) ?_
      refine xc_V (rest := []) (As := [.int 0, .int 2]) hf hK hA hAz hst (hw.pick [0] rfl rfl rfl) (k_X4_refuse_no l D dT g z0 x (.ref (L 0)) (.ref (L 1)) (.ref (L 2)) (.ref (L 3)) (.ref (L 4)) (.ref (L 5)) (.int (sc 0)) (.int (bz (sc 1))) (.int (sc 2)) (.int (sc 3)) (.int (sc 4)) (.int (sc 5)) (.int (sc 6)) 2) (cwV 2 hts (lw_V q1238 q1240 qs20 q54 q1241) rfl rfl rfl (by decide +kernel) ⟨Nat.le_of_ble_eq_true rfl, Nat.le_of_ble_eq_true rfl⟩) (xr_rv hK hw 0 0 rfl rfl) rfl hl.1 rfl (Nat.le_of_ble_eq_true rfl) dX4_pick_30 ⟨(Nat.le_of_ble_eq_true rfl), (Nat.le_of_ble_eq_true rfl)⟩ (fun _ _ _ _ _ _ h => h.elim) (fun v9 LL1 H locs hp hw => ?_)
      obtain ⟨rfl, rfl⟩ := hp
      have hw : Wd D A s.heap _ _ [[ob x 3 [.int 0, .ref (L 0), .ref (L 1), .ref (L 2), .ref (L 3), .ref (L 4), .ref (L 5), .int (sc 0), .int (bz (sc 1)), .int (sc 2), .int (sc 3), .int (sc 4), .int (sc 5), .int (sc 6)]], [ob (L 0) 15 [.int up, .ref d_mp, .int (nI (ads mp).length)], (d_mp, aR dT 1 cap_mp (fun i => (ads mp)[i]?))], (mp.flatMap (mpE dT))] := hw
      refine W.eq (g2 := F0 m 33 ls [.int 0]) rfl ?_
      refine lv_if_eq (tgt := 38) hx hb dX4_pick_33 (by decide) (fun _ => ?_) (fun c9 => absurd c9 (by decide))
      refine lv_aload_n hx hb dX4_pick_38 rfl (lv_at hl 0 rfl) ?_
      refine xr_get hf hK hw 0 0 rfl rfl in_X4 1 (by decide) q1181 (fun _ h => h) rfl dX4_pick_39 ?_
      refine lv_iload_n hx hb dX4_pick_42 rfl (lv_at hl 1 rfl) ?_
      refine lv_as (y := nI k_mp) e_mp ?_
      refine xc_V (rest := []) (As := [.int (nI k_mp)]) hf hK hA hAz hst (hw.pick [1] rfl rfl rfl) (k_J2_get l D dT g z0 (L 0) d_mp cap_mp up (ads mp) k_mp q_mp.1 hc_q_mp hC_q_mp (ads_lt hq_mp) (ads_some hq_mp)) (cwV 1 hts (lw_V q1325 q394 q395 q47 q396) rfl rfl rfl (by decide +kernel) ⟨Nat.le_of_ble_eq_true rfl, Nat.le_of_ble_eq_true rfl⟩) (xr_rv hK hw 1 0 rfl rfl) rfl hl.1 rfl (Nat.le_of_ble_eq_true rfl) dX4_pick_43 ⟨(Nat.le_of_ble_eq_true rfl), (Nat.le_of_ble_eq_true rfl)⟩ (fun _ _ _ _ _ _ h => h.elim) (fun v9 LL1 H locs hp hw => ?_)
      obtain ⟨rfl, rfl⟩ := hp
      have hw : Wd D A s.heap _ _ [[ob (L 0) 15 [.int up, .ref d_mp, .int (nI (ads mp).length)], (d_mp, aR dT 1 cap_mp (fun i => (ads mp)[i]?))], [ob x 3 [.int 0, .ref (L 0), .ref (L 1), .ref (L 2), .ref (L 3), .ref (L 4), .ref (L 5), .int (sc 0), .int (bz (sc 1)), .int (sc 2), .int (sc 3), .int (sc 4), .int (sc 5), .int (sc 6)]], (mp.flatMap (mpE dT))] := hw
      refine W.eq (g2 := F0 m 46 ls [.ref q_mp.1]) rfl ?_
      have hw : Wd D A s.heap _ _ [(mp.flatMap (mpE dT)), [ob (L 0) 15 [.int up, .ref d_mp, .int (nI (ads mp).length)], (d_mp, aR dT 1 cap_mp (fun i => (ads mp)[i]?))], [ob x 3 [.int 0, .ref (L 0), .ref (L 1), .ref (L 2), .ref (L 3), .ref (L 4), .ref (L 5), .int (sc 0), .int (bz (sc 1)), .int (sc 2), .int (sc 3), .int (sc 4), .int (sc 5), .int (sc 6)]]] := hw.pick [2] rfl rfl rfl
      have hw : Wd D A s.heap _ _ [[ob q_mp.1 8 [.int (q_mp.2.2 0), .int (q_mp.2.2 1), .ref q_mp.2.1], (q_mp.2.1, aI dT [q_mp.2.2 2, q_mp.2.2 3, q_mp.2.2 4, q_mp.2.2 5])], ((mp.eraseIdx k_mp).flatMap (mpE dT)), [ob (L 0) 15 [.int up, .ref d_mp, .int (nI (ads mp).length)], (d_mp, aR dT 1 cap_mp (fun i => (ads mp)[i]?))], [ob x 3 [.int 0, .ref (L 0), .ref (L 1), .ref (L 2), .ref (L 3), .ref (L 4), .ref (L 5), .int (sc 0), .int (bz (sc 1)), .int (sc 2), .int (sc 3), .int (sc 4), .int (sc 5), .int (sc 6)]]] := hw.foc hq_mp
      refine xr_castS hf hK hw 0 0 rfl rfl q1243 dX4_pick_46 ?_
      refine lv_iload_n hx hb dX4_pick_49 rfl (lv_at hl 2 rfl) ?_
      refine xc_V (rest := []) (As := [.int y]) hf hK hA hAz hst (hw.pick [0] rfl rfl rfl) (k_X9_pick l D dT g z0 q_mp.1 q_mp.2.1 q_mp.2.2 y) (cwV 1 hts (lw_V q1326 q1327 q1328 q64 q1329) rfl rfl rfl (by decide +kernel) ⟨Nat.le_of_ble_eq_true rfl, Nat.le_of_ble_eq_true rfl⟩) (xr_rv hK hw 0 0 rfl rfl) rfl hl.1 rfl (Nat.le_of_ble_eq_true rfl) dX4_pick_50 ⟨(Nat.le_of_ble_eq_true rfl), (Nat.le_of_ble_eq_true rfl)⟩ (fun _ _ _ _ _ _ h => h.elim) (fun v9 LL1 H locs hp hw => ?_)
      obtain ⟨r1, hr1⟩ : ∃ z, z = f_X9_pick q_mp.2.2 y := ⟨_, rfl⟩
      rw [← hr1] at hp
      obtain ⟨rfl, rfl⟩ := hp
      have hw : Wd D A s.heap _ _ [[ob q_mp.1 8 [.int (r1.2 0), .int (r1.2 1), .ref q_mp.2.1], (q_mp.2.1, aI dT [r1.2 2, r1.2 3, r1.2 4, r1.2 5])], ((mp.eraseIdx k_mp).flatMap (mpE dT)), [ob (L 0) 15 [.int up, .ref d_mp, .int (nI (ads mp).length)], (d_mp, aR dT 1 cap_mp (fun i => (ads mp)[i]?))], [ob x 3 [.int 0, .ref (L 0), .ref (L 1), .ref (L 2), .ref (L 3), .ref (L 4), .ref (L 5), .int (sc 0), .int (bz (sc 1)), .int (sc 2), .int (sc 3), .int (sc 4), .int (sc 5), .int (sc 6)]]] := hw
      refine W.eq (g2 := F0 m 53 ls [.int r1.1]) rfl ?_
      refine lv_istore_n (lv' := [(3, .int r1.1), (0, .ref x), (1, .int i), (2, .int y)]) hx hb dX4_pick_53 rfl hl (by decide) rfl (fun ls hl => ?_)
      refine lv_aload_n hx hb dX4_pick_54 rfl (lv_at hl 1 rfl) ?_
      refine lv_dup hx hb dX4_pick_55 rfl ?_
      refine xr_get hf hK hw 3 0 rfl rfl in_X4 9 (by decide) q1189 (fun _ h => h) rfl dX4_pick_56 ?_
      refine lv_iload_n hx hb dX4_pick_59 rfl (lv_at hl 0 rfl) ?_
      refine lv_iadd hx hb dX4_pick_60 ?_
      refine xr_put (LL' := [[ob q_mp.1 8 [.int (r1.2 0), .int (r1.2 1), .ref q_mp.2.1], (q_mp.2.1, aI dT [r1.2 2, r1.2 3, r1.2 4, r1.2 5])], ((mp.eraseIdx k_mp).flatMap (mpE dT)), [ob (L 0) 15 [.int up, .ref d_mp, .int (nI (ads mp).length)], (d_mp, aR dT 1 cap_mp (fun i => (ads mp)[i]?))], [ob x 3 [.int 0, .ref (L 0), .ref (L 1), .ref (L 2), .ref (L 3), .ref (L 4), .ref (L 5), .int (sc 0), .int (bz (sc 1)), .int ((sc 2) + r1.1), .int (sc 3), .int (sc 4), .int (sc 5), .int (sc 6)]]]) hf hK hw 3 0 rfl rfl in_X4 tyX4_ok nmX4 9 (by decide) q1189 (fun _ h => h) rfl rfl rfl (Nat.le_of_ble_eq_true rfl) rfl dX4_pick_61 (fun H locs hw => ?_)
      refine lv_aload_n hx hb dX4_pick_64 rfl (lv_at hl 1 rfl) ?_
      refine xr_get hf hK hw 3 0 rfl rfl in_X4 8 (by decide) q1188 (fun _ h => h) rfl dX4_pick_65 ?_
      refine lv_if_eq (tgt := 81) hx hb dX4_pick_68 (by decide) (fun c_68 => ?_) (fun c_68 => ?_)
      · refine lv_iload_n hx hb dX4_pick_81 rfl (lv_at hl 0 rfl) ?_
        have hw : Wd D A s.heap _ _ [((mp.set k_mp (q_mp.1, q_mp.2.1, r1.2)).flatMap (mpE dT)), [ob (L 0) 15 [.int up, .ref d_mp, .int (nI (ads mp).length)], (d_mp, aR dT 1 cap_mp (fun i => (ads mp)[i]?))], [ob x 3 [.int 0, .ref (L 0), .ref (L 1), .ref (L 2), .ref (L 3), .ref (L 4), .ref (L 5), .int (sc 0), .int (bz (sc 1)), .int ((sc 2) + r1.1), .int (sc 3), .int (sc 4), .int (sc 5), .int (sc 6)]]] := Wd.unf (q' := (q_mp.1, q_mp.2.1, r1.2)) (L := mp) (k := k_mp) hw hq_mp
        have hw : Wd D A s.heap _ _ [((mp.set k_mp (q_mp.1, q_mp.2.1, r1.2)).flatMap (mpE dT)), ((ob (L 0) 15 [.int up, .ref (al_d g (some (d_mp, cap_mp))), .int (nI (ads mp).length)]) :: (al_t dT (some (d_mp, cap_mp)) (ads mp))), [ob x 3 [.int 0, .ref (L 0), .ref (L 1), .ref (L 2), .ref (L 3), .ref (L 4), .ref (L 5), .int (sc 0), .int (bz (sc 1)), .int ((sc 2) + r1.1), .int (sc 3), .int (sc 4), .int (sc 5), .int (sc 6)]]] := hw
        have hw : Wd D A s.heap _ _ [[ob x 3 [.int 0, .ref (L 0), .ref (L 1), .ref (L 2), .ref (L 3), .ref (L 4), .ref (L 5), .int (sc 0), .int (bz (sc 1)), .int ((sc 2) + r1.1), .int (sc 3), .int (sc 4), .int (sc 5), .int (sc 6)]], ((ob (L 0) 15 [.int up, .ref (al_d g (some (d_mp, cap_mp))), .int (nI (ads mp).length)]) :: (al_t dT (some (d_mp, cap_mp)) (ads mp))), ((mp.set k_mp (q_mp.1, q_mp.2.1, r1.2)).flatMap (mpE dT))] := Wd.take hw [2, 1, 0] rfl rfl
        have hwZ := hw
        subst hr1
        have hw := hwZ
        exact xr_iret hf hr hlocks hw (Nat.le_of_ble_eq_true rfl) (Nat.le_of_ble_eq_true rfl) (Or.inr (Or.inr ⟨k_mp, q_mp, (by first | (simp only [f_3, f_18, c_68, true_or, or_true, false_or, or_false, not_true_eq_false, not_false_eq_true, and_true, true_and, and_self]; done) | (simp only [← Int32.not_le, f_3, f_18, c_68, true_or, or_true, false_or, or_false, not_true_eq_false, not_false_eq_true, and_true, true_and, and_self]; done)), (by first | (simp only [f_3, f_18, c_68, true_or, or_true, false_or, or_false, not_true_eq_false, not_false_eq_true, and_true, true_and, and_self]; done) | (simp only [← Int32.not_le, f_3, f_18, c_68, true_or, or_true, false_or, or_false, not_true_eq_false, not_false_eq_true, and_true, true_and, and_self]; done)), ⟨hq_mp, e_mp⟩, rfl, (by unfold sc_pick; first | (rw [if_pos c_68]; rfl) | (rw [if_neg c_68]; rfl))⟩)) dX4_pick_82
      · refine lv_aload_n hx hb dX4_pick_71 rfl (lv_at hl 1 rfl) ?_
        refine lv_dup hx hb dX4_pick_72 rfl ?_
        refine xr_get hf hK hw 3 0 rfl rfl in_X4 10 (by decide) q1190 (fun _ h => h) rfl dX4_pick_73 ?_
        refine lv_iload_n hx hb dX4_pick_76 rfl (lv_at hl 0 rfl) ?_
        refine lv_iadd hx hb dX4_pick_77 ?_
        refine xr_put (LL' := [[ob q_mp.1 8 [.int (r1.2 0), .int (r1.2 1), .ref q_mp.2.1], (q_mp.2.1, aI dT [r1.2 2, r1.2 3, r1.2 4, r1.2 5])], ((mp.eraseIdx k_mp).flatMap (mpE dT)), [ob (L 0) 15 [.int up, .ref d_mp, .int (nI (ads mp).length)], (d_mp, aR dT 1 cap_mp (fun i => (ads mp)[i]?))], [ob x 3 [.int 0, .ref (L 0), .ref (L 1), .ref (L 2), .ref (L 3), .ref (L 4), .ref (L 5), .int (sc 0), .int (bz (sc 1)), .int ((sc 2) + r1.1), .int ((sc 3) + r1.1), .int (sc 4), .int (sc 5), .int (sc 6)]]]) hf hK hw 3 0 rfl rfl in_X4 tyX4_ok nmX4 10 (by decide) q1190 (fun _ h => h) rfl rfl rfl (Nat.le_of_ble_eq_true rfl) rfl dX4_pick_78 (fun H locs hw => ?_)
        refine lv_iload_n hx hb dX4_pick_81 rfl (lv_at hl 0 rfl) ?_
        have hw : Wd D A s.heap _ _ [((mp.set k_mp (q_mp.1, q_mp.2.1, r1.2)).flatMap (mpE dT)), [ob (L 0) 15 [.int up, .ref d_mp, .int (nI (ads mp).length)], (d_mp, aR dT 1 cap_mp (fun i => (ads mp)[i]?))], [ob x 3 [.int 0, .ref (L 0), .ref (L 1), .ref (L 2), .ref (L 3), .ref (L 4), .ref (L 5), .int (sc 0), .int (bz (sc 1)), .int ((sc 2) + r1.1), .int ((sc 3) + r1.1), .int (sc 4), .int (sc 5), .int (sc 6)]]] := Wd.unf (q' := (q_mp.1, q_mp.2.1, r1.2)) (L := mp) (k := k_mp) hw hq_mp
        have hw : Wd D A s.heap _ _ [((mp.set k_mp (q_mp.1, q_mp.2.1, r1.2)).flatMap (mpE dT)), ((ob (L 0) 15 [.int up, .ref (al_d g (some (d_mp, cap_mp))), .int (nI (ads mp).length)]) :: (al_t dT (some (d_mp, cap_mp)) (ads mp))), [ob x 3 [.int 0, .ref (L 0), .ref (L 1), .ref (L 2), .ref (L 3), .ref (L 4), .ref (L 5), .int (sc 0), .int (bz (sc 1)), .int ((sc 2) + r1.1), .int ((sc 3) + r1.1), .int (sc 4), .int (sc 5), .int (sc 6)]]] := hw
        have hw : Wd D A s.heap _ _ [[ob x 3 [.int 0, .ref (L 0), .ref (L 1), .ref (L 2), .ref (L 3), .ref (L 4), .ref (L 5), .int (sc 0), .int (bz (sc 1)), .int ((sc 2) + r1.1), .int ((sc 3) + r1.1), .int (sc 4), .int (sc 5), .int (sc 6)]], ((ob (L 0) 15 [.int up, .ref (al_d g (some (d_mp, cap_mp))), .int (nI (ads mp).length)]) :: (al_t dT (some (d_mp, cap_mp)) (ads mp))), ((mp.set k_mp (q_mp.1, q_mp.2.1, r1.2)).flatMap (mpE dT))] := Wd.take hw [2, 1, 0] rfl rfl
        have hwZ := hw
        subst hr1
        have hw := hwZ
        exact xr_iret hf hr hlocks hw (Nat.le_of_ble_eq_true rfl) (Nat.le_of_ble_eq_true rfl) (Or.inr (Or.inr ⟨k_mp, q_mp, (by first | (simp only [f_3, f_18, c_68, true_or, or_true, false_or, or_false, not_true_eq_false, not_false_eq_true, and_true, true_and, and_self]; done) | (simp only [← Int32.not_le, f_3, f_18, c_68, true_or, or_true, false_or, or_false, not_true_eq_false, not_false_eq_true, and_true, true_and, and_self]; done)), (by first | (simp only [f_3, f_18, c_68, true_or, or_true, false_or, or_false, not_true_eq_false, not_false_eq_true, and_true, true_and, and_self]; done) | (simp only [← Int32.not_le, f_3, f_18, c_68, true_or, or_true, false_or, or_false, not_true_eq_false, not_false_eq_true, and_true, true_and, and_self]; done)), ⟨hq_mp, e_mp⟩, rfl, (by unfold sc_pick; first | (rw [if_pos c_68]; rfl) | (rw [if_neg c_68]; rfl))⟩)) dX4_pick_82

set_option maxHeartbeats 4000000 in
theorem k_X4_prune (l : Launch) (D : va_G) (dT g : Nat → Nat) (z0 : Nat) (x : Nat) (th : Int32) (L : Nat → Nat) (sc : Nat → Int32) (up : Int32) (stp : Option (Nat × Nat)) (mp : List (Nat × Nat × (Nat → Int32))) (i : Int32) (hokp : alOK stp (ads mp)) : Con l D dT g z0 yX4_prune (ws_ yX4_prune cX4_prune 2 (some .int)) ({ frames := 4, cells := 0, slots := 0, locals := 104 }) [.ref x, .int i] [[ob x 3 [.int th, .ref (L 0), .ref (L 1), .ref (L 2), .ref (L 3), .ref (L 4), .ref (L 5), .int (sc 0), .int (bz (sc 1)), .int (sc 2), .int (sc 3), .int (sc 4), .int (sc 5), .int (sc 6)]], ((ob (L 0) 15 [.int up, .ref (al_d g stp), .int (nI (ads mp).length)]) :: (al_t dT stp (ads mp))), (mp.flatMap (mpE dT))] (fun r LL => ((i < 0 ∨ ¬ i < nI (ads mp).length) ∧ r = some (.int 0) ∧ LL = [[ob x 3 [.int 1, .ref (L 0), .ref (L 1), .ref (L 2), .ref (L 3), .ref (L 4), .ref (L 5), .int (sc 0), .int (bz (sc 1)), .int (sc 2), .int (sc 3), .int (sc 4), .int (sc 5), .int (sc 6)]], ((ob (L 0) 15 [.int up, .ref (al_d g stp), .int (nI (ads mp).length)]) :: (al_t dT stp (ads mp))), (mp.flatMap (mpE dT))]) ∨ (∃ (k : Nat) (q : Nat × Nat × (Nat → Int32)), (¬ (i < 0 ∨ ¬ i < nI (ads mp).length)) ∧ (mp[k]? = some q ∧ i = nI k) ∧ r = some (.int ((f_X9_prune q.2.2).1)) ∧ LL = [[ob x 3 [.int 0, .ref (L 0), .ref (L 1), .ref (L 2), .ref (L 3), .ref (L 4), .ref (L 5), .int (sc 0), .int (bz (sc 1)), .int (sc 2), .int (sc 3), .int (sc 4), .int (sc 5), .int (sc 6)]], ((ob (L 0) 15 [.int up, .ref (al_d g stp), .int (nI (ads mp).length)]) :: (al_t dT stp (ads mp))), ((mp.set k (q.1, q.2.1, (f_X9_prune q.2.2).2)).flatMap (mpE dT))])) noX 0 0 := by
  refine Con.of (maxL := 2) (ret := (some .int)) (by first | exact plainFor_of_name (by decide) | decide +kernel) (Nat.le_of_ble_eq_true rfl) ?_
  intro p e s m args below meth c A ls hf hr hlocks hnm hno hK hA hAz hw hl hst
  have hf : CallFix p m c cX4_prune 2 s args lw_all "SilkRowModel" := hf
  have hnm : meth.name = "prune" := hnm
  have hx := hf.1
  have hb := hf.2.1
  have hts := hf.2.2.2.2
  have hl : lv_has ls 2 [(0, .ref x), (1, .int i)] := hl
  have hw : Wd D A s.heap s.heap [] [[ob x 3 [.int th, .ref (L 0), .ref (L 1), .ref (L 2), .ref (L 3), .ref (L 4), .ref (L 5), .int (sc 0), .int (bz (sc 1)), .int (sc 2), .int (sc 3), .int (sc 4), .int (sc 5), .int (sc 6)]], ((ob (L 0) 15 [.int up, .ref (al_d g stp), .int (nI (ads mp).length)]) :: (al_t dT stp (ads mp))), (mp.flatMap (mpE dT))] := hw
  refine lv_aload_n hx hb dX4_prune_0 rfl (lv_at hl 0 rfl) ?_
  refine lv_aload_n hx hb dX4_prune_1 rfl (lv_at hl 0 rfl) ?_
  refine lv_iload_n hx hb dX4_prune_2 rfl (lv_at hl 1 rfl) ?_
  rcases Decidable.em (i < 0 ∨ ¬ i < nI (ads mp).length) with f_3 | f_3
  · refine xc_V (rest := [.ref x]) (As := [.int i]) hf hK hA hAz hst (hw.pick [0, 0] rfl rfl rfl) (k_X4_isNoPlot_yes l D dT g z0 x th L sc up (.ref (al_d g stp)) (al_t dT stp (ads mp)) (ads mp).length i (al_short hokp) f_3) (cwV 1 hts (lw_V q1321 q1323 qs25 q54 q1324) rfl rfl rfl (by decide +kernel) ⟨Nat.le_of_ble_eq_true rfl, Nat.le_of_ble_eq_true rfl⟩) (xr_rv hK hw 0 0 rfl rfl) rfl hl.1 rfl (Nat.le_of_ble_eq_true rfl) dX4_prune_3 ⟨(Nat.le_of_ble_eq_true rfl), (Nat.le_of_ble_eq_true rfl)⟩ (fun _ _ _ _ _ _ h => h.elim) (fun v9 LL1 H locs hp hw => ?_)
    obtain ⟨rfl, rfl⟩ := hp
    have hw : Wd D A s.heap _ _ [[ob x 3 [.int th, .ref (L 0), .ref (L 1), .ref (L 2), .ref (L 3), .ref (L 4), .ref (L 5), .int (sc 0), .int (bz (sc 1)), .int (sc 2), .int (sc 3), .int (sc 4), .int (sc 5), .int (sc 6)]], ((ob (L 0) 15 [.int up, .ref (al_d g stp), .int (nI (ads mp).length)]) :: (al_t dT stp (ads mp))), (mp.flatMap (mpE dT))] := hw
    refine W.eq (g2 := F0 m 6 ls [.int 1, .ref x]) rfl ?_
    refine lv_iconst (v := 1) hx hb dX4_prune_6 (by decide) ?_
    refine xc_V (rest := []) (As := [.int 1, .int 1]) hf hK hA hAz hst (hw.pick [0] rfl rfl rfl) (k_X4_start_yes l D dT g z0 x th (.ref (L 0)) (.ref (L 1)) (.ref (L 2)) (.ref (L 3)) (.ref (L 4)) (.ref (L 5)) (.int (sc 0)) (.int (bz (sc 1))) (.int (sc 2)) (.int (sc 3)) (.int (sc 4)) (.int (sc 5)) (.int (sc 6)) 1 (by decide)) (cwV 2 hts (lw_V q1234 q1236 qs19 q54 q1237) rfl rfl rfl (by decide +kernel) ⟨Nat.le_of_ble_eq_true rfl, Nat.le_of_ble_eq_true rfl⟩) (xr_rv hK hw 0 0 rfl rfl) rfl hl.1 rfl (Nat.le_of_ble_eq_true rfl) dX4_prune_7 ⟨(Nat.le_of_ble_eq_true rfl), (Nat.le_of_ble_eq_true rfl)⟩ (fun _ _ _ _ _ _ h => h.elim) (fun v9 LL1 H locs hp hw => ?_)
    obtain ⟨rfl, rfl⟩ := hp
    have hw : Wd D A s.heap _ _ [[ob x 3 [.int 1, .ref (L 0), .ref (L 1), .ref (L 2), .ref (L 3), .ref (L 4), .ref (L 5), .int (sc 0), .int (bz (sc 1)), .int (sc 2), .int (sc 3), .int (sc 4), .int (sc 5), .int (sc 6)]], ((ob (L 0) 15 [.int up, .ref (al_d g stp), .int (nI (ads mp).length)]) :: (al_t dT stp (ads mp))), (mp.flatMap (mpE dT))] := hw
    refine W.eq (g2 := F0 m 10 ls [.int 1]) rfl ?_
    refine lv_if_eq (tgt := 17) hx hb dX4_prune_10 (by decide) (fun c9 => absurd c9 (by decide)) (fun _ => ?_)
    refine lv_iconst (v := 0) hx hb dX4_prune_13 (by decide) ?_
    refine lv_goto (tgt := 31) hx hb dX4_prune_14 (by decide) ?_
    have hw : Wd D A s.heap _ _ [[ob x 3 [.int 1, .ref (L 0), .ref (L 1), .ref (L 2), .ref (L 3), .ref (L 4), .ref (L 5), .int (sc 0), .int (bz (sc 1)), .int (sc 2), .int (sc 3), .int (sc 4), .int (sc 5), .int (sc 6)]], ((ob (L 0) 15 [.int up, .ref (al_d g stp), .int (nI (ads mp).length)]) :: (al_t dT stp (ads mp))), (mp.flatMap (mpE dT))] := Wd.take hw [0, 0, 0] rfl rfl
    exact xr_iret hf hr hlocks hw (Nat.le_of_ble_eq_true rfl) (Nat.le_of_ble_eq_true rfl) (Or.inl ⟨(by first | (simp only [f_3, true_or, or_true, false_or, or_false, not_true_eq_false, not_false_eq_true, and_true, true_and, and_self]; done) | (simp only [← Int32.not_le, f_3, true_or, or_true, false_or, or_false, not_true_eq_false, not_false_eq_true, and_true, true_and, and_self]; done)), rfl, rfl⟩) dX4_prune_31
  · obtain ⟨k_mp, q_mp, hq_mp, e_mp, hk_mp⟩ := list_of hokp f_3
    obtain ⟨d_mp, cap_mp, hd_mp, hc_q_mp, hC_q_mp⟩ := al_some (k := k_mp) hokp (ads_lt hq_mp)
    subst hd_mp
    have hw : Wd D A s.heap _ _ [[ob x 3 [.int th, .ref (L 0), .ref (L 1), .ref (L 2), .ref (L 3), .ref (L 4), .ref (L 5), .int (sc 0), .int (bz (sc 1)), .int (sc 2), .int (sc 3), .int (sc 4), .int (sc 5), .int (sc 6)]], [ob (L 0) 15 [.int up, .ref d_mp, .int (nI (ads mp).length)], (d_mp, aR dT 1 cap_mp (fun i => (ads mp)[i]?))], (mp.flatMap (mpE dT))] := hw
    refine xc_V (rest := [.ref x]) (As := [.int i]) hf hK hA hAz hst (hw.pick [0, 0] rfl rfl rfl) (k_X4_isNoPlot_no l D dT g z0 x th L sc up (.ref d_mp) ((d_mp, aR dT 1 cap_mp (fun i => (ads mp)[i]?)) :: []) (ads mp).length i (al_short hokp) f_3) (cwV 1 hts (lw_V q1321 q1323 qs25 q54 q1324) rfl rfl rfl (by decide +kernel) ⟨Nat.le_of_ble_eq_true rfl, Nat.le_of_ble_eq_true rfl⟩) (xr_rv hK hw 0 0 rfl rfl) rfl hl.1 rfl (Nat.le_of_ble_eq_true rfl) dX4_prune_3 ⟨(Nat.le_of_ble_eq_true rfl), (Nat.le_of_ble_eq_true rfl)⟩ (fun _ _ _ _ _ _ h => h.elim) (fun v9 LL1 H locs hp hw => ?_)
    obtain ⟨rfl, rfl⟩ := hp
    have hw : Wd D A s.heap _ _ [[ob x 3 [.int th, .ref (L 0), .ref (L 1), .ref (L 2), .ref (L 3), .ref (L 4), .ref (L 5), .int (sc 0), .int (bz (sc 1)), .int (sc 2), .int (sc 3), .int (sc 4), .int (sc 5), .int (sc 6)]], [ob (L 0) 15 [.int up, .ref d_mp, .int (nI (ads mp).length)], (d_mp, aR dT 1 cap_mp (fun i => (ads mp)[i]?))], (mp.flatMap (mpE dT))] := hw
    refine W.eq (g2 := F0 m 6 ls [.int 0, .ref x]) rfl ?_
    refine lv_iconst (v := 1) hx hb dX4_prune_6 (by decide) ?_
    refine xc_V (rest := []) (As := [.int 0, .int 1]) hf hK hA hAz hst (hw.pick [0] rfl rfl rfl) (k_X4_start_no l D dT g z0 x th (.ref (L 0)) (.ref (L 1)) (.ref (L 2)) (.ref (L 3)) (.ref (L 4)) (.ref (L 5)) (.int (sc 0)) (.int (bz (sc 1))) (.int (sc 2)) (.int (sc 3)) (.int (sc 4)) (.int (sc 5)) (.int (sc 6)) 1) (cwV 2 hts (lw_V q1234 q1236 qs19 q54 q1237) rfl rfl rfl (by decide +kernel) ⟨Nat.le_of_ble_eq_true rfl, Nat.le_of_ble_eq_true rfl⟩) (xr_rv hK hw 0 0 rfl rfl) rfl hl.1 rfl (Nat.le_of_ble_eq_true rfl) dX4_prune_7 ⟨(Nat.le_of_ble_eq_true rfl), (Nat.le_of_ble_eq_true rfl)⟩ (fun _ _ _ _ _ _ h => h.elim) (fun v9 LL1 H locs hp hw => ?_)
    obtain ⟨rfl, rfl⟩ := hp
    have hw : Wd D A s.heap _ _ [[ob x 3 [.int 0, .ref (L 0), .ref (L 1), .ref (L 2), .ref (L 3), .ref (L 4), .ref (L 5), .int (sc 0), .int (bz (sc 1)), .int (sc 2), .int (sc 3), .int (sc 4), .int (sc 5), .int (sc 6)]], [ob (L 0) 15 [.int up, .ref d_mp, .int (nI (ads mp).length)], (d_mp, aR dT 1 cap_mp (fun i => (ads mp)[i]?))], (mp.flatMap (mpE dT))] := hw
    refine W.eq (g2 := F0 m 10 ls [.int 0]) rfl ?_
    refine lv_if_eq (tgt := 17) hx hb dX4_prune_10 (by decide) (fun _ => ?_) (fun c9 => absurd c9 (by decide))
    refine lv_aload_n hx hb dX4_prune_17 rfl (lv_at hl 0 rfl) ?_
    refine xr_get hf hK hw 0 0 rfl rfl in_X4 1 (by decide) q1181 (fun _ h => h) rfl dX4_prune_18 ?_
    refine lv_iload_n hx hb dX4_prune_21 rfl (lv_at hl 1 rfl) ?_
    refine lv_as (y := nI k_mp) e_mp ?_
    refine xc_V (rest := []) (As := [.int (nI k_mp)]) hf hK hA hAz hst (hw.pick [1] rfl rfl rfl) (k_J2_get l D dT g z0 (L 0) d_mp cap_mp up (ads mp) k_mp q_mp.1 hc_q_mp hC_q_mp (ads_lt hq_mp) (ads_some hq_mp)) (cwV 1 hts (lw_V q1325 q394 q395 q47 q396) rfl rfl rfl (by decide +kernel) ⟨Nat.le_of_ble_eq_true rfl, Nat.le_of_ble_eq_true rfl⟩) (xr_rv hK hw 1 0 rfl rfl) rfl hl.1 rfl (Nat.le_of_ble_eq_true rfl) dX4_prune_22 ⟨(Nat.le_of_ble_eq_true rfl), (Nat.le_of_ble_eq_true rfl)⟩ (fun _ _ _ _ _ _ h => h.elim) (fun v9 LL1 H locs hp hw => ?_)
    obtain ⟨rfl, rfl⟩ := hp
    have hw : Wd D A s.heap _ _ [[ob (L 0) 15 [.int up, .ref d_mp, .int (nI (ads mp).length)], (d_mp, aR dT 1 cap_mp (fun i => (ads mp)[i]?))], [ob x 3 [.int 0, .ref (L 0), .ref (L 1), .ref (L 2), .ref (L 3), .ref (L 4), .ref (L 5), .int (sc 0), .int (bz (sc 1)), .int (sc 2), .int (sc 3), .int (sc 4), .int (sc 5), .int (sc 6)]], (mp.flatMap (mpE dT))] := hw
    refine W.eq (g2 := F0 m 25 ls [.ref q_mp.1]) rfl ?_
    have hw : Wd D A s.heap _ _ [(mp.flatMap (mpE dT)), [ob (L 0) 15 [.int up, .ref d_mp, .int (nI (ads mp).length)], (d_mp, aR dT 1 cap_mp (fun i => (ads mp)[i]?))], [ob x 3 [.int 0, .ref (L 0), .ref (L 1), .ref (L 2), .ref (L 3), .ref (L 4), .ref (L 5), .int (sc 0), .int (bz (sc 1)), .int (sc 2), .int (sc 3), .int (sc 4), .int (sc 5), .int (sc 6)]]] := hw.pick [2] rfl rfl rfl
    have hw : Wd D A s.heap _ _ [[ob q_mp.1 8 [.int (q_mp.2.2 0), .int (q_mp.2.2 1), .ref q_mp.2.1], (q_mp.2.1, aI dT [q_mp.2.2 2, q_mp.2.2 3, q_mp.2.2 4, q_mp.2.2 5])], ((mp.eraseIdx k_mp).flatMap (mpE dT)), [ob (L 0) 15 [.int up, .ref d_mp, .int (nI (ads mp).length)], (d_mp, aR dT 1 cap_mp (fun i => (ads mp)[i]?))], [ob x 3 [.int 0, .ref (L 0), .ref (L 1), .ref (L 2), .ref (L 3), .ref (L 4), .ref (L 5), .int (sc 0), .int (bz (sc 1)), .int (sc 2), .int (sc 3), .int (sc 4), .int (sc 5), .int (sc 6)]]] := hw.foc hq_mp
    refine xr_castS hf hK hw 0 0 rfl rfl q1243 dX4_prune_25 ?_
    refine xc_V (rest := []) (As := []) hf hK hA hAz hst (hw.pick [0] rfl rfl rfl) (k_X9_prune l D dT g z0 q_mp.1 q_mp.2.1 q_mp.2.2) (cwV 0 hts (lw_V q1334 q1335 q1336 q64 q1337) rfl rfl rfl (by decide +kernel) ⟨Nat.le_of_ble_eq_true rfl, Nat.le_of_ble_eq_true rfl⟩) (xr_rv hK hw 0 0 rfl rfl) rfl hl.1 rfl (Nat.le_of_ble_eq_true rfl) dX4_prune_28 ⟨(Nat.le_of_ble_eq_true rfl), (Nat.le_of_ble_eq_true rfl)⟩ (fun _ _ _ _ _ _ h => h.elim) (fun v9 LL1 H locs hp hw => ?_)
    obtain ⟨r1, hr1⟩ : ∃ z, z = f_X9_prune q_mp.2.2 := ⟨_, rfl⟩
    rw [← hr1] at hp
    obtain ⟨rfl, rfl⟩ := hp
    have hw : Wd D A s.heap _ _ [[ob q_mp.1 8 [.int (r1.2 0), .int (r1.2 1), .ref q_mp.2.1], (q_mp.2.1, aI dT [r1.2 2, r1.2 3, r1.2 4, r1.2 5])], ((mp.eraseIdx k_mp).flatMap (mpE dT)), [ob (L 0) 15 [.int up, .ref d_mp, .int (nI (ads mp).length)], (d_mp, aR dT 1 cap_mp (fun i => (ads mp)[i]?))], [ob x 3 [.int 0, .ref (L 0), .ref (L 1), .ref (L 2), .ref (L 3), .ref (L 4), .ref (L 5), .int (sc 0), .int (bz (sc 1)), .int (sc 2), .int (sc 3), .int (sc 4), .int (sc 5), .int (sc 6)]]] := hw
    refine W.eq (g2 := F0 m 31 ls [.int r1.1]) rfl ?_
    have hw : Wd D A s.heap _ _ [((mp.set k_mp (q_mp.1, q_mp.2.1, r1.2)).flatMap (mpE dT)), [ob (L 0) 15 [.int up, .ref d_mp, .int (nI (ads mp).length)], (d_mp, aR dT 1 cap_mp (fun i => (ads mp)[i]?))], [ob x 3 [.int 0, .ref (L 0), .ref (L 1), .ref (L 2), .ref (L 3), .ref (L 4), .ref (L 5), .int (sc 0), .int (bz (sc 1)), .int (sc 2), .int (sc 3), .int (sc 4), .int (sc 5), .int (sc 6)]]] := Wd.unf (q' := (q_mp.1, q_mp.2.1, r1.2)) (L := mp) (k := k_mp) hw hq_mp
    have hw : Wd D A s.heap _ _ [((mp.set k_mp (q_mp.1, q_mp.2.1, r1.2)).flatMap (mpE dT)), ((ob (L 0) 15 [.int up, .ref (al_d g (some (d_mp, cap_mp))), .int (nI (ads mp).length)]) :: (al_t dT (some (d_mp, cap_mp)) (ads mp))), [ob x 3 [.int 0, .ref (L 0), .ref (L 1), .ref (L 2), .ref (L 3), .ref (L 4), .ref (L 5), .int (sc 0), .int (bz (sc 1)), .int (sc 2), .int (sc 3), .int (sc 4), .int (sc 5), .int (sc 6)]]] := hw
    have hw : Wd D A s.heap _ _ [[ob x 3 [.int 0, .ref (L 0), .ref (L 1), .ref (L 2), .ref (L 3), .ref (L 4), .ref (L 5), .int (sc 0), .int (bz (sc 1)), .int (sc 2), .int (sc 3), .int (sc 4), .int (sc 5), .int (sc 6)]], ((ob (L 0) 15 [.int up, .ref (al_d g (some (d_mp, cap_mp))), .int (nI (ads mp).length)]) :: (al_t dT (some (d_mp, cap_mp)) (ads mp))), ((mp.set k_mp (q_mp.1, q_mp.2.1, r1.2)).flatMap (mpE dT))] := Wd.take hw [2, 1, 0] rfl rfl
    have hwZ := hw
    subst hr1
    have hw := hwZ
    exact xr_iret hf hr hlocks hw (Nat.le_of_ble_eq_true rfl) (Nat.le_of_ble_eq_true rfl) (Or.inr ⟨k_mp, q_mp, (by first | (simp only [f_3, true_or, or_true, false_or, or_false, not_true_eq_false, not_false_eq_true, and_true, true_and, and_self]; done) | (simp only [← Int32.not_le, f_3, true_or, or_true, false_or, or_false, not_true_eq_false, not_false_eq_true, and_true, true_and, and_self]; done)), ⟨hq_mp, e_mp⟩, rfl, rfl⟩) dX4_prune_31

set_option maxHeartbeats 4000000 in
theorem k_X4_line (l : Launch) (D : va_G) (dT g : Nat → Nat) (z0 : Nat) (x : Nat) (th : Int32) (L : Nat → Nat) (sc : Nat → Int32) (ml : List (Nat × (Nat → Int32))) (i : Int32) (y : Int32) (z : Int32) (t : Int32) (hml : ml.length = 4) : Con l D dT g z0 yX4_line (ws_ yX4_line cX4_line 6 (some .int)) ({ frames := 3, cells := 0, slots := 0, locals := 84 }) [.ref x, .int i, .int y, .int z, .int t] [[ob x 3 [.int th, .ref (L 0), .ref (L 1), .ref (L 2), .ref (L 3), .ref (L 4), .ref (L 5), .int (sc 0), .int (bz (sc 1)), .int (sc 2), .int (sc 3), .int (sc 4), .int (sc 5), .int (sc 6)]], [((L 1), aR dT 3 4 (fun i => (ads ml)[i]?))], (ml.flatMap mlE)] (fun r LL => ((i < 0 ∨ 3 < i) ∧ r = some (.int 0) ∧ LL = [[ob x 3 [.int 1, .ref (L 0), .ref (L 1), .ref (L 2), .ref (L 3), .ref (L 4), .ref (L 5), .int (sc 0), .int (bz (sc 1)), .int (sc 2), .int (sc 3), .int (sc 4), .int (sc 5), .int (sc 6)]], [((L 1), aR dT 3 4 (fun i => (ads ml)[i]?))], (ml.flatMap mlE)]) ∨ ((¬ (i < 0 ∨ 3 < i)) ∧ ((y < 2 ∨ 6 < y) ∨ (z < 0 ∨ 9 < z) ∨ (t < 0 ∨ 10 < t)) ∧ r = some (.int 0) ∧ LL = [[ob x 3 [.int 2, .ref (L 0), .ref (L 1), .ref (L 2), .ref (L 3), .ref (L 4), .ref (L 5), .int (sc 0), .int (bz (sc 1)), .int (sc 2), .int (sc 3), .int (sc 4), .int (sc 5), .int (sc 6)]], [((L 1), aR dT 3 4 (fun i => (ads ml)[i]?))], (ml.flatMap mlE)]) ∨ (∃ (k : Nat) (q : Nat × (Nat → Int32)), (¬ (i < 0 ∨ 3 < i)) ∧ (¬ ((y < 2 ∨ 6 < y) ∨ (z < 0 ∨ 9 < z) ∨ (t < 0 ∨ 10 < t))) ∧ (ml[k]? = some q ∧ i = nI k) ∧ r = some (.int (q.2 2)) ∧ LL = [[ob x 3 [.int 0, .ref (L 0), .ref (L 1), .ref (L 2), .ref (L 3), .ref (L 4), .ref (L 5), .int (sc 0), .int (bz (sc 1)), .int (sc 2), .int (sc 3), .int (sc 4), .int (sc 5), .int (sc 6)]], [((L 1), aR dT 3 4 (fun i => (ads ml)[i]?))], ((ml.set k (q.1, (vec [y, z, t]))).flatMap mlE)])) noX 0 0 := by
  refine Con.of (maxL := 6) (ret := (some .int)) (by first | exact plainFor_of_name (by decide) | decide +kernel) (Nat.le_of_ble_eq_true rfl) ?_
  intro p e s m args below meth c A ls hf hr hlocks hnm hno hK hA hAz hw hl hst
  have hf : CallFix p m c cX4_line 6 s args lw_all "SilkRowModel" := hf
  have hnm : meth.name = "line" := hnm
  have hx := hf.1
  have hb := hf.2.1
  have hts := hf.2.2.2.2
  have hl : lv_has ls 6 [(0, .ref x), (1, .int i), (2, .int y), (3, .int z), (4, .int t)] := hl
  have hw : Wd D A s.heap s.heap [] [[ob x 3 [.int th, .ref (L 0), .ref (L 1), .ref (L 2), .ref (L 3), .ref (L 4), .ref (L 5), .int (sc 0), .int (bz (sc 1)), .int (sc 2), .int (sc 3), .int (sc 4), .int (sc 5), .int (sc 6)]], [((L 1), aR dT 3 4 (fun i => (ads ml)[i]?))], (ml.flatMap mlE)] := hw
  refine lv_aload_n hx hb dX4_line_0 rfl (lv_at hl 0 rfl) ?_
  refine lv_iload_n hx hb dX4_line_1 rfl (lv_at hl 1 rfl) ?_
  rcases Decidable.em (i < 0 ∨ 3 < i) with f_2 | f_2
  · refine xc_S (rest := [.ref x]) (As := [.int i]) hf hK hA hAz hst (hw.pick [] rfl rfl rfl) (k_X4_isNoLine_yes l D dT g z0 i f_2) (va_cwS 1 hts (lw_S q1346 q1347 q54 q1348) rfl rfl rfl (by decide +kernel) ⟨Nat.le_of_ble_eq_true rfl, Nat.le_of_ble_eq_true rfl⟩) rfl hl.1 rfl (Nat.le_of_ble_eq_true rfl) dX4_line_2 ⟨(Nat.le_of_ble_eq_true rfl), (Nat.le_of_ble_eq_true rfl)⟩ (fun _ _ _ _ _ _ h => h.elim) (fun v9 LL1 H locs hp hw => ?_)
    obtain ⟨rfl, rfl⟩ := hp
    have hw : Wd D A s.heap _ _ [[ob x 3 [.int th, .ref (L 0), .ref (L 1), .ref (L 2), .ref (L 3), .ref (L 4), .ref (L 5), .int (sc 0), .int (bz (sc 1)), .int (sc 2), .int (sc 3), .int (sc 4), .int (sc 5), .int (sc 6)]], [((L 1), aR dT 3 4 (fun i => (ads ml)[i]?))], (ml.flatMap mlE)] := hw
    refine W.eq (g2 := F0 m 5 ls [.int 1, .ref x]) rfl ?_
    refine lv_iconst (v := 1) hx hb dX4_line_5 (by decide) ?_
    refine xc_V (rest := []) (As := [.int 1, .int 1]) hf hK hA hAz hst (hw.pick [0] rfl rfl rfl) (k_X4_start_yes l D dT g z0 x th (.ref (L 0)) (.ref (L 1)) (.ref (L 2)) (.ref (L 3)) (.ref (L 4)) (.ref (L 5)) (.int (sc 0)) (.int (bz (sc 1))) (.int (sc 2)) (.int (sc 3)) (.int (sc 4)) (.int (sc 5)) (.int (sc 6)) 1 (by decide)) (cwV 2 hts (lw_V q1234 q1236 qs19 q54 q1237) rfl rfl rfl (by decide +kernel) ⟨Nat.le_of_ble_eq_true rfl, Nat.le_of_ble_eq_true rfl⟩) (xr_rv hK hw 0 0 rfl rfl) rfl hl.1 rfl (Nat.le_of_ble_eq_true rfl) dX4_line_6 ⟨(Nat.le_of_ble_eq_true rfl), (Nat.le_of_ble_eq_true rfl)⟩ (fun _ _ _ _ _ _ h => h.elim) (fun v9 LL1 H locs hp hw => ?_)
    obtain ⟨rfl, rfl⟩ := hp
    have hw : Wd D A s.heap _ _ [[ob x 3 [.int 1, .ref (L 0), .ref (L 1), .ref (L 2), .ref (L 3), .ref (L 4), .ref (L 5), .int (sc 0), .int (bz (sc 1)), .int (sc 2), .int (sc 3), .int (sc 4), .int (sc 5), .int (sc 6)]], [((L 1), aR dT 3 4 (fun i => (ads ml)[i]?))], (ml.flatMap mlE)] := hw
    refine W.eq (g2 := F0 m 9 ls [.int 1]) rfl ?_
    refine lv_if_ne (tgt := 56) hx hb dX4_line_9 (by decide) (fun _ => ?_) (fun c9 => absurd c9 (by decide))
    refine lv_iconst (v := 0) hx hb dX4_line_56 (by decide) ?_
    have hw : Wd D A s.heap _ _ [[ob x 3 [.int 1, .ref (L 0), .ref (L 1), .ref (L 2), .ref (L 3), .ref (L 4), .ref (L 5), .int (sc 0), .int (bz (sc 1)), .int (sc 2), .int (sc 3), .int (sc 4), .int (sc 5), .int (sc 6)]], [((L 1), aR dT 3 4 (fun i => (ads ml)[i]?))], (ml.flatMap mlE)] := Wd.take hw [0, 0, 0] rfl rfl
    exact xr_iret hf hr hlocks hw (Nat.le_of_ble_eq_true rfl) (Nat.le_of_ble_eq_true rfl) (Or.inl ⟨(by first | (simp only [f_2, true_or, or_true, false_or, or_false, not_true_eq_false, not_false_eq_true, and_true, true_and, and_self]; done) | (simp only [← Int32.not_le, f_2, true_or, or_true, false_or, or_false, not_true_eq_false, not_false_eq_true, and_true, true_and, and_self]; done)), rfl, rfl⟩) dX4_line_57
  · obtain ⟨kml_i, qml_i, hqml_i, eml_i, hkml_i⟩ := arr_of 3 hml (by decide) f_2
    refine xc_S (rest := [.ref x]) (As := [.int i]) hf hK hA hAz hst (hw.pick [] rfl rfl rfl) (k_X4_isNoLine_no l D dT g z0 i f_2) (va_cwS 1 hts (lw_S q1346 q1347 q54 q1348) rfl rfl rfl (by decide +kernel) ⟨Nat.le_of_ble_eq_true rfl, Nat.le_of_ble_eq_true rfl⟩) rfl hl.1 rfl (Nat.le_of_ble_eq_true rfl) dX4_line_2 ⟨(Nat.le_of_ble_eq_true rfl), (Nat.le_of_ble_eq_true rfl)⟩ (fun _ _ _ _ _ _ h => h.elim) (fun v9 LL1 H locs hp hw => ?_)
    obtain ⟨rfl, rfl⟩ := hp
    have hw : Wd D A s.heap _ _ [[ob x 3 [.int th, .ref (L 0), .ref (L 1), .ref (L 2), .ref (L 3), .ref (L 4), .ref (L 5), .int (sc 0), .int (bz (sc 1)), .int (sc 2), .int (sc 3), .int (sc 4), .int (sc 5), .int (sc 6)]], [((L 1), aR dT 3 4 (fun i => (ads ml)[i]?))], (ml.flatMap mlE)] := hw
    refine W.eq (g2 := F0 m 5 ls [.int 0, .ref x]) rfl ?_
    refine lv_iconst (v := 1) hx hb dX4_line_5 (by decide) ?_
    refine xc_V (rest := []) (As := [.int 0, .int 1]) hf hK hA hAz hst (hw.pick [0] rfl rfl rfl) (k_X4_start_no l D dT g z0 x th (.ref (L 0)) (.ref (L 1)) (.ref (L 2)) (.ref (L 3)) (.ref (L 4)) (.ref (L 5)) (.int (sc 0)) (.int (bz (sc 1))) (.int (sc 2)) (.int (sc 3)) (.int (sc 4)) (.int (sc 5)) (.int (sc 6)) 1) (cwV 2 hts (lw_V q1234 q1236 qs19 q54 q1237) rfl rfl rfl (by decide +kernel) ⟨Nat.le_of_ble_eq_true rfl, Nat.le_of_ble_eq_true rfl⟩) (xr_rv hK hw 0 0 rfl rfl) rfl hl.1 rfl (Nat.le_of_ble_eq_true rfl) dX4_line_6 ⟨(Nat.le_of_ble_eq_true rfl), (Nat.le_of_ble_eq_true rfl)⟩ (fun _ _ _ _ _ _ h => h.elim) (fun v9 LL1 H locs hp hw => ?_)
    obtain ⟨rfl, rfl⟩ := hp
    have hw : Wd D A s.heap _ _ [[ob x 3 [.int 0, .ref (L 0), .ref (L 1), .ref (L 2), .ref (L 3), .ref (L 4), .ref (L 5), .int (sc 0), .int (bz (sc 1)), .int (sc 2), .int (sc 3), .int (sc 4), .int (sc 5), .int (sc 6)]], [((L 1), aR dT 3 4 (fun i => (ads ml)[i]?))], (ml.flatMap mlE)] := hw
    refine W.eq (g2 := F0 m 9 ls [.int 0]) rfl ?_
    refine lv_if_ne (tgt := 56) hx hb dX4_line_9 (by decide) (fun c9 => absurd c9 (by decide)) (fun _ => ?_)
    refine lv_aload_n hx hb dX4_line_12 rfl (lv_at hl 0 rfl) ?_
    refine lv_iload_n hx hb dX4_line_13 rfl (lv_at hl 2 rfl) ?_
    refine lv_iconst (v := 2) hx hb dX4_line_14 (by decide) ?_
    refine lv_bipush (v := 6) hx hb dX4_line_15 (by decide) ?_
    rcases Decidable.em (y < 2 ∨ 6 < y) with f_17 | f_17
    · refine xc_S (rest := [.ref x]) (As := [.int y, .int 2, .int 6]) hf hK hA hAz hst (hw.pick [] rfl rfl rfl) (k_X4_isIn_no l D dT g z0 y 2 6 f_17) (va_cwS 3 hts (lw_S q1231 q1232 q54 q1233) rfl rfl rfl (by decide +kernel) ⟨Nat.le_of_ble_eq_true rfl, Nat.le_of_ble_eq_true rfl⟩) rfl hl.1 rfl (Nat.le_of_ble_eq_true rfl) dX4_line_17 ⟨(Nat.le_of_ble_eq_true rfl), (Nat.le_of_ble_eq_true rfl)⟩ (fun _ _ _ _ _ _ h => h.elim) (fun v9 LL1 H locs hp hw => ?_)
      obtain ⟨rfl, rfl⟩ := hp
      have hw : Wd D A s.heap _ _ [[ob x 3 [.int 0, .ref (L 0), .ref (L 1), .ref (L 2), .ref (L 3), .ref (L 4), .ref (L 5), .int (sc 0), .int (bz (sc 1)), .int (sc 2), .int (sc 3), .int (sc 4), .int (sc 5), .int (sc 6)]], [((L 1), aR dT 3 4 (fun i => (ads ml)[i]?))], (ml.flatMap mlE)] := hw
      refine W.eq (g2 := F0 m 20 ls [.int 0, .ref x]) rfl ?_
      refine lv_if_eq (tgt := 44) hx hb dX4_line_20 (by decide) (fun _ => ?_) (fun c9 => absurd c9 (by decide))
      refine lv_iconst (v := 1) hx hb dX4_line_44 (by decide) ?_
      refine lv_goto (tgt := 49) hx hb dX4_line_45 (by decide) ?_
      refine lv_iconst (v := 2) hx hb dX4_line_49 (by decide) ?_
      refine xc_V (rest := []) (As := [.int 1, .int 2]) hf hK hA hAz hst (hw.pick [0] rfl rfl rfl) (k_X4_refuse_yes l D dT g z0 x (.ref (L 0)) (.ref (L 1)) (.ref (L 2)) (.ref (L 3)) (.ref (L 4)) (.ref (L 5)) (.int (sc 0)) (.int (bz (sc 1))) (.int (sc 2)) (.int (sc 3)) (.int (sc 4)) (.int (sc 5)) (.int (sc 6)) 2 (by decide)) (cwV 2 hts (lw_V q1238 q1240 qs20 q54 q1241) rfl rfl rfl (by decide +kernel) ⟨Nat.le_of_ble_eq_true rfl, Nat.le_of_ble_eq_true rfl⟩) (xr_rv hK hw 0 0 rfl rfl) rfl hl.1 rfl (Nat.le_of_ble_eq_true rfl) dX4_line_50 ⟨(Nat.le_of_ble_eq_true rfl), (Nat.le_of_ble_eq_true rfl)⟩ (fun _ _ _ _ _ _ h => h.elim) (fun v9 LL1 H locs hp hw => ?_)
      obtain ⟨rfl, rfl⟩ := hp
      have hw : Wd D A s.heap _ _ [[ob x 3 [.int 2, .ref (L 0), .ref (L 1), .ref (L 2), .ref (L 3), .ref (L 4), .ref (L 5), .int (sc 0), .int (bz (sc 1)), .int (sc 2), .int (sc 3), .int (sc 4), .int (sc 5), .int (sc 6)]], [((L 1), aR dT 3 4 (fun i => (ads ml)[i]?))], (ml.flatMap mlE)] := hw
      refine W.eq (g2 := F0 m 53 ls [.int 1]) rfl ?_
      refine lv_if_eq (tgt := 58) hx hb dX4_line_53 (by decide) (fun c9 => absurd c9 (by decide)) (fun _ => ?_)
      refine lv_iconst (v := 0) hx hb dX4_line_56 (by decide) ?_
      have hw : Wd D A s.heap _ _ [[ob x 3 [.int 2, .ref (L 0), .ref (L 1), .ref (L 2), .ref (L 3), .ref (L 4), .ref (L 5), .int (sc 0), .int (bz (sc 1)), .int (sc 2), .int (sc 3), .int (sc 4), .int (sc 5), .int (sc 6)]], [((L 1), aR dT 3 4 (fun i => (ads ml)[i]?))], (ml.flatMap mlE)] := Wd.take hw [0, 0, 0] rfl rfl
      exact xr_iret hf hr hlocks hw (Nat.le_of_ble_eq_true rfl) (Nat.le_of_ble_eq_true rfl) (Or.inr (Or.inl ⟨(by first | (simp only [f_2, f_17, true_or, or_true, false_or, or_false, not_true_eq_false, not_false_eq_true, and_true, true_and, and_self]; done) | (simp only [← Int32.not_le, f_2, f_17, true_or, or_true, false_or, or_false, not_true_eq_false, not_false_eq_true, and_true, true_and, and_self]; done)), (by first | (simp only [f_2, f_17, true_or, or_true, false_or, or_false, not_true_eq_false, not_false_eq_true, and_true, true_and, and_self]; done) | (simp only [← Int32.not_le, f_2, f_17, true_or, or_true, false_or, or_false, not_true_eq_false, not_false_eq_true, and_true, true_and, and_self]; done)), rfl, rfl⟩)) dX4_line_57
    · refine xc_S (rest := [.ref x]) (As := [.int y, .int 2, .int 6]) hf hK hA hAz hst (hw.pick [] rfl rfl rfl) (k_X4_isIn_in l D dT g z0 y 2 6 f_17) (va_cwS 3 hts (lw_S q1231 q1232 q54 q1233) rfl rfl rfl (by decide +kernel) ⟨Nat.le_of_ble_eq_true rfl, Nat.le_of_ble_eq_true rfl⟩) rfl hl.1 rfl (Nat.le_of_ble_eq_true rfl) dX4_line_17 ⟨(Nat.le_of_ble_eq_true rfl), (Nat.le_of_ble_eq_true rfl)⟩ (fun _ _ _ _ _ _ h => h.elim) (fun v9 LL1 H locs hp hw => ?_)
      obtain ⟨rfl, rfl⟩ := hp
      have hw : Wd D A s.heap _ _ [[ob x 3 [.int 0, .ref (L 0), .ref (L 1), .ref (L 2), .ref (L 3), .ref (L 4), .ref (L 5), .int (sc 0), .int (bz (sc 1)), .int (sc 2), .int (sc 3), .int (sc 4), .int (sc 5), .int (sc 6)]], [((L 1), aR dT 3 4 (fun i => (ads ml)[i]?))], (ml.flatMap mlE)] := hw
      refine W.eq (g2 := F0 m 20 ls [.int 1, .ref x]) rfl ?_
      refine lv_if_eq (tgt := 44) hx hb dX4_line_20 (by decide) (fun c9 => absurd c9 (by decide)) (fun _ => ?_)
      refine lv_iload_n hx hb dX4_line_23 rfl (lv_at hl 3 rfl) ?_
      refine lv_iconst (v := 0) hx hb dX4_line_24 (by decide) ?_
      refine lv_bipush (v := 9) hx hb dX4_line_25 (by decide) ?_
      rcases Decidable.em (z < 0 ∨ 9 < z) with f_27 | f_27
      · refine xc_S (rest := [.ref x]) (As := [.int z, .int 0, .int 9]) hf hK hA hAz hst (hw.pick [] rfl rfl rfl) (k_X4_isIn_no l D dT g z0 z 0 9 f_27) (va_cwS 3 hts (lw_S q1231 q1232 q54 q1233) rfl rfl rfl (by decide +kernel) ⟨Nat.le_of_ble_eq_true rfl, Nat.le_of_ble_eq_true rfl⟩) rfl hl.1 rfl (Nat.le_of_ble_eq_true rfl) dX4_line_27 ⟨(Nat.le_of_ble_eq_true rfl), (Nat.le_of_ble_eq_true rfl)⟩ (fun _ _ _ _ _ _ h => h.elim) (fun v9 LL1 H locs hp hw => ?_)
        obtain ⟨rfl, rfl⟩ := hp
        have hw : Wd D A s.heap _ _ [[ob x 3 [.int 0, .ref (L 0), .ref (L 1), .ref (L 2), .ref (L 3), .ref (L 4), .ref (L 5), .int (sc 0), .int (bz (sc 1)), .int (sc 2), .int (sc 3), .int (sc 4), .int (sc 5), .int (sc 6)]], [((L 1), aR dT 3 4 (fun i => (ads ml)[i]?))], (ml.flatMap mlE)] := hw
        refine W.eq (g2 := F0 m 30 ls [.int 0, .ref x]) rfl ?_
        refine lv_if_eq (tgt := 44) hx hb dX4_line_30 (by decide) (fun _ => ?_) (fun c9 => absurd c9 (by decide))
        refine lv_iconst (v := 1) hx hb dX4_line_44 (by decide) ?_
        refine lv_goto (tgt := 49) hx hb dX4_line_45 (by decide) ?_
        refine lv_iconst (v := 2) hx hb dX4_line_49 (by decide) ?_
        refine xc_V (rest := []) (As := [.int 1, .int 2]) hf hK hA hAz hst (hw.pick [0] rfl rfl rfl) (k_X4_refuse_yes l D dT g z0 x (.ref (L 0)) (.ref (L 1)) (.ref (L 2)) (.ref (L 3)) (.ref (L 4)) (.ref (L 5)) (.int (sc 0)) (.int (bz (sc 1))) (.int (sc 2)) (.int (sc 3)) (.int (sc 4)) (.int (sc 5)) (.int (sc 6)) 2 (by decide)) (cwV 2 hts (lw_V q1238 q1240 qs20 q54 q1241) rfl rfl rfl (by decide +kernel) ⟨Nat.le_of_ble_eq_true rfl, Nat.le_of_ble_eq_true rfl⟩) (xr_rv hK hw 0 0 rfl rfl) rfl hl.1 rfl (Nat.le_of_ble_eq_true rfl) dX4_line_50 ⟨(Nat.le_of_ble_eq_true rfl), (Nat.le_of_ble_eq_true rfl)⟩ (fun _ _ _ _ _ _ h => h.elim) (fun v9 LL1 H locs hp hw => ?_)
        obtain ⟨rfl, rfl⟩ := hp
        have hw : Wd D A s.heap _ _ [[ob x 3 [.int 2, .ref (L 0), .ref (L 1), .ref (L 2), .ref (L 3), .ref (L 4), .ref (L 5), .int (sc 0), .int (bz (sc 1)), .int (sc 2), .int (sc 3), .int (sc 4), .int (sc 5), .int (sc 6)]], [((L 1), aR dT 3 4 (fun i => (ads ml)[i]?))], (ml.flatMap mlE)] := hw
        refine W.eq (g2 := F0 m 53 ls [.int 1]) rfl ?_
        refine lv_if_eq (tgt := 58) hx hb dX4_line_53 (by decide) (fun c9 => absurd c9 (by decide)) (fun _ => ?_)
        refine lv_iconst (v := 0) hx hb dX4_line_56 (by decide) ?_
        have hw : Wd D A s.heap _ _ [[ob x 3 [.int 2, .ref (L 0), .ref (L 1), .ref (L 2), .ref (L 3), .ref (L 4), .ref (L 5), .int (sc 0), .int (bz (sc 1)), .int (sc 2), .int (sc 3), .int (sc 4), .int (sc 5), .int (sc 6)]], [((L 1), aR dT 3 4 (fun i => (ads ml)[i]?))], (ml.flatMap mlE)] := Wd.take hw [0, 0, 0] rfl rfl
        exact xr_iret hf hr hlocks hw (Nat.le_of_ble_eq_true rfl) (Nat.le_of_ble_eq_true rfl) (Or.inr (Or.inl ⟨(by first | (simp only [f_2, f_17, f_27, true_or, or_true, false_or, or_false, not_true_eq_false, not_false_eq_true, and_true, true_and, and_self]; done) | (simp only [← Int32.not_le, f_2, f_17, f_27, true_or, or_true, false_or, or_false, not_true_eq_false, not_false_eq_true, and_true, true_and, and_self]; done)), (by first | (simp only [f_2, f_17, f_27, true_or, or_true, false_or, or_false, not_true_eq_false, not_false_eq_true, and_true, true_and, and_self]; done) | (simp only [← Int32.not_le, f_2, f_17, f_27, true_or, or_true, false_or, or_false, not_true_eq_false, not_false_eq_true, and_true, true_and, and_self]; done)), rfl, rfl⟩)) dX4_line_57
      · refine xc_S (rest := [.ref x]) (As := [.int z, .int 0, .int 9]) hf hK hA hAz hst (hw.pick [] rfl rfl rfl) (k_X4_isIn_in l D dT g z0 z 0 9 f_27) (va_cwS 3 hts (lw_S q1231 q1232 q54 q1233) rfl rfl rfl (by decide +kernel) ⟨Nat.le_of_ble_eq_true rfl, Nat.le_of_ble_eq_true rfl⟩) rfl hl.1 rfl (Nat.le_of_ble_eq_true rfl) dX4_line_27 ⟨(Nat.le_of_ble_eq_true rfl), (Nat.le_of_ble_eq_true rfl)⟩ (fun _ _ _ _ _ _ h => h.elim) (fun v9 LL1 H locs hp hw => ?_)
        obtain ⟨rfl, rfl⟩ := hp
        have hw : Wd D A s.heap _ _ [[ob x 3 [.int 0, .ref (L 0), .ref (L 1), .ref (L 2), .ref (L 3), .ref (L 4), .ref (L 5), .int (sc 0), .int (bz (sc 1)), .int (sc 2), .int (sc 3), .int (sc 4), .int (sc 5), .int (sc 6)]], [((L 1), aR dT 3 4 (fun i => (ads ml)[i]?))], (ml.flatMap mlE)] := hw
        refine W.eq (g2 := F0 m 30 ls [.int 1, .ref x]) rfl ?_
        refine lv_if_eq (tgt := 44) hx hb dX4_line_30 (by decide) (fun c9 => absurd c9 (by decide)) (fun _ => ?_)
        refine lv_iload hx hb dX4_line_33 (lv_at hl 4 rfl) ?_
        refine lv_iconst (v := 0) hx hb dX4_line_35 (by decide) ?_
        refine lv_bipush (v := 10) hx hb dX4_line_36 (by decide) ?_
        rcases Decidable.em (t < 0 ∨ 10 < t) with f_38 | f_38
        · refine xc_S (rest := [.ref x]) (As := [.int t, .int 0, .int 10]) hf hK hA hAz hst (hw.pick [] rfl rfl rfl) (k_X4_isIn_no l D dT g z0 t 0 10 f_38) (va_cwS 3 hts (lw_S q1231 q1232 q54 q1233) rfl rfl rfl (by decide +kernel) ⟨Nat.le_of_ble_eq_true rfl, Nat.le_of_ble_eq_true rfl⟩) rfl hl.1 rfl (Nat.le_of_ble_eq_true rfl) dX4_line_38 ⟨(Nat.le_of_ble_eq_true rfl), (Nat.le_of_ble_eq_true rfl)⟩ (fun _ _ _ _ _ _ h => h.elim) (fun v9 LL1 H locs hp hw => ?_)
          obtain ⟨rfl, rfl⟩ := hp
          have hw : Wd D A s.heap _ _ [[ob x 3 [.int 0, .ref (L 0), .ref (L 1), .ref (L 2), .ref (L 3), .ref (L 4), .ref (L 5), .int (sc 0), .int (bz (sc 1)), .int (sc 2), .int (sc 3), .int (sc 4), .int (sc 5), .int (sc 6)]], [((L 1), aR dT 3 4 (fun i => (ads ml)[i]?))], (ml.flatMap mlE)] := hw
          refine W.eq (g2 := F0 m 41 ls [.int 0, .ref x]) rfl ?_
          refine lv_if_ne (tgt := 48) hx hb dX4_line_41 (by decide) (fun c9 => absurd c9 (by decide)) (fun _ => ?_)
          refine lv_iconst (v := 1) hx hb dX4_line_44 (by decide) ?_
          refine lv_goto (tgt := 49) hx hb dX4_line_45 (by decide) ?_
          refine lv_iconst (v := 2) hx hb dX4_line_49 (by decide) ?_
          refine xc_V (rest := []) (As := [.int 1, .int 2]) hf hK hA hAz hst (hw.pick [0] rfl rfl rfl) (k_X4_refuse_yes l D dT g z0 x (.ref (L 0)) (.ref (L 1)) (.ref (L 2)) (.ref (L 3)) (.ref (L 4)) (.ref (L 5)) (.int (sc 0)) (.int (bz (sc 1))) (.int (sc 2)) (.int (sc 3)) (.int (sc 4)) (.int (sc 5)) (.int (sc 6)) 2 (by decide)) (cwV 2 hts (lw_V q1238 q1240 qs20 q54 q1241) rfl rfl rfl (by decide +kernel) ⟨Nat.le_of_ble_eq_true rfl, Nat.le_of_ble_eq_true rfl⟩) (xr_rv hK hw 0 0 rfl rfl) rfl hl.1 rfl (Nat.le_of_ble_eq_true rfl) dX4_line_50 ⟨(Nat.le_of_ble_eq_true rfl), (Nat.le_of_ble_eq_true rfl)⟩ (fun _ _ _ _ _ _ h => h.elim) (fun v9 LL1 H locs hp hw => ?_)
          obtain ⟨rfl, rfl⟩ := hp
          have hw : Wd D A s.heap _ _ [[ob x 3 [.int 2, .ref (L 0), .ref (L 1), .ref (L 2), .ref (L 3), .ref (L 4), .ref (L 5), .int (sc 0), .int (bz (sc 1)), .int (sc 2), .int (sc 3), .int (sc 4), .int (sc 5), .int (sc 6)]], [((L 1), aR dT 3 4 (fun i => (ads ml)[i]?))], (ml.flatMap mlE)] := hw
          refine W.eq (g2 := F0 m 53 ls [.int 1]) rfl ?_
          refine lv_if_eq (tgt := 58) hx hb dX4_line_53 (by decide) (fun c9 => absurd c9 (by decide)) (fun _ => ?_)
          refine lv_iconst (v := 0) hx hb dX4_line_56 (by decide) ?_
          have hw : Wd D A s.heap _ _ [[ob x 3 [.int 2, .ref (L 0), .ref (L 1), .ref (L 2), .ref (L 3), .ref (L 4), .ref (L 5), .int (sc 0), .int (bz (sc 1)), .int (sc 2), .int (sc 3), .int (sc 4), .int (sc 5), .int (sc 6)]], [((L 1), aR dT 3 4 (fun i => (ads ml)[i]?))], (ml.flatMap mlE)] := Wd.take hw [0, 0, 0] rfl rfl
          exact xr_iret hf hr hlocks hw (Nat.le_of_ble_eq_true rfl) (Nat.le_of_ble_eq_true rfl) (Or.inr (Or.inl ⟨(by first | (simp only [f_2, f_17, f_27, f_38, true_or, or_true, false_or, or_false, not_true_eq_false, not_false_eq_true, and_true, true_and, and_self]; done) | (simp only [← Int32.not_le, f_2, f_17, f_27, f_38, true_or, or_true, false_or, or_false, not_true_eq_false, not_false_eq_true, and_true, true_and, and_self]; done)), (by first | (simp only [f_2, f_17, f_27, f_38, true_or, or_true, false_or, or_false, not_true_eq_false, not_false_eq_true, and_true, true_and, and_self]; done) | (simp only [← Int32.not_le, f_2, f_17, f_27, f_38, true_or, or_true, false_or, or_false, not_true_eq_false, not_false_eq_true, and_true, true_and, and_self]; done)), rfl, rfl⟩)) dX4_line_57
        · refine xc_S (rest := [.ref x]) (As := [.int t, .int 0, .int 10]) hf hK hA hAz hst (hw.pick [] rfl rfl rfl) (k_X4_isIn_in l D dT g z0 t 0 10 f_38) (va_cwS 3 hts (lw_S q1231 q1232 q54 q1233) rfl rfl rfl (by decide +kernel) ⟨Nat.le_of_ble_eq_true rfl, Nat.le_of_ble_eq_true rfl⟩) rfl hl.1 rfl (Nat.le_of_ble_eq_true rfl) dX4_line_38 ⟨(Nat.le_of_ble_eq_true rfl), (Nat.le_of_ble_eq_true rfl)⟩ (fun _ _ _ _ _ _ h => h.elim) (fun v9 LL1 H locs hp hw => ?_)
          obtain ⟨rfl, rfl⟩ := hp
          have hw : Wd D A s.heap _ _ [[ob x 3 [.int 0, .ref (L 0), .ref (L 1), .ref (L 2), .ref (L 3), .ref (L 4), .ref (L 5), .int (sc 0), .int (bz (sc 1)), .int (sc 2), .int (sc 3), .int (sc 4), .int (sc 5), .int (sc 6)]], [((L 1), aR dT 3 4 (fun i => (ads ml)[i]?))], (ml.flatMap mlE)] := hw
          refine W.eq (g2 := F0 m 41 ls [.int 1, .ref x]) rfl ?_
          refine lv_if_ne (tgt := 48) hx hb dX4_line_41 (by decide) (fun _ => ?_) (fun c9 => absurd c9 (by decide))
          refine lv_iconst (v := 0) hx hb dX4_line_48 (by decide) ?_
          refine lv_iconst (v := 2) hx hb dX4_line_49 (by decide) ?_
          refine xc_V (rest := []) (As := [.int 0, .int 2]) hf hK hA hAz hst (hw.pick [0] rfl rfl rfl) (k_X4_refuse_no l D dT g z0 x (.ref (L 0)) (.ref (L 1)) (.ref (L 2)) (.ref (L 3)) (.ref (L 4)) (.ref (L 5)) (.int (sc 0)) (.int (bz (sc 1))) (.int (sc 2)) (.int (sc 3)) (.int (sc 4)) (.int (sc 5)) (.int (sc 6)) 2) (cwV 2 hts (lw_V q1238 q1240 qs20 q54 q1241) rfl rfl rfl (by decide +kernel) ⟨Nat.le_of_ble_eq_true rfl, Nat.le_of_ble_eq_true rfl⟩) (xr_rv hK hw 0 0 rfl rfl) rfl hl.1 rfl (Nat.le_of_ble_eq_true rfl) dX4_line_50 ⟨(Nat.le_of_ble_eq_true rfl), (Nat.le_of_ble_eq_true rfl)⟩ (fun _ _ _ _ _ _ h => h.elim) (fun v9 LL1 H locs hp hw => ?_)
          obtain ⟨rfl, rfl⟩ := hp
          have hw : Wd D A s.heap _ _ [[ob x 3 [.int 0, .ref (L 0), .ref (L 1), .ref (L 2), .ref (L 3), .ref (L 4), .ref (L 5), .int (sc 0), .int (bz (sc 1)), .int (sc 2), .int (sc 3), .int (sc 4), .int (sc 5), .int (sc 6)]], [((L 1), aR dT 3 4 (fun i => (ads ml)[i]?))], (ml.flatMap mlE)] := hw
          refine W.eq (g2 := F0 m 53 ls [.int 0]) rfl ?_
          refine lv_if_eq (tgt := 58) hx hb dX4_line_53 (by decide) (fun _ => ?_) (fun c9 => absurd c9 (by decide))
          refine lv_aload_n hx hb dX4_line_58 rfl (lv_at hl 0 rfl) ?_
          refine xr_get hf hK hw 0 0 rfl rfl in_X4 2 (by decide) q1182 (fun _ h => h) rfl dX4_line_59 ?_
          refine lv_iload_n hx hb dX4_line_62 rfl (lv_at hl 1 rfl) ?_
          refine xr_aald (r := (some qml_i.1)) hf hK hw 1 0 rfl rfl kml_i (ixp eml_i hkml_i) (ixc eml_i hkml_i) (by have := ads_lt hqml_i; rw [ads_len] at this; omega) (ads_some hqml_i) dX4_line_63 ?_
          have hw : Wd D A s.heap _ _ [(ml.flatMap mlE), [ob x 3 [.int 0, .ref (L 0), .ref (L 1), .ref (L 2), .ref (L 3), .ref (L 4), .ref (L 5), .int (sc 0), .int (bz (sc 1)), .int (sc 2), .int (sc 3), .int (sc 4), .int (sc 5), .int (sc 6)]], [((L 1), aR dT 3 4 (fun i => (ads ml)[i]?))]] := hw.pick [2] rfl rfl rfl
          have hw : Wd D A s.heap _ _ [[ob qml_i.1 5 [.int (qml_i.2 0), .int (qml_i.2 1), .int (qml_i.2 2)]], ((ml.eraseIdx kml_i).flatMap mlE), [ob x 3 [.int 0, .ref (L 0), .ref (L 1), .ref (L 2), .ref (L 3), .ref (L 4), .ref (L 5), .int (sc 0), .int (bz (sc 1)), .int (sc 2), .int (sc 3), .int (sc 4), .int (sc 5), .int (sc 6)]], [((L 1), aR dT 3 4 (fun i => (ads ml)[i]?))]] := hw.foc hqml_i
          refine xr_get hf hK hw 0 0 rfl rfl in_X6 2 (by decide) q1122 (fun _ h => h) rfl dX4_line_64 ?_
          refine lv_istore (lv' := [(5, .int (qml_i.2 2)), (0, .ref x), (1, .int i), (2, .int y), (3, .int z), (4, .int t)]) hx hb dX4_line_67 hl (by decide) rfl (fun ls hl => ?_)
          refine lv_aload_n hx hb dX4_line_69 rfl (lv_at hl 1 rfl) ?_
          refine xr_get hf hK hw 2 0 rfl rfl in_X4 2 (by decide) q1182 (fun _ h => h) rfl dX4_line_70 ?_
          refine lv_iload_n hx hb dX4_line_73 rfl (lv_at hl 2 rfl) ?_
          refine xr_aald (r := (some qml_i.1)) hf hK hw 3 0 rfl rfl kml_i (ixp eml_i hkml_i) (ixc eml_i hkml_i) (by have := ads_lt hqml_i; rw [ads_len] at this; omega) (ads_some hqml_i) dX4_line_74 ?_
          refine lv_iload_n hx hb dX4_line_75 rfl (lv_at hl 3 rfl) ?_
          refine xr_put (LL' := [[ob qml_i.1 5 [.int y, .int (qml_i.2 1), .int (qml_i.2 2)]], ((ml.eraseIdx kml_i).flatMap mlE), [ob x 3 [.int 0, .ref (L 0), .ref (L 1), .ref (L 2), .ref (L 3), .ref (L 4), .ref (L 5), .int (sc 0), .int (bz (sc 1)), .int (sc 2), .int (sc 3), .int (sc 4), .int (sc 5), .int (sc 6)]], [((L 1), aR dT 3 4 (fun i => (ads ml)[i]?))]]) hf hK hw 0 0 rfl rfl in_X6 tyX6_ok nmX6 0 (by decide) q1119 (fun _ h => h) rfl rfl rfl (Nat.le_of_ble_eq_true rfl) rfl dX4_line_76 (fun H locs hw => ?_)
          refine lv_aload_n hx hb dX4_line_79 rfl (lv_at hl 1 rfl) ?_
          refine xr_get hf hK hw 2 0 rfl rfl in_X4 2 (by decide) q1182 (fun _ h => h) rfl dX4_line_80 ?_
          refine lv_iload_n hx hb dX4_line_83 rfl (lv_at hl 2 rfl) ?_
          refine xr_aald (r := (some qml_i.1)) hf hK hw 3 0 rfl rfl kml_i (ixp eml_i hkml_i) (ixc eml_i hkml_i) (by have := ads_lt hqml_i; rw [ads_len] at this; omega) (ads_some hqml_i) dX4_line_84 ?_
          refine lv_iload_n hx hb dX4_line_85 rfl (lv_at hl 4 rfl) ?_
          refine xr_put (LL' := [[ob qml_i.1 5 [.int y, .int z, .int (qml_i.2 2)]], ((ml.eraseIdx kml_i).flatMap mlE), [ob x 3 [.int 0, .ref (L 0), .ref (L 1), .ref (L 2), .ref (L 3), .ref (L 4), .ref (L 5), .int (sc 0), .int (bz (sc 1)), .int (sc 2), .int (sc 3), .int (sc 4), .int (sc 5), .int (sc 6)]], [((L 1), aR dT 3 4 (fun i => (ads ml)[i]?))]]) hf hK hw 0 0 rfl rfl in_X6 tyX6_ok nmX6 1 (by decide) q1121 (fun _ h => h) rfl rfl rfl (Nat.le_of_ble_eq_true rfl) rfl dX4_line_86 (fun H locs hw => ?_)
          refine lv_aload_n hx hb dX4_line_89 rfl (lv_at hl 1 rfl) ?_
          refine xr_get hf hK hw 2 0 rfl rfl in_X4 2 (by decide) q1182 (fun _ h => h) rfl dX4_line_90 ?_
          refine lv_iload_n hx hb dX4_line_93 rfl (lv_at hl 2 rfl) ?_
          refine xr_aald (r := (some qml_i.1)) hf hK hw 3 0 rfl rfl kml_i (ixp eml_i hkml_i) (ixc eml_i hkml_i) (by have := ads_lt hqml_i; rw [ads_len] at this; omega) (ads_some hqml_i) dX4_line_94 ?_
          refine lv_iload hx hb dX4_line_95 (lv_at hl 5 rfl) ?_
          refine xr_put (LL' := [[ob qml_i.1 5 [.int y, .int z, .int t]], ((ml.eraseIdx kml_i).flatMap mlE), [ob x 3 [.int 0, .ref (L 0), .ref (L 1), .ref (L 2), .ref (L 3), .ref (L 4), .ref (L 5), .int (sc 0), .int (bz (sc 1)), .int (sc 2), .int (sc 3), .int (sc 4), .int (sc 5), .int (sc 6)]], [((L 1), aR dT 3 4 (fun i => (ads ml)[i]?))]]) hf hK hw 0 0 rfl rfl in_X6 tyX6_ok nmX6 2 (by decide) q1122 (fun _ h => h) rfl rfl rfl (Nat.le_of_ble_eq_true rfl) rfl dX4_line_97 (fun H locs hw => ?_)
          refine lv_iload hx hb dX4_line_100 (lv_at hl 0 rfl) ?_
          have hw : Wd D A s.heap _ _ [((ml.set kml_i (qml_i.1, (vec [y, z, t]))).flatMap mlE), [ob x 3 [.int 0, .ref (L 0), .ref (L 1), .ref (L 2), .ref (L 3), .ref (L 4), .ref (L 5), .int (sc 0), .int (bz (sc 1)), .int (sc 2), .int (sc 3), .int (sc 4), .int (sc 5), .int (sc 6)]], [((L 1), aR dT 3 4 (fun i => (ads ml)[i]?))]] := Wd.unf (q' := (qml_i.1, (vec [y, z, t]))) (L := ml) (k := kml_i) hw hqml_i
          have hw : Wd D A s.heap _ _ [[ob x 3 [.int 0, .ref (L 0), .ref (L 1), .ref (L 2), .ref (L 3), .ref (L 4), .ref (L 5), .int (sc 0), .int (bz (sc 1)), .int (sc 2), .int (sc 3), .int (sc 4), .int (sc 5), .int (sc 6)]], [((L 1), aR dT 3 4 (fun i => (ads ml)[i]?))], ((ml.set kml_i (qml_i.1, (vec [y, z, t]))).flatMap mlE)] := Wd.take hw [1, 1, 0] rfl rfl
          exact xr_iret hf hr hlocks hw (Nat.le_of_ble_eq_true rfl) (Nat.le_of_ble_eq_true rfl) (Or.inr (Or.inr ⟨kml_i, qml_i, (by first | (simp only [f_2, f_17, f_27, f_38, true_or, or_true, false_or, or_false, not_true_eq_false, not_false_eq_true, and_true, true_and, and_self]; done) | (simp only [← Int32.not_le, f_2, f_17, f_27, f_38, true_or, or_true, false_or, or_false, not_true_eq_false, not_false_eq_true, and_true, true_and, and_self]; done)), (by first | (simp only [f_2, f_17, f_27, f_38, true_or, or_true, false_or, or_false, not_true_eq_false, not_false_eq_true, and_true, true_and, and_self]; done) | (simp only [← Int32.not_le, f_2, f_17, f_27, f_38, true_or, or_true, false_or, or_false, not_true_eq_false, not_false_eq_true, and_true, true_and, and_self]; done)), ⟨hqml_i, eml_i⟩, rfl, rfl⟩)) dX4_line_102

set_option maxHeartbeats 4000000 in
theorem k_X4_feed (l : Launch) (D : va_G) (dT g : Nat → Nat) (z0 : Nat) (x : Nat) (th : Int32) (L : Nat → Nat) (sc : Nat → Int32) (mt : List (Nat × (Nat → Int32))) (i : Int32) (y : Int32) (hmt : mt.length = 6) : Con l D dT g z0 yX4_feed (ws_ yX4_feed cX4_feed 6 (some .int)) ({ frames := 3, cells := 0, slots := 0, locals := 84 }) [.ref x, .int i, .int y] [[ob x 3 [.int th, .ref (L 0), .ref (L 1), .ref (L 2), .ref (L 3), .ref (L 4), .ref (L 5), .int (sc 0), .int (bz (sc 1)), .int (sc 2), .int (sc 3), .int (sc 4), .int (sc 5), .int (sc 6)]], [((L 2), aR dT 4 6 (fun i => (ads mt)[i]?))], (mt.flatMap mtE)] (fun r LL => ((i < 0 ∨ 5 < i) ∧ r = some (.int 0) ∧ LL = [[ob x 3 [.int 1, .ref (L 0), .ref (L 1), .ref (L 2), .ref (L 3), .ref (L 4), .ref (L 5), .int (sc 0), .int (bz (sc 1)), .int (sc 2), .int (sc 3), .int (sc 4), .int (sc 5), .int (sc 6)]], [((L 2), aR dT 4 6 (fun i => (ads mt)[i]?))], (mt.flatMap mtE)]) ∨ ((¬ (i < 0 ∨ 5 < i)) ∧ (y < 1 ∨ 999 < y) ∧ r = some (.int 0) ∧ LL = [[ob x 3 [.int 2, .ref (L 0), .ref (L 1), .ref (L 2), .ref (L 3), .ref (L 4), .ref (L 5), .int (sc 0), .int (bz (sc 1)), .int (sc 2), .int (sc 3), .int (sc 4), .int (sc 5), .int (sc 6)]], [((L 2), aR dT 4 6 (fun i => (ads mt)[i]?))], (mt.flatMap mtE)]) ∨ ((¬ (i < 0 ∨ 5 < i)) ∧ (¬ (y < 1 ∨ 999 < y)) ∧ (∃ k q, mt[k]? = some q ∧ i = nI k ∧ (q.2 0 = 0 ∨ 0 < q.2 5 ∨ ¬ bz (q.2 10) = 0)) ∧ r = some (.int 0) ∧ LL = [[ob x 3 [.int 3, .ref (L 0), .ref (L 1), .ref (L 2), .ref (L 3), .ref (L 4), .ref (L 5), .int (sc 0), .int (bz (sc 1)), .int (sc 2), .int (sc 3), .int (sc 4), .int (sc 5), .int (sc 6)]], [((L 2), aR dT 4 6 (fun i => (ads mt)[i]?))], (mt.flatMap mtE)]) ∨ (∃ (k : Nat) (q : Nat × (Nat → Int32)), (¬ (i < 0 ∨ 5 < i)) ∧ (¬ (y < 1 ∨ 999 < y)) ∧ (mt[k]? = some q ∧ i = nI k ∧ ¬ q.2 0 = 0 ∧ ¬ 0 < q.2 5 ∧ bz (q.2 10) = 0) ∧ r = some (.int (imin y (sc 2))) ∧ LL = [mxS x 0 L (sc_feed sc y), [((L 2), aR dT 4 6 (fun i => (ads mt)[i]?))], ((mt.set k (q.1, tr_feed q.2 (imin y (sc 2)) (imin (imin y (sc 2)) (sc 3)))).flatMap mtE)])) noX 0 0 := by
  refine Con.of (maxL := 6) (ret := (some .int)) (by first | exact plainFor_of_name (by decide) | decide +kernel) (Nat.le_of_ble_eq_true rfl) ?_
  intro p e s m args below meth c A ls hf hr hlocks hnm hno hK hA hAz hw hl hst
  have hf : CallFix p m c cX4_feed 6 s args lw_all "SilkRowModel" := hf
  have hnm : meth.name = "feed" := hnm
  have hx := hf.1
  have hb := hf.2.1
  have hts := hf.2.2.2.2
  have hl : lv_has ls 6 [(0, .ref x), (1, .int i), (2, .int y)] := hl
  have hw : Wd D A s.heap s.heap [] [[ob x 3 [.int th, .ref (L 0), .ref (L 1), .ref (L 2), .ref (L 3), .ref (L 4), .ref (L 5), .int (sc 0), .int (bz (sc 1)), .int (sc 2), .int (sc 3), .int (sc 4), .int (sc 5), .int (sc 6)]], [((L 2), aR dT 4 6 (fun i => (ads mt)[i]?))], (mt.flatMap mtE)] := hw
  refine lv_aload_n hx hb dX4_feed_0 rfl (lv_at hl 0 rfl) ?_
  refine lv_iload_n hx hb dX4_feed_1 rfl (lv_at hl 1 rfl) ?_
  rcases Decidable.em (i < 0 ∨ 5 < i) with f_2 | f_2
  · refine xc_S (rest := [.ref x]) (As := [.int i]) hf hK hA hAz hst (hw.pick [] rfl rfl rfl) (k_X4_isNoTray_yes l D dT g z0 i f_2) (va_cwS 1 hts (lw_S q1353 q1354 q54 q1355) rfl rfl rfl (by decide +kernel) ⟨Nat.le_of_ble_eq_true rfl, Nat.le_of_ble_eq_true rfl⟩) rfl hl.1 rfl (Nat.le_of_ble_eq_true rfl) dX4_feed_2 ⟨(Nat.le_of_ble_eq_true rfl), (Nat.le_of_ble_eq_true rfl)⟩ (fun _ _ _ _ _ _ h => h.elim) (fun v9 LL1 H locs hp hw => ?_)
    obtain ⟨rfl, rfl⟩ := hp
    have hw : Wd D A s.heap _ _ [[ob x 3 [.int th, .ref (L 0), .ref (L 1), .ref (L 2), .ref (L 3), .ref (L 4), .ref (L 5), .int (sc 0), .int (bz (sc 1)), .int (sc 2), .int (sc 3), .int (sc 4), .int (sc 5), .int (sc 6)]], [((L 2), aR dT 4 6 (fun i => (ads mt)[i]?))], (mt.flatMap mtE)] := hw
    refine W.eq (g2 := F0 m 5 ls [.int 1, .ref x]) rfl ?_
    refine lv_iconst (v := 1) hx hb dX4_feed_5 (by decide) ?_
    refine xc_V (rest := []) (As := [.int 1, .int 1]) hf hK hA hAz hst (hw.pick [0] rfl rfl rfl) (k_X4_start_yes l D dT g z0 x th (.ref (L 0)) (.ref (L 1)) (.ref (L 2)) (.ref (L 3)) (.ref (L 4)) (.ref (L 5)) (.int (sc 0)) (.int (bz (sc 1))) (.int (sc 2)) (.int (sc 3)) (.int (sc 4)) (.int (sc 5)) (.int (sc 6)) 1 (by decide)) (cwV 2 hts (lw_V q1234 q1236 qs19 q54 q1237) rfl rfl rfl (by decide +kernel) ⟨Nat.le_of_ble_eq_true rfl, Nat.le_of_ble_eq_true rfl⟩) (xr_rv hK hw 0 0 rfl rfl) rfl hl.1 rfl (Nat.le_of_ble_eq_true rfl) dX4_feed_6 ⟨(Nat.le_of_ble_eq_true rfl), (Nat.le_of_ble_eq_true rfl)⟩ (fun _ _ _ _ _ _ h => h.elim) (fun v9 LL1 H locs hp hw => ?_)
    obtain ⟨rfl, rfl⟩ := hp
    have hw : Wd D A s.heap _ _ [[ob x 3 [.int 1, .ref (L 0), .ref (L 1), .ref (L 2), .ref (L 3), .ref (L 4), .ref (L 5), .int (sc 0), .int (bz (sc 1)), .int (sc 2), .int (sc 3), .int (sc 4), .int (sc 5), .int (sc 6)]], [((L 2), aR dT 4 6 (fun i => (ads mt)[i]?))], (mt.flatMap mtE)] := hw
    refine W.eq (g2 := F0 m 9 ls [.int 1]) rfl ?_
    refine lv_if_ne (tgt := 36) hx hb dX4_feed_9 (by decide) (fun _ => ?_) (fun c9 => absurd c9 (by decide))
    refine lv_iconst (v := 0) hx hb dX4_feed_36 (by decide) ?_
    have hw : Wd D A s.heap _ _ [[ob x 3 [.int 1, .ref (L 0), .ref (L 1), .ref (L 2), .ref (L 3), .ref (L 4), .ref (L 5), .int (sc 0), .int (bz (sc 1)), .int (sc 2), .int (sc 3), .int (sc 4), .int (sc 5), .int (sc 6)]], [((L 2), aR dT 4 6 (fun i => (ads mt)[i]?))], (mt.flatMap mtE)] := Wd.take hw [0, 0, 0] rfl rfl
    exact xr_iret hf hr hlocks hw (Nat.le_of_ble_eq_true rfl) (Nat.le_of_ble_eq_true rfl) (Or.inl ⟨(by first | (simp only [f_2, true_or, or_true, false_or, or_false, not_true_eq_false, not_false_eq_true, and_true, true_and, and_self]; done) | (simp only [← Int32.not_le, f_2, true_or, or_true, false_or, or_false, not_true_eq_false, not_false_eq_true, and_true, true_and, and_self]; done)), rfl, rfl⟩) dX4_feed_37
  · obtain ⟨kmt_i, qmt_i, hqmt_i, emt_i, hkmt_i⟩ := arr_of 5 hmt (by decide) f_2
    refine xc_S (rest := [.ref x]) (As := [.int i]) hf hK hA hAz hst (hw.pick [] rfl rfl rfl) (k_X4_isNoTray_no l D dT g z0 i f_2) (va_cwS 1 hts (lw_S q1353 q1354 q54 q1355) rfl rfl rfl (by decide +kernel) ⟨Nat.le_of_ble_eq_true rfl, Nat.le_of_ble_eq_true rfl⟩) rfl hl.1 rfl (Nat.le_of_ble_eq_true rfl) dX4_feed_2 ⟨(Nat.le_of_ble_eq_true rfl), (Nat.le_of_ble_eq_true rfl)⟩ (fun _ _ _ _ _ _ h => h.elim) (fun v9 LL1 H locs hp hw => ?_)
    obtain ⟨rfl, rfl⟩ := hp
    have hw : Wd D A s.heap _ _ [[ob x 3 [.int th, .ref (L 0), .ref (L 1), .ref (L 2), .ref (L 3), .ref (L 4), .ref (L 5), .int (sc 0), .int (bz (sc 1)), .int (sc 2), .int (sc 3), .int (sc 4), .int (sc 5), .int (sc 6)]], [((L 2), aR dT 4 6 (fun i => (ads mt)[i]?))], (mt.flatMap mtE)] := hw
    refine W.eq (g2 := F0 m 5 ls [.int 0, .ref x]) rfl ?_
    refine lv_iconst (v := 1) hx hb dX4_feed_5 (by decide) ?_
    refine xc_V (rest := []) (As := [.int 0, .int 1]) hf hK hA hAz hst (hw.pick [0] rfl rfl rfl) (k_X4_start_no l D dT g z0 x th (.ref (L 0)) (.ref (L 1)) (.ref (L 2)) (.ref (L 3)) (.ref (L 4)) (.ref (L 5)) (.int (sc 0)) (.int (bz (sc 1))) (.int (sc 2)) (.int (sc 3)) (.int (sc 4)) (.int (sc 5)) (.int (sc 6)) 1) (cwV 2 hts (lw_V q1234 q1236 qs19 q54 q1237) rfl rfl rfl (by decide +kernel) ⟨Nat.le_of_ble_eq_true rfl, Nat.le_of_ble_eq_true rfl⟩) (xr_rv hK hw 0 0 rfl rfl) rfl hl.1 rfl (Nat.le_of_ble_eq_true rfl) dX4_feed_6 ⟨(Nat.le_of_ble_eq_true rfl), (Nat.le_of_ble_eq_true rfl)⟩ (fun _ _ _ _ _ _ h => h.elim) (fun v9 LL1 H locs hp hw => ?_)
    obtain ⟨rfl, rfl⟩ := hp
    have hw : Wd D A s.heap _ _ [[ob x 3 [.int 0, .ref (L 0), .ref (L 1), .ref (L 2), .ref (L 3), .ref (L 4), .ref (L 5), .int (sc 0), .int (bz (sc 1)), .int (sc 2), .int (sc 3), .int (sc 4), .int (sc 5), .int (sc 6)]], [((L 2), aR dT 4 6 (fun i => (ads mt)[i]?))], (mt.flatMap mtE)] := hw
    refine W.eq (g2 := F0 m 9 ls [.int 0]) rfl ?_
    refine lv_if_ne (tgt := 36) hx hb dX4_feed_9 (by decide) (fun c9 => absurd c9 (by decide)) (fun _ => ?_)
    refine lv_aload_n hx hb dX4_feed_12 rfl (lv_at hl 0 rfl) ?_
    refine lv_iload_n hx hb dX4_feed_13 rfl (lv_at hl 2 rfl) ?_
    refine lv_iconst (v := 1) hx hb dX4_feed_14 (by decide) ?_
    refine lv_sipush (v := 999) hx hb dX4_feed_15 (by decide) ?_
    rcases Decidable.em (y < 1 ∨ 999 < y) with f_18 | f_18
    · refine xc_S (rest := [.ref x]) (As := [.int y, .int 1, .int 999]) hf hK hA hAz hst (hw.pick [] rfl rfl rfl) (k_X4_isIn_no l D dT g z0 y 1 999 f_18) (va_cwS 3 hts (lw_S q1231 q1232 q54 q1233) rfl rfl rfl (by decide +kernel) ⟨Nat.le_of_ble_eq_true rfl, Nat.le_of_ble_eq_true rfl⟩) rfl hl.1 rfl (Nat.le_of_ble_eq_true rfl) dX4_feed_18 ⟨(Nat.le_of_ble_eq_true rfl), (Nat.le_of_ble_eq_true rfl)⟩ (fun _ _ _ _ _ _ h => h.elim) (fun v9 LL1 H locs hp hw => ?_)
      obtain ⟨rfl, rfl⟩ := hp
      have hw : Wd D A s.heap _ _ [[ob x 3 [.int 0, .ref (L 0), .ref (L 1), .ref (L 2), .ref (L 3), .ref (L 4), .ref (L 5), .int (sc 0), .int (bz (sc 1)), .int (sc 2), .int (sc 3), .int (sc 4), .int (sc 5), .int (sc 6)]], [((L 2), aR dT 4 6 (fun i => (ads mt)[i]?))], (mt.flatMap mtE)] := hw
      refine W.eq (g2 := F0 m 21 ls [.int 0, .ref x]) rfl ?_
      refine lv_if_ne (tgt := 28) hx hb dX4_feed_21 (by decide) (fun c9 => absurd c9 (by decide)) (fun _ => ?_)
      refine lv_iconst (v := 1) hx hb dX4_feed_24 (by decide) ?_
      refine lv_goto (tgt := 29) hx hb dX4_feed_25 (by decide) ?_
      refine lv_iconst (v := 2) hx hb dX4_feed_29 (by decide) ?_
      refine xc_V (rest := []) (As := [.int 1, .int 2]) hf hK hA hAz hst (hw.pick [0] rfl rfl rfl) (k_X4_refuse_yes l D dT g z0 x (.ref (L 0)) (.ref (L 1)) (.ref (L 2)) (.ref (L 3)) (.ref (L 4)) (.ref (L 5)) (.int (sc 0)) (.int (bz (sc 1))) (.int (sc 2)) (.int (sc 3)) (.int (sc 4)) (.int (sc 5)) (.int (sc 6)) 2 (by decide)) (cwV 2 hts (lw_V q1238 q1240 qs20 q54 q1241) rfl rfl rfl (by decide +kernel) ⟨Nat.le_of_ble_eq_true rfl, Nat.le_of_ble_eq_true rfl⟩) (xr_rv hK hw 0 0 rfl rfl) rfl hl.1 rfl (Nat.le_of_ble_eq_true rfl) dX4_feed_30 ⟨(Nat.le_of_ble_eq_true rfl), (Nat.le_of_ble_eq_true rfl)⟩ (fun _ _ _ _ _ _ h => h.elim) (fun v9 LL1 H locs hp hw => ?_)
      obtain ⟨rfl, rfl⟩ := hp
      have hw : Wd D A s.heap _ _ [[ob x 3 [.int 2, .ref (L 0), .ref (L 1), .ref (L 2), .ref (L 3), .ref (L 4), .ref (L 5), .int (sc 0), .int (bz (sc 1)), .int (sc 2), .int (sc 3), .int (sc 4), .int (sc 5), .int (sc 6)]], [((L 2), aR dT 4 6 (fun i => (ads mt)[i]?))], (mt.flatMap mtE)] := hw
      refine W.eq (g2 := F0 m 33 ls [.int 1]) rfl ?_
      refine lv_if_eq (tgt := 38) hx hb dX4_feed_33 (by decide) (fun c9 => absurd c9 (by decide)) (fun _ => ?_)
      refine lv_iconst (v := 0) hx hb dX4_feed_36 (by decide) ?_
      have hw : Wd D A s.heap _ _ [[ob x 3 [.int 2, .ref (L 0), .ref (L 1), .ref (L 2), .ref (L 3), .ref (L 4), .ref (L 5), .int (sc 0), .int (bz (sc 1)), .int (sc 2), .int (sc 3), .int (sc 4), .int (sc 5), .int (sc 6)]], [((L 2), aR dT 4 6 (fun i => (ads mt)[i]?))], (mt.flatMap mtE)] := Wd.take hw [0, 0, 0] rfl rfl
      exact xr_iret hf hr hlocks hw (Nat.le_of_ble_eq_true rfl) (Nat.le_of_ble_eq_true rfl) (Or.inr (Or.inl ⟨(by first | (simp only [f_2, f_18, true_or, or_true, false_or, or_false, not_true_eq_false, not_false_eq_true, and_true, true_and, and_self]; done) | (simp only [← Int32.not_le, f_2, f_18, true_or, or_true, false_or, or_false, not_true_eq_false, not_false_eq_true, and_true, true_and, and_self]; done)), (by first | (simp only [f_2, f_18, true_or, or_true, false_or, or_false, not_true_eq_false, not_false_eq_true, and_true, true_and, and_self]; done) | (simp only [← Int32.not_le, f_2, f_18, true_or, or_true, false_or, or_false, not_true_eq_false, not_false_eq_true, and_true, true_and, and_self]; done)), rfl, rfl⟩)) dX4_feed_37
    · refine xc_S (rest := [.ref x]) (As := [.int y, .int 1, .int 999]) hf hK hA hAz hst (hw.pick [] rfl rfl rfl) (k_X4_isIn_in l D dT g z0 y 1 999 f_18) (va_cwS 3 hts (lw_S q1231 q1232 q54 q1233) rfl rfl rfl (by decide +kernel) ⟨Nat.le_of_ble_eq_true rfl, Nat.le_of_ble_eq_true rfl⟩) rfl hl.1 rfl (Nat.le_of_ble_eq_true rfl) dX4_feed_18 ⟨(Nat.le_of_ble_eq_true rfl), (Nat.le_of_ble_eq_true rfl)⟩ (fun _ _ _ _ _ _ h => h.elim) (fun v9 LL1 H locs hp hw => ?_)
      obtain ⟨rfl, rfl⟩ := hp
      have hw : Wd D A s.heap _ _ [[ob x 3 [.int 0, .ref (L 0), .ref (L 1), .ref (L 2), .ref (L 3), .ref (L 4), .ref (L 5), .int (sc 0), .int (bz (sc 1)), .int (sc 2), .int (sc 3), .int (sc 4), .int (sc 5), .int (sc 6)]], [((L 2), aR dT 4 6 (fun i => (ads mt)[i]?))], (mt.flatMap mtE)] := hw
      refine W.eq (g2 := F0 m 21 ls [.int 1, .ref x]) rfl ?_
      refine lv_if_ne (tgt := 28) hx hb dX4_feed_21 (by decide) (fun _ => ?_) (fun c9 => absurd c9 (by decide))
      refine lv_iconst (v := 0) hx hb dX4_feed_28 (by decide) ?_
      refine lv_iconst (v := 2) hx hb dX4_feed_29 (by decide) ?_
      refine xc_V (rest := []) (As := [.int 0, .int 2]) hf hK hA hAz hst (hw.pick [0] rfl rfl rfl) (k_X4_refuse_no l D dT g z0 x (.ref (L 0)) (.ref (L 1)) (.ref (L 2)) (.ref (L 3)) (.ref (L 4)) (.ref (L 5)) (.int (sc 0)) (.int (bz (sc 1))) (.int (sc 2)) (.int (sc 3)) (.int (sc 4)) (.int (sc 5)) (.int (sc 6)) 2) (cwV 2 hts (lw_V q1238 q1240 qs20 q54 q1241) rfl rfl rfl (by decide +kernel) ⟨Nat.le_of_ble_eq_true rfl, Nat.le_of_ble_eq_true rfl⟩) (xr_rv hK hw 0 0 rfl rfl) rfl hl.1 rfl (Nat.le_of_ble_eq_true rfl) dX4_feed_30 ⟨(Nat.le_of_ble_eq_true rfl), (Nat.le_of_ble_eq_true rfl)⟩ (fun _ _ _ _ _ _ h => h.elim) (fun v9 LL1 H locs hp hw => ?_)
      obtain ⟨rfl, rfl⟩ := hp
      have hw : Wd D A s.heap _ _ [[ob x 3 [.int 0, .ref (L 0), .ref (L 1), .ref (L 2), .ref (L 3), .ref (L 4), .ref (L 5), .int (sc 0), .int (bz (sc 1)), .int (sc 2), .int (sc 3), .int (sc 4), .int (sc 5), .int (sc 6)]], [((L 2), aR dT 4 6 (fun i => (ads mt)[i]?))], (mt.flatMap mtE)] := hw
      refine W.eq (g2 := F0 m 33 ls [.int 0]) rfl ?_
      refine lv_if_eq (tgt := 38) hx hb dX4_feed_33 (by decide) (fun _ => ?_) (fun c9 => absurd c9 (by decide))
      refine lv_aload_n hx hb dX4_feed_38 rfl (lv_at hl 0 rfl) ?_
      refine xr_get hf hK hw 0 0 rfl rfl in_X4 3 (by decide) q1183 (fun _ h => h) rfl dX4_feed_39 ?_
      refine lv_iload_n hx hb dX4_feed_42 rfl (lv_at hl 1 rfl) ?_
      refine xr_aald (r := (some qmt_i.1)) hf hK hw 1 0 rfl rfl kmt_i (ixp emt_i hkmt_i) (ixc emt_i hkmt_i) (by have := ads_lt hqmt_i; rw [ads_len] at this; omega) (ads_some hqmt_i) dX4_feed_43 ?_
      refine lv_astore_n (lv' := [(3, .ref qmt_i.1), (0, .ref x), (1, .int i), (2, .int y)]) hx hb dX4_feed_44 rfl hl (by decide) rfl (fun ls hl => ?_)
      refine lv_aload_n hx hb dX4_feed_45 rfl (lv_at hl 1 rfl) ?_
      refine lv_aload_n hx hb dX4_feed_46 rfl (lv_at hl 0 rfl) ?_
      have hw : Wd D A s.heap _ _ [(mt.flatMap mtE), [ob x 3 [.int 0, .ref (L 0), .ref (L 1), .ref (L 2), .ref (L 3), .ref (L 4), .ref (L 5), .int (sc 0), .int (bz (sc 1)), .int (sc 2), .int (sc 3), .int (sc 4), .int (sc 5), .int (sc 6)]], [((L 2), aR dT 4 6 (fun i => (ads mt)[i]?))]] := hw.pick [2] rfl rfl rfl
      have hw : Wd D A s.heap _ _ [[ob qmt_i.1 6 [.int (qmt_i.2 0), .int (qmt_i.2 1), .int (qmt_i.2 2), .int (qmt_i.2 3), .int (qmt_i.2 4), .int (qmt_i.2 5), .int (qmt_i.2 6), .int (qmt_i.2 7), .int (qmt_i.2 8), .int (qmt_i.2 9), .int (bz (qmt_i.2 10))]], ((mt.eraseIdx kmt_i).flatMap mtE), [ob x 3 [.int 0, .ref (L 0), .ref (L 1), .ref (L 2), .ref (L 3), .ref (L 4), .ref (L 5), .int (sc 0), .int (bz (sc 1)), .int (sc 2), .int (sc 3), .int (sc 4), .int (sc 5), .int (sc 6)]], [((L 2), aR dT 4 6 (fun i => (ads mt)[i]?))]] := hw.foc hqmt_i
      refine xr_get hf hK hw 0 0 rfl rfl in_X7 0 (by decide) q1136 (fun _ h => h) rfl dX4_feed_47 ?_
      refine lv_if_eq (tgt := 67) hx hb dX4_feed_50 (by decide) (fun c_50 => ?_) (fun c_50 => ?_)
      · refine lv_iconst (v := 1) hx hb dX4_feed_67 (by decide) ?_
        refine lv_goto (tgt := 72) hx hb dX4_feed_68 (by decide) ?_
        refine lv_iconst (v := 3) hx hb dX4_feed_72 (by decide) ?_
        refine xc_V (rest := []) (As := [.int 1, .int 3]) hf hK hA hAz hst (hw.pick [2] rfl rfl rfl) (k_X4_refuse_yes l D dT g z0 x (.ref (L 0)) (.ref (L 1)) (.ref (L 2)) (.ref (L 3)) (.ref (L 4)) (.ref (L 5)) (.int (sc 0)) (.int (bz (sc 1))) (.int (sc 2)) (.int (sc 3)) (.int (sc 4)) (.int (sc 5)) (.int (sc 6)) 3 (by decide)) (cwV 2 hts (lw_V q1238 q1240 qs20 q54 q1241) rfl rfl rfl (by decide +kernel) ⟨Nat.le_of_ble_eq_true rfl, Nat.le_of_ble_eq_true rfl⟩) (xr_rv hK hw 2 0 rfl rfl) rfl hl.1 rfl (Nat.le_of_ble_eq_true rfl) dX4_feed_73 ⟨(Nat.le_of_ble_eq_true rfl), (Nat.le_of_ble_eq_true rfl)⟩ (fun _ _ _ _ _ _ h => h.elim) (fun v9 LL1 H locs hp hw => ?_)
        obtain ⟨rfl, rfl⟩ := hp
        have hw : Wd D A s.heap _ _ [[ob x 3 [.int 3, .ref (L 0), .ref (L 1), .ref (L 2), .ref (L 3), .ref (L 4), .ref (L 5), .int (sc 0), .int (bz (sc 1)), .int (sc 2), .int (sc 3), .int (sc 4), .int (sc 5), .int (sc 6)]], [ob qmt_i.1 6 [.int (qmt_i.2 0), .int (qmt_i.2 1), .int (qmt_i.2 2), .int (qmt_i.2 3), .int (qmt_i.2 4), .int (qmt_i.2 5), .int (qmt_i.2 6), .int (qmt_i.2 7), .int (qmt_i.2 8), .int (qmt_i.2 9), .int (bz (qmt_i.2 10))]], ((mt.eraseIdx kmt_i).flatMap mtE), [((L 2), aR dT 4 6 (fun i => (ads mt)[i]?))]] := hw
        refine W.eq (g2 := F0 m 76 ls [.int 1]) rfl ?_
        refine lv_if_eq (tgt := 81) hx hb dX4_feed_76 (by decide) (fun c9 => absurd c9 (by decide)) (fun _ => ?_)
        refine lv_iconst (v := 0) hx hb dX4_feed_79 (by decide) ?_
        have hw : Wd D A s.heap _ _ [[ob qmt_i.1 6 [.int (qmt_i.2 0), .int (qmt_i.2 1), .int (qmt_i.2 2), .int (qmt_i.2 3), .int (qmt_i.2 4), .int (qmt_i.2 5), .int (qmt_i.2 6), .int (qmt_i.2 7), .int (qmt_i.2 8), .int (qmt_i.2 9), .int (bz (qmt_i.2 10))]], ((mt.eraseIdx kmt_i).flatMap mtE), [ob x 3 [.int 3, .ref (L 0), .ref (L 1), .ref (L 2), .ref (L 3), .ref (L 4), .ref (L 5), .int (sc 0), .int (bz (sc 1)), .int (sc 2), .int (sc 3), .int (sc 4), .int (sc 5), .int (sc 6)]], [((L 2), aR dT 4 6 (fun i => (ads mt)[i]?))]] := hw.pick [1, 1] rfl rfl rfl
        have hw : Wd D A s.heap _ _ [(mt.flatMap mtE), [ob x 3 [.int 3, .ref (L 0), .ref (L 1), .ref (L 2), .ref (L 3), .ref (L 4), .ref (L 5), .int (sc 0), .int (bz (sc 1)), .int (sc 2), .int (sc 3), .int (sc 4), .int (sc 5), .int (sc 6)]], [((L 2), aR dT 4 6 (fun i => (ads mt)[i]?))]] := Wd.unf0 (q := qmt_i) (L := mt) (k := kmt_i) hw hqmt_i
        have hw : Wd D A s.heap _ _ [[ob x 3 [.int 3, .ref (L 0), .ref (L 1), .ref (L 2), .ref (L 3), .ref (L 4), .ref (L 5), .int (sc 0), .int (bz (sc 1)), .int (sc 2), .int (sc 3), .int (sc 4), .int (sc 5), .int (sc 6)]], [((L 2), aR dT 4 6 (fun i => (ads mt)[i]?))], (mt.flatMap mtE)] := Wd.take hw [1, 1, 0] rfl rfl
        exact xr_iret hf hr hlocks hw (Nat.le_of_ble_eq_true rfl) (Nat.le_of_ble_eq_true rfl) (Or.inr (Or.inr (Or.inl ⟨(by first | (simp only [f_2, f_18, c_50, true_or, or_true, false_or, or_false, not_true_eq_false, not_false_eq_true, and_true, true_and, and_self]; done) | (simp only [← Int32.not_le, f_2, f_18, c_50, true_or, or_true, false_or, or_false, not_true_eq_false, not_false_eq_true, and_true, true_and, and_self]; done)), (by first | (simp only [f_2, f_18, c_50, true_or, or_true, false_or, or_false, not_true_eq_false, not_false_eq_true, and_true, true_and, and_self]; done) | (simp only [← Int32.not_le, f_2, f_18, c_50, true_or, or_true, false_or, or_false, not_true_eq_false, not_false_eq_true, and_true, true_and, and_self]; done)), ⟨_, _, hqmt_i, emt_i, (by first | (simp only [f_2, f_18, c_50, true_or, or_true, false_or, or_false, not_true_eq_false, not_false_eq_true, and_true, true_and, and_self]; done) | (simp only [← Int32.not_le, f_2, f_18, c_50, true_or, or_true, false_or, or_false, not_true_eq_false, not_false_eq_true, and_true, true_and, and_self]; done))⟩, rfl, rfl⟩))) dX4_feed_80
      · refine lv_aload_n hx hb dX4_feed_53 rfl (lv_at hl 0 rfl) ?_
        refine xr_get hf hK hw 0 0 rfl rfl in_X7 5 (by decide) q1146 (fun _ h => h) rfl dX4_feed_54 ?_
        refine lv_if_gt (tgt := 67) hx hb dX4_feed_57 (by decide) (fun c_57 => ?_) (fun c_57 => ?_)
        · refine lv_iconst (v := 1) hx hb dX4_feed_67 (by decide) ?_
          refine lv_goto (tgt := 72) hx hb dX4_feed_68 (by decide) ?_
          refine lv_iconst (v := 3) hx hb dX4_feed_72 (by decide) ?_
          refine xc_V (rest := []) (As := [.int 1, .int 3]) hf hK hA hAz hst (hw.pick [2] rfl rfl rfl) (k_X4_refuse_yes l D dT g z0 x (.ref (L 0)) (.ref (L 1)) (.ref (L 2)) (.ref (L 3)) (.ref (L 4)) (.ref (L 5)) (.int (sc 0)) (.int (bz (sc 1))) (.int (sc 2)) (.int (sc 3)) (.int (sc 4)) (.int (sc 5)) (.int (sc 6)) 3 (by decide)) (cwV 2 hts (lw_V q1238 q1240 qs20 q54 q1241) rfl rfl rfl (by decide +kernel) ⟨Nat.le_of_ble_eq_true rfl, Nat.le_of_ble_eq_true rfl⟩) (xr_rv hK hw 2 0 rfl rfl) rfl hl.1 rfl (Nat.le_of_ble_eq_true rfl) dX4_feed_73 ⟨(Nat.le_of_ble_eq_true rfl), (Nat.le_of_ble_eq_true rfl)⟩ (fun _ _ _ _ _ _ h => h.elim) (fun v9 LL1 H locs hp hw => ?_)
          obtain ⟨rfl, rfl⟩ := hp
          have hw : Wd D A s.heap _ _ [[ob x 3 [.int 3, .ref (L 0), .ref (L 1), .ref (L 2), .ref (L 3), .ref (L 4), .ref (L 5), .int (sc 0), .int (bz (sc 1)), .int (sc 2), .int (sc 3), .int (sc 4), .int (sc 5), .int (sc 6)]], [ob qmt_i.1 6 [.int (qmt_i.2 0), .int (qmt_i.2 1), .int (qmt_i.2 2), .int (qmt_i.2 3), .int (qmt_i.2 4), .int (qmt_i.2 5), .int (qmt_i.2 6), .int (qmt_i.2 7), .int (qmt_i.2 8), .int (qmt_i.2 9), .int (bz (qmt_i.2 10))]], ((mt.eraseIdx kmt_i).flatMap mtE), [((L 2), aR dT 4 6 (fun i => (ads mt)[i]?))]] := hw
          refine W.eq (g2 := F0 m 76 ls [.int 1]) rfl ?_
          refine lv_if_eq (tgt := 81) hx hb dX4_feed_76 (by decide) (fun c9 => absurd c9 (by decide)) (fun _ => ?_)
          refine lv_iconst (v := 0) hx hb dX4_feed_79 (by decide) ?_
          have hw : Wd D A s.heap _ _ [[ob qmt_i.1 6 [.int (qmt_i.2 0), .int (qmt_i.2 1), .int (qmt_i.2 2), .int (qmt_i.2 3), .int (qmt_i.2 4), .int (qmt_i.2 5), .int (qmt_i.2 6), .int (qmt_i.2 7), .int (qmt_i.2 8), .int (qmt_i.2 9), .int (bz (qmt_i.2 10))]], ((mt.eraseIdx kmt_i).flatMap mtE), [ob x 3 [.int 3, .ref (L 0), .ref (L 1), .ref (L 2), .ref (L 3), .ref (L 4), .ref (L 5), .int (sc 0), .int (bz (sc 1)), .int (sc 2), .int (sc 3), .int (sc 4), .int (sc 5), .int (sc 6)]], [((L 2), aR dT 4 6 (fun i => (ads mt)[i]?))]] := hw.pick [1, 1] rfl rfl rfl
          have hw : Wd D A s.heap _ _ [(mt.flatMap mtE), [ob x 3 [.int 3, .ref (L 0), .ref (L 1), .ref (L 2), .ref (L 3), .ref (L 4), .ref (L 5), .int (sc 0), .int (bz (sc 1)), .int (sc 2), .int (sc 3), .int (sc 4), .int (sc 5), .int (sc 6)]], [((L 2), aR dT 4 6 (fun i => (ads mt)[i]?))]] := Wd.unf0 (q := qmt_i) (L := mt) (k := kmt_i) hw hqmt_i
          have hw : Wd D A s.heap _ _ [[ob x 3 [.int 3, .ref (L 0), .ref (L 1), .ref (L 2), .ref (L 3), .ref (L 4), .ref (L 5), .int (sc 0), .int (bz (sc 1)), .int (sc 2), .int (sc 3), .int (sc 4), .int (sc 5), .int (sc 6)]], [((L 2), aR dT 4 6 (fun i => (ads mt)[i]?))], (mt.flatMap mtE)] := Wd.take hw [1, 1, 0] rfl rfl
          exact xr_iret hf hr hlocks hw (Nat.le_of_ble_eq_true rfl) (Nat.le_of_ble_eq_true rfl) (Or.inr (Or.inr (Or.inl ⟨(by first | (simp only [f_2, f_18, c_50, c_57, true_or, or_true, false_or, or_false, not_true_eq_false, not_false_eq_true, and_true, true_and, and_self]; done) | (simp only [← Int32.not_le, f_2, f_18, c_50, c_57, true_or, or_true, false_or, or_false, not_true_eq_false, not_false_eq_true, and_true, true_and, and_self]; done)), (by first | (simp only [f_2, f_18, c_50, c_57, true_or, or_true, false_or, or_false, not_true_eq_false, not_false_eq_true, and_true, true_and, and_self]; done) | (simp only [← Int32.not_le, f_2, f_18, c_50, c_57, true_or, or_true, false_or, or_false, not_true_eq_false, not_false_eq_true, and_true, true_and, and_self]; done)), ⟨_, _, hqmt_i, emt_i, (by first | (simp only [f_2, f_18, c_50, c_57, true_or, or_true, false_or, or_false, not_true_eq_false, not_false_eq_true, and_true, true_and, and_self]; done) | (simp only [← Int32.not_le, f_2, f_18, c_50, c_57, true_or, or_true, false_or, or_false, not_true_eq_false, not_false_eq_true, and_true, true_and, and_self]; done))⟩, rfl, rfl⟩))) dX4_feed_80
        · refine lv_aload_n hx hb dX4_feed_60 rfl (lv_at hl 0 rfl) ?_
          refine xr_get hf hK hw 0 0 rfl rfl in_X7 10 (by decide) q1156 (fun _ h => h) rfl dX4_feed_61 ?_
          refine lv_if_eq (tgt := 71) hx hb dX4_feed_64 (by decide) (fun c_64 => ?_) (fun c_64 => ?_)
          · refine lv_iconst (v := 0) hx hb dX4_feed_71 (by decide) ?_
            refine lv_iconst (v := 3) hx hb dX4_feed_72 (by decide) ?_
            refine xc_V (rest := []) (As := [.int 0, .int 3]) hf hK hA hAz hst (hw.pick [2] rfl rfl rfl) (k_X4_refuse_no l D dT g z0 x (.ref (L 0)) (.ref (L 1)) (.ref (L 2)) (.ref (L 3)) (.ref (L 4)) (.ref (L 5)) (.int (sc 0)) (.int (bz (sc 1))) (.int (sc 2)) (.int (sc 3)) (.int (sc 4)) (.int (sc 5)) (.int (sc 6)) 3) (cwV 2 hts (lw_V q1238 q1240 qs20 q54 q1241) rfl rfl rfl (by decide +kernel) ⟨Nat.le_of_ble_eq_true rfl, Nat.le_of_ble_eq_true rfl⟩) (xr_rv hK hw 2 0 rfl rfl) rfl hl.1 rfl (Nat.le_of_ble_eq_true rfl) dX4_feed_73 ⟨(Nat.le_of_ble_eq_true rfl), (Nat.le_of_ble_eq_true rfl)⟩ (fun _ _ _ _ _ _ h => h.elim) (fun v9 LL1 H locs hp hw => ?_)
            obtain ⟨rfl, rfl⟩ := hp
            have hw : Wd D A s.heap _ _ [[ob x 3 [.int 0, .ref (L 0), .ref (L 1), .ref (L 2), .ref (L 3), .ref (L 4), .ref (L 5), .int (sc 0), .int (bz (sc 1)), .int (sc 2), .int (sc 3), .int (sc 4), .int (sc 5), .int (sc 6)]], [ob qmt_i.1 6 [.int (qmt_i.2 0), .int (qmt_i.2 1), .int (qmt_i.2 2), .int (qmt_i.2 3), .int (qmt_i.2 4), .int (qmt_i.2 5), .int (qmt_i.2 6), .int (qmt_i.2 7), .int (qmt_i.2 8), .int (qmt_i.2 9), .int (bz (qmt_i.2 10))]], ((mt.eraseIdx kmt_i).flatMap mtE), [((L 2), aR dT 4 6 (fun i => (ads mt)[i]?))]] := hw
            refine W.eq (g2 := F0 m 76 ls [.int 0]) rfl ?_
            refine lv_if_eq (tgt := 81) hx hb dX4_feed_76 (by decide) (fun _ => ?_) (fun c9 => absurd c9 (by decide))
            refine lv_iload_n hx hb dX4_feed_81 rfl (lv_at hl 3 rfl) ?_
            refine lv_aload_n hx hb dX4_feed_82 rfl (lv_at hl 1 rfl) ?_
            refine xr_get hf hK hw 0 0 rfl rfl in_X4 9 (by decide) q1189 (fun _ h => h) rfl dX4_feed_83 ?_
            refine va_mmin hx hb (by rw [hf.2.2.1]; exact hl.1.symm) hf.2.2.2.1 (hts _ q1316) (hts _ q193) (hts _ q50) (hts _ q194) (Nat.le_of_ble_eq_true rfl) (Nat.le_of_ble_eq_true rfl) (Nat.le_of_ble_eq_true rfl) (Nat.le_of_ble_eq_true rfl) dX4_feed_86 ?_
            refine lv_as (y := imin y (sc 2)) rfl ?_
            refine lv_istore (lv' := [(4, .int (imin y (sc 2))), (3, .ref qmt_i.1), (0, .ref x), (1, .int i), (2, .int y)]) hx hb dX4_feed_89 hl (by decide) rfl (fun ls hl => ?_)
            refine lv_iload hx hb dX4_feed_91 (lv_at hl 0 rfl) ?_
            refine lv_aload_n hx hb dX4_feed_93 rfl (lv_at hl 2 rfl) ?_
            refine xr_get hf hK hw 0 0 rfl rfl in_X4 10 (by decide) q1190 (fun _ h => h) rfl dX4_feed_94 ?_
            refine va_mmin hx hb (by rw [hf.2.2.1]; exact hl.1.symm) hf.2.2.2.1 (hts _ q1316) (hts _ q193) (hts _ q50) (hts _ q194) (Nat.le_of_ble_eq_true rfl) (Nat.le_of_ble_eq_true rfl) (Nat.le_of_ble_eq_true rfl) (Nat.le_of_ble_eq_true rfl) dX4_feed_97 ?_
            refine lv_as (y := imin (imin y (sc 2)) (sc 3)) rfl ?_
            refine lv_istore (lv' := [(5, .int (imin (imin y (sc 2)) (sc 3))), (4, .int (imin y (sc 2))), (3, .ref qmt_i.1), (0, .ref x), (1, .int i), (2, .int y)]) hx hb dX4_feed_100 hl (by decide) rfl (fun ls hl => ?_)
            refine lv_aload_n hx hb dX4_feed_102 rfl (lv_at hl 3 rfl) ?_
            refine lv_dup hx hb dX4_feed_103 rfl ?_
            refine xr_get hf hK hw 0 0 rfl rfl in_X4 9 (by decide) q1189 (fun _ h => h) rfl dX4_feed_104 ?_
            refine lv_iload hx hb dX4_feed_107 (lv_at hl 1 rfl) ?_
            refine lv_isub hx hb dX4_feed_109 ?_
            refine xr_put (LL' := [[ob x 3 [.int 0, .ref (L 0), .ref (L 1), .ref (L 2), .ref (L 3), .ref (L 4), .ref (L 5), .int (sc 0), .int (bz (sc 1)), .int ((sc 2) - (imin y (sc 2))), .int (sc 3), .int (sc 4), .int (sc 5), .int (sc 6)]], [ob qmt_i.1 6 [.int (qmt_i.2 0), .int (qmt_i.2 1), .int (qmt_i.2 2), .int (qmt_i.2 3), .int (qmt_i.2 4), .int (qmt_i.2 5), .int (qmt_i.2 6), .int (qmt_i.2 7), .int (qmt_i.2 8), .int (qmt_i.2 9), .int (bz (qmt_i.2 10))]], ((mt.eraseIdx kmt_i).flatMap mtE), [((L 2), aR dT 4 6 (fun i => (ads mt)[i]?))]]) hf hK hw 0 0 rfl rfl in_X4 tyX4_ok nmX4 9 (by decide) q1189 (fun _ h => h) rfl rfl rfl (Nat.le_of_ble_eq_true rfl) rfl dX4_feed_110 (fun H locs hw => ?_)
            refine lv_aload_n hx hb dX4_feed_113 rfl (lv_at hl 3 rfl) ?_
            refine lv_dup hx hb dX4_feed_114 rfl ?_
            refine xr_get hf hK hw 0 0 rfl rfl in_X4 10 (by decide) q1190 (fun _ h => h) rfl dX4_feed_115 ?_
            refine lv_iload hx hb dX4_feed_118 (lv_at hl 0 rfl) ?_
            refine lv_isub hx hb dX4_feed_120 ?_
            refine xr_put (LL' := [[ob x 3 [.int 0, .ref (L 0), .ref (L 1), .ref (L 2), .ref (L 3), .ref (L 4), .ref (L 5), .int (sc 0), .int (bz (sc 1)), .int ((sc 2) - (imin y (sc 2))), .int ((sc 3) - (imin (imin y (sc 2)) (sc 3))), .int (sc 4), .int (sc 5), .int (sc 6)]], [ob qmt_i.1 6 [.int (qmt_i.2 0), .int (qmt_i.2 1), .int (qmt_i.2 2), .int (qmt_i.2 3), .int (qmt_i.2 4), .int (qmt_i.2 5), .int (qmt_i.2 6), .int (qmt_i.2 7), .int (qmt_i.2 8), .int (qmt_i.2 9), .int (bz (qmt_i.2 10))]], ((mt.eraseIdx kmt_i).flatMap mtE), [((L 2), aR dT 4 6 (fun i => (ads mt)[i]?))]]) hf hK hw 0 0 rfl rfl in_X4 tyX4_ok nmX4 10 (by decide) q1190 (fun _ h => h) rfl rfl rfl (Nat.le_of_ble_eq_true rfl) rfl dX4_feed_121 (fun H locs hw => ?_)
            refine lv_aload_n hx hb dX4_feed_124 rfl (lv_at hl 2 rfl) ?_
            refine lv_dup hx hb dX4_feed_125 rfl ?_
            refine xr_get hf hK hw 1 0 rfl rfl in_X7 8 (by decide) q1152 (fun _ h => h) rfl dX4_feed_126 ?_
            refine lv_iload hx hb dX4_feed_129 (lv_at hl 1 rfl) ?_
            refine lv_iadd hx hb dX4_feed_131 ?_
            refine xr_put (LL' := [[ob x 3 [.int 0, .ref (L 0), .ref (L 1), .ref (L 2), .ref (L 3), .ref (L 4), .ref (L 5), .int (sc 0), .int (bz (sc 1)), .int ((sc 2) - (imin y (sc 2))), .int ((sc 3) - (imin (imin y (sc 2)) (sc 3))), .int (sc 4), .int (sc 5), .int (sc 6)]], [ob qmt_i.1 6 [.int (qmt_i.2 0), .int (qmt_i.2 1), .int (qmt_i.2 2), .int (qmt_i.2 3), .int (qmt_i.2 4), .int (qmt_i.2 5), .int (qmt_i.2 6), .int (qmt_i.2 7), .int (qmt_i.2 8 + (imin y (sc 2))), .int (qmt_i.2 9), .int (bz (qmt_i.2 10))]], ((mt.eraseIdx kmt_i).flatMap mtE), [((L 2), aR dT 4 6 (fun i => (ads mt)[i]?))]]) hf hK hw 1 0 rfl rfl in_X7 tyX7_ok nmX7 8 (by decide) q1152 (fun _ h => h) rfl rfl rfl (Nat.le_of_ble_eq_true rfl) rfl dX4_feed_132 (fun H locs hw => ?_)
            refine lv_aload_n hx hb dX4_feed_135 rfl (lv_at hl 2 rfl) ?_
            refine lv_dup hx hb dX4_feed_136 rfl ?_
            refine xr_get hf hK hw 1 0 rfl rfl in_X7 9 (by decide) q1154 (fun _ h => h) rfl dX4_feed_137 ?_
            refine lv_iload hx hb dX4_feed_140 (lv_at hl 0 rfl) ?_
            refine lv_iadd hx hb dX4_feed_142 ?_
            refine xr_put (LL' := [[ob x 3 [.int 0, .ref (L 0), .ref (L 1), .ref (L 2), .ref (L 3), .ref (L 4), .ref (L 5), .int (sc 0), .int (bz (sc 1)), .int ((sc 2) - (imin y (sc 2))), .int ((sc 3) - (imin (imin y (sc 2)) (sc 3))), .int (sc 4), .int (sc 5), .int (sc 6)]], [ob qmt_i.1 6 [.int (qmt_i.2 0), .int (qmt_i.2 1), .int (qmt_i.2 2), .int (qmt_i.2 3), .int (qmt_i.2 4), .int (qmt_i.2 5), .int (qmt_i.2 6), .int (qmt_i.2 7), .int (qmt_i.2 8 + (imin y (sc 2))), .int (qmt_i.2 9 + (imin (imin y (sc 2)) (sc 3))), .int (bz (qmt_i.2 10))]], ((mt.eraseIdx kmt_i).flatMap mtE), [((L 2), aR dT 4 6 (fun i => (ads mt)[i]?))]]) hf hK hw 1 0 rfl rfl in_X7 tyX7_ok nmX7 9 (by decide) q1154 (fun _ h => h) rfl rfl rfl (Nat.le_of_ble_eq_true rfl) rfl dX4_feed_143 (fun H locs hw => ?_)
            refine lv_iload hx hb dX4_feed_146 (lv_at hl 1 rfl) ?_
            have hw : Wd D A s.heap _ _ [[ob qmt_i.1 6 [.int (qmt_i.2 0), .int (qmt_i.2 1), .int (qmt_i.2 2), .int (qmt_i.2 3), .int (qmt_i.2 4), .int (qmt_i.2 5), .int (qmt_i.2 6), .int (qmt_i.2 7), .int (qmt_i.2 8 + (imin y (sc 2))), .int (qmt_i.2 9 + (imin (imin y (sc 2)) (sc 3))), .int (bz (qmt_i.2 10))]], ((mt.eraseIdx kmt_i).flatMap mtE), [ob x 3 [.int 0, .ref (L 0), .ref (L 1), .ref (L 2), .ref (L 3), .ref (L 4), .ref (L 5), .int (sc 0), .int (bz (sc 1)), .int ((sc 2) - (imin y (sc 2))), .int ((sc 3) - (imin (imin y (sc 2)) (sc 3))), .int (sc 4), .int (sc 5), .int (sc 6)]], [((L 2), aR dT 4 6 (fun i => (ads mt)[i]?))]] := hw.pick [1, 1] rfl rfl rfl
            have hw : Wd D A s.heap _ _ [((mt.set kmt_i (qmt_i.1, (vec [qmt_i.2 0, qmt_i.2 1, qmt_i.2 2, qmt_i.2 3, qmt_i.2 4, qmt_i.2 5, qmt_i.2 6, qmt_i.2 7, (qmt_i.2 8 + (imin y (sc 2))), (qmt_i.2 9 + (imin (imin y (sc 2)) (sc 3))), qmt_i.2 10]))).flatMap mtE), [ob x 3 [.int 0, .ref (L 0), .ref (L 1), .ref (L 2), .ref (L 3), .ref (L 4), .ref (L 5), .int (sc 0), .int (bz (sc 1)), .int ((sc 2) - (imin y (sc 2))), .int ((sc 3) - (imin (imin y (sc 2)) (sc 3))), .int (sc 4), .int (sc 5), .int (sc 6)]], [((L 2), aR dT 4 6 (fun i => (ads mt)[i]?))]] := Wd.unf (q' := (qmt_i.1, (vec [qmt_i.2 0, qmt_i.2 1, qmt_i.2 2, qmt_i.2 3, qmt_i.2 4, qmt_i.2 5, qmt_i.2 6, qmt_i.2 7, (qmt_i.2 8 + (imin y (sc 2))), (qmt_i.2 9 + (imin (imin y (sc 2)) (sc 3))), qmt_i.2 10]))) (L := mt) (k := kmt_i) hw hqmt_i
            have hw : Wd D A s.heap _ _ [[ob x 3 [.int 0, .ref (L 0), .ref (L 1), .ref (L 2), .ref (L 3), .ref (L 4), .ref (L 5), .int (sc 0), .int (bz (sc 1)), .int ((sc 2) - (imin y (sc 2))), .int ((sc 3) - (imin (imin y (sc 2)) (sc 3))), .int (sc 4), .int (sc 5), .int (sc 6)]], [((L 2), aR dT 4 6 (fun i => (ads mt)[i]?))], ((mt.set kmt_i (qmt_i.1, (vec [qmt_i.2 0, qmt_i.2 1, qmt_i.2 2, qmt_i.2 3, qmt_i.2 4, qmt_i.2 5, qmt_i.2 6, qmt_i.2 7, (qmt_i.2 8 + (imin y (sc 2))), (qmt_i.2 9 + (imin (imin y (sc 2)) (sc 3))), qmt_i.2 10]))).flatMap mtE)] := Wd.take hw [1, 1, 0] rfl rfl
            exact xr_iret hf hr hlocks hw (Nat.le_of_ble_eq_true rfl) (Nat.le_of_ble_eq_true rfl) (Or.inr (Or.inr (Or.inr ⟨kmt_i, qmt_i, (by first | (simp only [f_2, f_18, c_50, c_57, c_64, true_or, or_true, false_or, or_false, not_true_eq_false, not_false_eq_true, and_true, true_and, and_self]; done) | (simp only [← Int32.not_le, f_2, f_18, c_50, c_57, c_64, true_or, or_true, false_or, or_false, not_true_eq_false, not_false_eq_true, and_true, true_and, and_self]; done)), (by first | (simp only [f_2, f_18, c_50, c_57, c_64, true_or, or_true, false_or, or_false, not_true_eq_false, not_false_eq_true, and_true, true_and, and_self]; done) | (simp only [← Int32.not_le, f_2, f_18, c_50, c_57, c_64, true_or, or_true, false_or, or_false, not_true_eq_false, not_false_eq_true, and_true, true_and, and_self]; done)), ⟨hqmt_i, emt_i, (by first | (simp only [f_2, f_18, c_50, c_57, c_64, true_or, or_true, false_or, or_false, not_true_eq_false, not_false_eq_true, and_true, true_and, and_self]; done) | (simp only [← Int32.not_le, f_2, f_18, c_50, c_57, c_64, true_or, or_true, false_or, or_false, not_true_eq_false, not_false_eq_true, and_true, true_and, and_self]; done)), (by first | (simp only [f_2, f_18, c_50, c_57, c_64, true_or, or_true, false_or, or_false, not_true_eq_false, not_false_eq_true, and_true, true_and, and_self]; done) | (simp only [← Int32.not_le, f_2, f_18, c_50, c_57, c_64, true_or, or_true, false_or, or_false, not_true_eq_false, not_false_eq_true, and_true, true_and, and_self]; done)), (by first | (simp only [f_2, f_18, c_50, c_57, c_64, true_or, or_true, false_or, or_false, not_true_eq_false, not_false_eq_true, and_true, true_and, and_self]; done) | (simp only [← Int32.not_le, f_2, f_18, c_50, c_57, c_64, true_or, or_true, false_or, or_false, not_true_eq_false, not_false_eq_true, and_true, true_and, and_self]; done))⟩, rfl, rfl⟩))) dX4_feed_148
          · refine lv_iconst (v := 1) hx hb dX4_feed_67 (by decide) ?_
            refine lv_goto (tgt := 72) hx hb dX4_feed_68 (by decide) ?_
            refine lv_iconst (v := 3) hx hb dX4_feed_72 (by decide) ?_
            refine xc_V (rest := []) (As := [.int 1, .int 3]) hf hK hA hAz hst (hw.pick [2] rfl rfl rfl) (k_X4_refuse_yes l D dT g z0 x (.ref (L 0)) (.ref (L 1)) (.ref (L 2)) (.ref (L 3)) (.ref (L 4)) (.ref (L 5)) (.int (sc 0)) (.int (bz (sc 1))) (.int (sc 2)) (.int (sc 3)) (.int (sc 4)) (.int (sc 5)) (.int (sc 6)) 3 (by decide)) (cwV 2 hts (lw_V q1238 q1240 qs20 q54 q1241) rfl rfl rfl (by decide +kernel) ⟨Nat.le_of_ble_eq_true rfl, Nat.le_of_ble_eq_true rfl⟩) (xr_rv hK hw 2 0 rfl rfl) rfl hl.1 rfl (Nat.le_of_ble_eq_true rfl) dX4_feed_73 ⟨(Nat.le_of_ble_eq_true rfl), (Nat.le_of_ble_eq_true rfl)⟩ (fun _ _ _ _ _ _ h => h.elim) (fun v9 LL1 H locs hp hw => ?_)
            obtain ⟨rfl, rfl⟩ := hp
            have hw : Wd D A s.heap _ _ [[ob x 3 [.int 3, .ref (L 0), .ref (L 1), .ref (L 2), .ref (L 3), .ref (L 4), .ref (L 5), .int (sc 0), .int (bz (sc 1)), .int (sc 2), .int (sc 3), .int (sc 4), .int (sc 5), .int (sc 6)]], [ob qmt_i.1 6 [.int (qmt_i.2 0), .int (qmt_i.2 1), .int (qmt_i.2 2), .int (qmt_i.2 3), .int (qmt_i.2 4), .int (qmt_i.2 5), .int (qmt_i.2 6), .int (qmt_i.2 7), .int (qmt_i.2 8), .int (qmt_i.2 9), .int (bz (qmt_i.2 10))]], ((mt.eraseIdx kmt_i).flatMap mtE), [((L 2), aR dT 4 6 (fun i => (ads mt)[i]?))]] := hw
            refine W.eq (g2 := F0 m 76 ls [.int 1]) rfl ?_
            refine lv_if_eq (tgt := 81) hx hb dX4_feed_76 (by decide) (fun c9 => absurd c9 (by decide)) (fun _ => ?_)
            refine lv_iconst (v := 0) hx hb dX4_feed_79 (by decide) ?_
            have hw : Wd D A s.heap _ _ [[ob qmt_i.1 6 [.int (qmt_i.2 0), .int (qmt_i.2 1), .int (qmt_i.2 2), .int (qmt_i.2 3), .int (qmt_i.2 4), .int (qmt_i.2 5), .int (qmt_i.2 6), .int (qmt_i.2 7), .int (qmt_i.2 8), .int (qmt_i.2 9), .int (bz (qmt_i.2 10))]], ((mt.eraseIdx kmt_i).flatMap mtE), [ob x 3 [.int 3, .ref (L 0), .ref (L 1), .ref (L 2), .ref (L 3), .ref (L 4), .ref (L 5), .int (sc 0), .int (bz (sc 1)), .int (sc 2), .int (sc 3), .int (sc 4), .int (sc 5), .int (sc 6)]], [((L 2), aR dT 4 6 (fun i => (ads mt)[i]?))]] := hw.pick [1, 1] rfl rfl rfl
            have hw : Wd D A s.heap _ _ [(mt.flatMap mtE), [ob x 3 [.int 3, .ref (L 0), .ref (L 1), .ref (L 2), .ref (L 3), .ref (L 4), .ref (L 5), .int (sc 0), .int (bz (sc 1)), .int (sc 2), .int (sc 3), .int (sc 4), .int (sc 5), .int (sc 6)]], [((L 2), aR dT 4 6 (fun i => (ads mt)[i]?))]] := Wd.unf0 (q := qmt_i) (L := mt) (k := kmt_i) hw hqmt_i
            have hw : Wd D A s.heap _ _ [[ob x 3 [.int 3, .ref (L 0), .ref (L 1), .ref (L 2), .ref (L 3), .ref (L 4), .ref (L 5), .int (sc 0), .int (bz (sc 1)), .int (sc 2), .int (sc 3), .int (sc 4), .int (sc 5), .int (sc 6)]], [((L 2), aR dT 4 6 (fun i => (ads mt)[i]?))], (mt.flatMap mtE)] := Wd.take hw [1, 1, 0] rfl rfl
            exact xr_iret hf hr hlocks hw (Nat.le_of_ble_eq_true rfl) (Nat.le_of_ble_eq_true rfl) (Or.inr (Or.inr (Or.inl ⟨(by first | (simp only [f_2, f_18, c_50, c_57, c_64, true_or, or_true, false_or, or_false, not_true_eq_false, not_false_eq_true, and_true, true_and, and_self]; done) | (simp only [← Int32.not_le, f_2, f_18, c_50, c_57, c_64, true_or, or_true, false_or, or_false, not_true_eq_false, not_false_eq_true, and_true, true_and, and_self]; done)), (by first | (simp only [f_2, f_18, c_50, c_57, c_64, true_or, or_true, false_or, or_false, not_true_eq_false, not_false_eq_true, and_true, true_and, and_self]; done) | (simp only [← Int32.not_le, f_2, f_18, c_50, c_57, c_64, true_or, or_true, false_or, or_false, not_true_eq_false, not_false_eq_true, and_true, true_and, and_self]; done)), ⟨_, _, hqmt_i, emt_i, (by first | (simp only [f_2, f_18, c_50, c_57, c_64, true_or, or_true, false_or, or_false, not_true_eq_false, not_false_eq_true, and_true, true_and, and_self]; done) | (simp only [← Int32.not_le, f_2, f_18, c_50, c_57, c_64, true_or, or_true, false_or, or_false, not_true_eq_false, not_false_eq_true, and_true, true_and, and_self]; done))⟩, rfl, rfl⟩))) dX4_feed_80

