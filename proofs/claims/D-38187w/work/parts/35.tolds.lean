/-! 35.tolds (printed by gen/silk.py) -/
set_option maxRecDepth 100000
set_option maxHeartbeats 4000000 in
theorem k_X1_told (l : Launch) (D : va_G) (dT g : Nat → Nat) (z0 : Nat) (h0 : Nat) (h1 : Nat) (v : Nat → Int32) (w : Int32) (hin : ¬ (w < 0 ∨ 5 < w)) : Con l D dT g z0 yX1_told (ws_ yX1_told cX1_told 2 (some .int)) ({ frames := 1, cells := 0, slots := 0, locals := 40 }) [.ref h0, .int w] [[ob h0 7 [.int (v 0), .int (v 1), .ref h1], (h1, aI dT [v 2, v 3, v 4, v 5])]] (fun r LL => r = some (.int (pl_told v w)) ∧ LL = [[ob h0 7 [.int (v 0), .int (v 1), .ref h1], (h1, aI dT [v 2, v 3, v 4, v 5])]]) noX 0 0 := by
  refine Con.of (maxL := 2) (ret := (some .int)) (by first | exact plainFor_of_name (by decide) | decide +kernel) (Nat.le_of_ble_eq_true rfl) ?_
  intro p e s m args below meth c A ls hf hr hlocks hnm hno hK hA hAz hw hl hst
  have hf : CallFix p m c cX1_told 2 s args lw_all "SilkRow" := hf
  have hnm : meth.name = "told" := hnm
  have hx := hf.1
  have hb := hf.2.1
  have hts := hf.2.2.2.2
  have hl : lv_has ls 2 [(0, .ref h0), (1, .int w)] := hl
  have hw : Wd D A s.heap s.heap [] [[ob h0 7 [.int (v 0), .int (v 1), .ref h1], (h1, aI dT [v 2, v 3, v 4, v 5])]] := hw
  refine lv_iload_n hx hb dX1_told_0 rfl (lv_at hl 1 rfl) ?_
  refine lv_if_ne (tgt := 11) hx hb dX1_told_1 (by decide) (fun c_1 => ?_) (fun c_1 => ?_)
  · refine lv_iload_n hx hb dX1_told_11 rfl (lv_at hl 1 rfl) ?_
    refine lv_iconst (v := 1) hx hb dX1_told_12 (by decide) ?_
    refine lv_icmp_ne (tgt := 23) hx hb dX1_told_13 (by decide) (fun c_13 => ?_) (fun c_13 => ?_)
    · refine lv_aload_n hx hb dX1_told_23 rfl (lv_at hl 0 rfl) ?_
      refine xr_getN hf hK hw 0 0 rfl rfl in_X8 2 (by decide) q761 (fun _ h => h) rfl dX1_told_24 ?_
      refine lv_iload_n hx hb dX1_told_27 rfl (lv_at hl 1 rfl) ?_
      refine lv_iconst (v := 2) hx hb dX1_told_28 (by decide) ?_
      refine lv_isub hx hb dX1_told_29 ?_
      refine xr_iald hf hK hw 0 1 rfl (w - 2).toNatClampNeg (pl_ix hin c_1 c_13).1 rfl (pl_ix hin c_1 c_13).2 rfl dX1_told_30 ?_
      exact xr_iret hf hr hlocks hw (Nat.le_of_ble_eq_true rfl) (Nat.le_of_ble_eq_true rfl) ⟨congrArg (fun z => some (Value.int z)) (Eq.symm (by unfold pl_told; exact (inz c_1 (inz c_13 rfl)))), rfl⟩ dX1_told_31
    · refine lv_aload_n hx hb dX1_told_16 rfl (lv_at hl 0 rfl) ?_
      refine xr_getN hf hK hw 0 0 rfl rfl in_X8 1 (by decide) q759 (fun _ h => h) rfl dX1_told_17 ?_
      refine lv_goto (tgt := 31) hx hb dX1_told_20 (by decide) ?_
      exact xr_iret hf hr hlocks hw (Nat.le_of_ble_eq_true rfl) (Nat.le_of_ble_eq_true rfl) ⟨congrArg (fun z => some (Value.int z)) (Eq.symm (by unfold pl_told; exact (inz c_1 (dnr c_13 rfl)))), rfl⟩ dX1_told_31
  · refine lv_aload_n hx hb dX1_told_4 rfl (lv_at hl 0 rfl) ?_
    refine xr_getN hf hK hw 0 0 rfl rfl in_X8 0 (by decide) q757 (fun _ h => h) rfl dX1_told_5 ?_
    refine lv_goto (tgt := 31) hx hb dX1_told_8 (by decide) ?_
    exact xr_iret hf hr hlocks hw (Nat.le_of_ble_eq_true rfl) (Nat.le_of_ble_eq_true rfl) ⟨congrArg (fun z => some (Value.int z)) (Eq.symm (by unfold pl_told; exact (dnr c_1 rfl))), rfl⟩ dX1_told_31

set_option maxHeartbeats 4000000 in
theorem k_X1_told_2 (l : Launch) (D : va_G) (dT g : Nat → Nat) (z0 : Nat) (h0 : Nat) (v : Nat → Int32) (w : Int32) (hin : ¬ (w < 0 ∨ 2 < w)) : Con l D dT g z0 yX1_told_2 (ws_ yX1_told_2 cX1_told_2 2 (some .int)) ({ frames := 1, cells := 0, slots := 0, locals := 40 }) [.ref h0, .int w] [[ob h0 1 [.int (v 0), .int (v 1), .int (v 2)]]] (fun r LL => r = some (.int (ln_told v w)) ∧ LL = [[ob h0 1 [.int (v 0), .int (v 1), .int (v 2)]]]) noX 0 0 := by
  refine Con.of (maxL := 2) (ret := (some .int)) (by first | exact plainFor_of_name (by decide) | decide +kernel) (Nat.le_of_ble_eq_true rfl) ?_
  intro p e s m args below meth c A ls hf hr hlocks hnm hno hK hA hAz hw hl hst
  have hf : CallFix p m c cX1_told_2 2 s args lw_all "SilkRow" := hf
  have hnm : meth.name = "told" := hnm
  have hx := hf.1
  have hb := hf.2.1
  have hts := hf.2.2.2.2
  have hl : lv_has ls 2 [(0, .ref h0), (1, .int w)] := hl
  have hw : Wd D A s.heap s.heap [] [[ob h0 1 [.int (v 0), .int (v 1), .int (v 2)]]] := hw
  refine lv_iload_n hx hb dX1_told_2_0 rfl (lv_at hl 1 rfl) ?_
  refine lv_if_ne (tgt := 11) hx hb dX1_told_2_1 (by decide) (fun c_1 => ?_) (fun c_1 => ?_)
  · refine lv_iload_n hx hb dX1_told_2_11 rfl (lv_at hl 1 rfl) ?_
    refine lv_iconst (v := 1) hx hb dX1_told_2_12 (by decide) ?_
    refine lv_icmp_ne (tgt := 23) hx hb dX1_told_2_13 (by decide) (fun c_13 => ?_) (fun c_13 => ?_)
    · refine lv_aload_n hx hb dX1_told_2_23 rfl (lv_at hl 0 rfl) ?_
      refine xr_getN hf hK hw 0 0 rfl rfl in_X2 2 (by decide) q124 (fun _ h => h) rfl dX1_told_2_24 ?_
      exact xr_iret hf hr hlocks hw (Nat.le_of_ble_eq_true rfl) (Nat.le_of_ble_eq_true rfl) ⟨congrArg (fun z => some (Value.int z)) (Eq.symm (by unfold ln_told; exact (inz c_1 (inz c_13 rfl)))), rfl⟩ dX1_told_2_27
    · refine lv_aload_n hx hb dX1_told_2_16 rfl (lv_at hl 0 rfl) ?_
      refine xr_getN hf hK hw 0 0 rfl rfl in_X2 1 (by decide) q123 (fun _ h => h) rfl dX1_told_2_17 ?_
      refine lv_goto (tgt := 27) hx hb dX1_told_2_20 (by decide) ?_
      exact xr_iret hf hr hlocks hw (Nat.le_of_ble_eq_true rfl) (Nat.le_of_ble_eq_true rfl) ⟨congrArg (fun z => some (Value.int z)) (Eq.symm (by unfold ln_told; exact (inz c_1 (dnr c_13 rfl)))), rfl⟩ dX1_told_2_27
  · refine lv_aload_n hx hb dX1_told_2_4 rfl (lv_at hl 0 rfl) ?_
    refine xr_getN hf hK hw 0 0 rfl rfl in_X2 0 (by decide) q121 (fun _ h => h) rfl dX1_told_2_5 ?_
    refine lv_goto (tgt := 27) hx hb dX1_told_2_8 (by decide) ?_
    exact xr_iret hf hr hlocks hw (Nat.le_of_ble_eq_true rfl) (Nat.le_of_ble_eq_true rfl) ⟨congrArg (fun z => some (Value.int z)) (Eq.symm (by unfold ln_told; exact (dnr c_1 rfl))), rfl⟩ dX1_told_2_27

set_option maxHeartbeats 4000000 in
theorem k_X1_told_3 (l : Launch) (D : va_G) (dT g : Nat → Nat) (z0 : Nat) (h0 : Nat) (v : Nat → Int32) (w : Int32) (hin : ¬ (w < 0 ∨ 11 < w)) : Con l D dT g z0 yX1_told_3 (ws_ yX1_told_3 cX1_told_3 3 (some .int)) ({ frames := 3, cells := 1, slots := 12, locals := 81 }) [.ref h0, .int w] [[ob h0 2 [.int (v 0), .int (v 1), .int (v 2), .int (v 3), .int (v 4), .int (v 5), .int (v 6), .int (v 7), .int (v 8), .int (v 9), .int (bz (v 10))]]] (fun r LL => r = some (.int (tr_told v w)) ∧ LL = [[ob h0 2 [.int (v 0), .int (v 1), .int (v 2), .int (v 3), .int (v 4), .int (v 5), .int (v 6), .int (v 7), .int (v 8), .int (v 9), .int (bz (v 10))]]]) noX 1 12 := by
  refine Con.of (maxL := 3) (ret := (some .int)) (by first | exact plainFor_of_name (by decide) | decide +kernel) (Nat.le_of_ble_eq_true rfl) ?_
  intro p e s m args below meth c A ls hf hr hlocks hnm hno hK hA hAz hw hl hst
  have hf : CallFix p m c cX1_told_3 3 s args lw_all "SilkRow" := hf
  have hnm : meth.name = "told" := hnm
  have hx := hf.1
  have hb := hf.2.1
  have hts := hf.2.2.2.2
  have hl : lv_has ls 3 [(0, .ref h0), (1, .int w)] := hl
  have hw : Wd D A s.heap s.heap [] [[ob h0 2 [.int (v 0), .int (v 1), .int (v 2), .int (v 3), .int (v 4), .int (v 5), .int (v 6), .int (v 7), .int (v 8), .int (v 9), .int (bz (v 10))]]] := hw
  refine lv_bipush (v := 12) hx hb dX1_told_3_0 (by decide) ?_
  refine xr_newi hf hK hw hA q463 (N := 12) (by decide) (by decide) (Nat.le_of_ble_eq_true rfl) (Nat.le_of_ble_eq_true rfl) (Nat.le_of_ble_eq_true rfl) dX1_told_3_2 (fun qa1 H hw => ?_)
  have hw : Wd D A s.heap _ _ [[ob h0 2 [.int (v 0), .int (v 1), .int (v 2), .int (v 3), .int (v 4), .int (v 5), .int (v 6), .int (v 7), .int (v 8), .int (v 9), .int (bz (v 10))]], [(qa1, aI dT [0, 0, 0, 0, 0, 0, 0, 0, 0, 0, 0, 0])]] := hw
  refine lv_dup hx hb dX1_told_3_4 rfl ?_
  refine lv_iconst (v := 0) hx hb dX1_told_3_5 (by decide) ?_
  refine lv_aload_n hx hb dX1_told_3_6 rfl (lv_at hl 0 rfl) ?_
  refine xr_getN hf hK hw 0 0 rfl rfl in_X3 0 (by decide) q207 (fun _ h => h) rfl dX1_told_3_7 ?_
  refine xr_iast (LL' := [[ob h0 2 [.int (v 0), .int (v 1), .int (v 2), .int (v 3), .int (v 4), .int (v 5), .int (v 6), .int (v 7), .int (v 8), .int (v 9), .int (bz (v 10))]], [(qa1, aI dT [v 0, 0, 0, 0, 0, 0, 0, 0, 0, 0, 0, 0])]]) hf hK hw 1 0 rfl 0 (by decide) (by decide) (Nat.le_of_ble_eq_true rfl) rfl dX1_told_3_10 (fun H locs hw => ?_)
  refine lv_dup hx hb dX1_told_3_11 rfl ?_
  refine lv_iconst (v := 1) hx hb dX1_told_3_12 (by decide) ?_
  refine lv_aload_n hx hb dX1_told_3_13 rfl (lv_at hl 0 rfl) ?_
  refine xr_getN hf hK hw 0 0 rfl rfl in_X3 1 (by decide) q209 (fun _ h => h) rfl dX1_told_3_14 ?_
  refine xr_iast (LL' := [[ob h0 2 [.int (v 0), .int (v 1), .int (v 2), .int (v 3), .int (v 4), .int (v 5), .int (v 6), .int (v 7), .int (v 8), .int (v 9), .int (bz (v 10))]], [(qa1, aI dT [v 0, v 1, 0, 0, 0, 0, 0, 0, 0, 0, 0, 0])]]) hf hK hw 1 0 rfl 1 (by decide) (by decide) (Nat.le_of_ble_eq_true rfl) rfl dX1_told_3_17 (fun H locs hw => ?_)
  refine lv_dup hx hb dX1_told_3_18 rfl ?_
  refine lv_iconst (v := 2) hx hb dX1_told_3_19 (by decide) ?_
  refine lv_aload_n hx hb dX1_told_3_20 rfl (lv_at hl 0 rfl) ?_
  refine xr_getN hf hK hw 0 0 rfl rfl in_X3 2 (by decide) q211 (fun _ h => h) rfl dX1_told_3_21 ?_
  refine xr_iast (LL' := [[ob h0 2 [.int (v 0), .int (v 1), .int (v 2), .int (v 3), .int (v 4), .int (v 5), .int (v 6), .int (v 7), .int (v 8), .int (v 9), .int (bz (v 10))]], [(qa1, aI dT [v 0, v 1, v 2, 0, 0, 0, 0, 0, 0, 0, 0, 0])]]) hf hK hw 1 0 rfl 2 (by decide) (by decide) (Nat.le_of_ble_eq_true rfl) rfl dX1_told_3_24 (fun H locs hw => ?_)
  refine lv_dup hx hb dX1_told_3_25 rfl ?_
  refine lv_iconst (v := 3) hx hb dX1_told_3_26 (by decide) ?_
  refine lv_aload_n hx hb dX1_told_3_27 rfl (lv_at hl 0 rfl) ?_
  refine xr_getN hf hK hw 0 0 rfl rfl in_X3 3 (by decide) q213 (fun _ h => h) rfl dX1_told_3_28 ?_
  refine xr_iast (LL' := [[ob h0 2 [.int (v 0), .int (v 1), .int (v 2), .int (v 3), .int (v 4), .int (v 5), .int (v 6), .int (v 7), .int (v 8), .int (v 9), .int (bz (v 10))]], [(qa1, aI dT [v 0, v 1, v 2, v 3, 0, 0, 0, 0, 0, 0, 0, 0])]]) hf hK hw 1 0 rfl 3 (by decide) (by decide) (Nat.le_of_ble_eq_true rfl) rfl dX1_told_3_31 (fun H locs hw => ?_)
  refine lv_dup hx hb dX1_told_3_32 rfl ?_
  refine lv_iconst (v := 4) hx hb dX1_told_3_33 (by decide) ?_
  refine lv_aload_n hx hb dX1_told_3_34 rfl (lv_at hl 0 rfl) ?_
  refine xr_getN hf hK hw 0 0 rfl rfl in_X3 4 (by decide) q215 (fun _ h => h) rfl dX1_told_3_35 ?_
  refine xr_iast (LL' := [[ob h0 2 [.int (v 0), .int (v 1), .int (v 2), .int (v 3), .int (v 4), .int (v 5), .int (v 6), .int (v 7), .int (v 8), .int (v 9), .int (bz (v 10))]], [(qa1, aI dT [v 0, v 1, v 2, v 3, v 4, 0, 0, 0, 0, 0, 0, 0])]]) hf hK hw 1 0 rfl 4 (by decide) (by decide) (Nat.le_of_ble_eq_true rfl) rfl dX1_told_3_38 (fun H locs hw => ?_)
  refine lv_dup hx hb dX1_told_3_39 rfl ?_
  refine lv_iconst (v := 5) hx hb dX1_told_3_40 (by decide) ?_
  refine lv_aload_n hx hb dX1_told_3_41 rfl (lv_at hl 0 rfl) ?_
  refine xr_getN hf hK hw 0 0 rfl rfl in_X3 5 (by decide) q217 (fun _ h => h) rfl dX1_told_3_42 ?_
  refine xr_iast (LL' := [[ob h0 2 [.int (v 0), .int (v 1), .int (v 2), .int (v 3), .int (v 4), .int (v 5), .int (v 6), .int (v 7), .int (v 8), .int (v 9), .int (bz (v 10))]], [(qa1, aI dT [v 0, v 1, v 2, v 3, v 4, v 5, 0, 0, 0, 0, 0, 0])]]) hf hK hw 1 0 rfl 5 (by decide) (by decide) (Nat.le_of_ble_eq_true rfl) rfl dX1_told_3_45 (fun H locs hw => ?_)
  refine lv_dup hx hb dX1_told_3_46 rfl ?_
  refine lv_bipush (v := 6) hx hb dX1_told_3_47 (by decide) ?_
  refine lv_aload_n hx hb dX1_told_3_49 rfl (lv_at hl 0 rfl) ?_
  refine xr_getN hf hK hw 0 0 rfl rfl in_X3 6 (by decide) q219 (fun _ h => h) rfl dX1_told_3_50 ?_
  refine xr_iast (LL' := [[ob h0 2 [.int (v 0), .int (v 1), .int (v 2), .int (v 3), .int (v 4), .int (v 5), .int (v 6), .int (v 7), .int (v 8), .int (v 9), .int (bz (v 10))]], [(qa1, aI dT [v 0, v 1, v 2, v 3, v 4, v 5, v 6, 0, 0, 0, 0, 0])]]) hf hK hw 1 0 rfl 6 (by decide) (by decide) (Nat.le_of_ble_eq_true rfl) rfl dX1_told_3_53 (fun H locs hw => ?_)
  refine lv_dup hx hb dX1_told_3_54 rfl ?_
  refine lv_bipush (v := 7) hx hb dX1_told_3_55 (by decide) ?_
  refine lv_aload_n hx hb dX1_told_3_57 rfl (lv_at hl 0 rfl) ?_
  refine xr_getN hf hK hw 0 0 rfl rfl in_X3 7 (by decide) q221 (fun _ h => h) rfl dX1_told_3_58 ?_
  refine xr_iast (LL' := [[ob h0 2 [.int (v 0), .int (v 1), .int (v 2), .int (v 3), .int (v 4), .int (v 5), .int (v 6), .int (v 7), .int (v 8), .int (v 9), .int (bz (v 10))]], [(qa1, aI dT [v 0, v 1, v 2, v 3, v 4, v 5, v 6, v 7, 0, 0, 0, 0])]]) hf hK hw 1 0 rfl 7 (by decide) (by decide) (Nat.le_of_ble_eq_true rfl) rfl dX1_told_3_61 (fun H locs hw => ?_)
  refine lv_dup hx hb dX1_told_3_62 rfl ?_
  refine lv_bipush (v := 8) hx hb dX1_told_3_63 (by decide) ?_
  refine lv_aload_n hx hb dX1_told_3_65 rfl (lv_at hl 0 rfl) ?_
  refine xr_getN hf hK hw 0 0 rfl rfl in_X3 8 (by decide) q223 (fun _ h => h) rfl dX1_told_3_66 ?_
  refine xr_iast (LL' := [[ob h0 2 [.int (v 0), .int (v 1), .int (v 2), .int (v 3), .int (v 4), .int (v 5), .int (v 6), .int (v 7), .int (v 8), .int (v 9), .int (bz (v 10))]], [(qa1, aI dT [v 0, v 1, v 2, v 3, v 4, v 5, v 6, v 7, v 8, 0, 0, 0])]]) hf hK hw 1 0 rfl 8 (by decide) (by decide) (Nat.le_of_ble_eq_true rfl) rfl dX1_told_3_69 (fun H locs hw => ?_)
  refine lv_dup hx hb dX1_told_3_70 rfl ?_
  refine lv_bipush (v := 9) hx hb dX1_told_3_71 (by decide) ?_
  refine lv_aload_n hx hb dX1_told_3_73 rfl (lv_at hl 0 rfl) ?_
  refine xr_getN hf hK hw 0 0 rfl rfl in_X3 9 (by decide) q225 (fun _ h => h) rfl dX1_told_3_74 ?_
  refine xr_iast (LL' := [[ob h0 2 [.int (v 0), .int (v 1), .int (v 2), .int (v 3), .int (v 4), .int (v 5), .int (v 6), .int (v 7), .int (v 8), .int (v 9), .int (bz (v 10))]], [(qa1, aI dT [v 0, v 1, v 2, v 3, v 4, v 5, v 6, v 7, v 8, v 9, 0, 0])]]) hf hK hw 1 0 rfl 9 (by decide) (by decide) (Nat.le_of_ble_eq_true rfl) rfl dX1_told_3_77 (fun H locs hw => ?_)
  refine lv_dup hx hb dX1_told_3_78 rfl ?_
  refine lv_bipush (v := 10) hx hb dX1_told_3_79 (by decide) ?_
  refine lv_aload_n hx hb dX1_told_3_81 rfl (lv_at hl 0 rfl) ?_
  refine xc_V (rest := [.int 10, .ref qa1, .ref qa1]) (As := []) hf hK hA hAz hst (hw.pick [0] rfl rfl rfl) (k_X3_need l D dT g z0 h0 v) (cwV 0 hts (lw_V q376 q377 q378 q53 q379) rfl rfl rfl (by decide +kernel) ⟨Nat.le_of_ble_eq_true rfl, Nat.le_of_ble_eq_true rfl⟩) (xr_rv hK hw 0 0 rfl rfl) rfl hl.1 rfl (Nat.le_of_ble_eq_true rfl) dX1_told_3_82 ⟨(Nat.le_of_ble_eq_true rfl), (Nat.le_of_ble_eq_true rfl)⟩ (fun _ _ _ _ _ _ h => h.elim) (fun v9 LL1 H locs hp hw => ?_)
  rw [fs_X3_need] at hp
  obtain ⟨r2, hr2⟩ : ∃ z, z = f_X3_need v := ⟨_, rfl⟩
  rw [← hr2] at hp
  obtain ⟨rfl, rfl⟩ := hp
  have hw : Wd D A s.heap _ _ [[ob h0 2 [.int (v 0), .int (v 1), .int (v 2), .int (v 3), .int (v 4), .int (v 5), .int (v 6), .int (v 7), .int (v 8), .int (v 9), .int (bz (v 10))]], [(qa1, aI dT [v 0, v 1, v 2, v 3, v 4, v 5, v 6, v 7, v 8, v 9, 0, 0])]] := hw
  refine W.eq (g2 := F0 m 85 ls [.int r2.1, .int 10, .ref qa1, .ref qa1]) rfl ?_
  refine xr_iast (LL' := [[ob h0 2 [.int (v 0), .int (v 1), .int (v 2), .int (v 3), .int (v 4), .int (v 5), .int (v 6), .int (v 7), .int (v 8), .int (v 9), .int (bz (v 10))]], [(qa1, aI dT [v 0, v 1, v 2, v 3, v 4, v 5, v 6, v 7, v 8, v 9, r2.1, 0])]]) hf hK hw 1 0 rfl 10 (by decide) (by decide) (Nat.le_of_ble_eq_true rfl) rfl dX1_told_3_85 (fun H locs hw => ?_)
  refine lv_dup hx hb dX1_told_3_86 rfl ?_
  refine lv_bipush (v := 11) hx hb dX1_told_3_87 (by decide) ?_
  refine lv_aload_n hx hb dX1_told_3_89 rfl (lv_at hl 0 rfl) ?_
  refine xr_getN hf hK hw 0 0 rfl rfl in_X3 10 (by decide) q227 (fun _ h => h) rfl dX1_told_3_90 ?_
  refine xc_S (rest := [.int 11, .ref qa1, .ref qa1]) (As := [.int (bz (v 10))]) hf hK hA hAz hst (hw.pick [] rfl rfl rfl) (k_X1_one l D dT g z0 (v 10)) (va_cwS 1 hts (lw_S q355 q356 q44 q357) rfl rfl rfl (by decide +kernel) ⟨Nat.le_of_ble_eq_true rfl, Nat.le_of_ble_eq_true rfl⟩) rfl hl.1 rfl (Nat.le_of_ble_eq_true rfl) dX1_told_3_93 ⟨(Nat.le_of_ble_eq_true rfl), (Nat.le_of_ble_eq_true rfl)⟩ (fun _ _ _ _ _ _ h => h.elim) (fun v9 LL1 H locs hp hw => ?_)
  obtain ⟨r3, hr3⟩ : ∃ z, z = f_X1_one (v 10) := ⟨_, rfl⟩
  rw [← hr3] at hp
  obtain ⟨rfl, rfl⟩ := hp
  have hw : Wd D A s.heap _ _ [[ob h0 2 [.int (v 0), .int (v 1), .int (v 2), .int (v 3), .int (v 4), .int (v 5), .int (v 6), .int (v 7), .int (v 8), .int (v 9), .int (bz (v 10))]], [(qa1, aI dT [v 0, v 1, v 2, v 3, v 4, v 5, v 6, v 7, v 8, v 9, r2.1, 0])]] := hw
  refine W.eq (g2 := F0 m 96 ls [.int r3, .int 11, .ref qa1, .ref qa1]) rfl ?_
  refine xr_iast (LL' := [[ob h0 2 [.int (v 0), .int (v 1), .int (v 2), .int (v 3), .int (v 4), .int (v 5), .int (v 6), .int (v 7), .int (v 8), .int (v 9), .int (bz (v 10))]], [(qa1, aI dT [v 0, v 1, v 2, v 3, v 4, v 5, v 6, v 7, v 8, v 9, r2.1, r3])]]) hf hK hw 1 0 rfl 11 (by decide) (by decide) (Nat.le_of_ble_eq_true rfl) rfl dX1_told_3_96 (fun H locs hw => ?_)
  refine lv_astore_n (lv' := [(2, .ref qa1), (0, .ref h0), (1, .int w)]) hx hb dX1_told_3_97 rfl hl (by decide) rfl (fun ls hl => ?_)
  refine lv_aload_n hx hb dX1_told_3_98 rfl (lv_at hl 0 rfl) ?_
  refine lv_iload_n hx hb dX1_told_3_99 rfl (lv_at hl 2 rfl) ?_
  refine xr_iald hf hK hw 1 0 rfl w.toNatClampNeg (fun z => hin (Or.inl z)) rfl (ix_nor 11 (by decide) hin) rfl dX1_told_3_100 ?_
  have hw : Wd D A s.heap _ _ [[ob h0 2 [.int (v 0), .int (v 1), .int (v 2), .int (v 3), .int (v 4), .int (v 5), .int (v 6), .int (v 7), .int (v 8), .int (v 9), .int (bz (v 10))]]] := Wd.take hw [0] rfl rfl
  have hwZ := hw
  subst hr3
  subst hr2
  have hw := hwZ
  exact xr_iret hf hr hlocks hw (Nat.le_of_ble_eq_true rfl) (Nat.le_of_ble_eq_true rfl) ⟨congrArg (fun z => some (Value.int z)) (Eq.symm (by unfold tr_told; exact rfl)), rfl⟩ dX1_told_3_101

set_option maxHeartbeats 4000000 in
theorem k_X1_told_4 (l : Launch) (D : va_G) (dT g : Nat → Nat) (z0 : Nat) (h0 : Nat) (h1 : Nat) (h2 : Nat) (v : Nat → Int32) (w : Int32) (hin : ¬ (w < 0 ∨ 8 < w)) : Con l D dT g z0 yX1_told_4 (ws_ yX1_told_4 cX1_told_4 3 (some .int)) ({ frames := 1, cells := 1, slots := 9, locals := 40 }) [.ref h0, .int w] [[ob h0 9 [.int (v 0), .int (v 1), .int (v 2), .ref h1, .ref h2, .int (v 9), .int (v 10)], (h1, aI dT [v 3, v 4, v 5]), (h2, aI dT [v 6, v 7, v 8])]] (fun r LL => r = some (.int (lo_told v w)) ∧ LL = [[ob h0 9 [.int (v 0), .int (v 1), .int (v 2), .ref h1, .ref h2, .int (v 9), .int (v 10)], (h1, aI dT [v 3, v 4, v 5]), (h2, aI dT [v 6, v 7, v 8])]]) noX 1 9 := by
  refine Con.of (maxL := 3) (ret := (some .int)) (by first | exact plainFor_of_name (by decide) | decide +kernel) (Nat.le_of_ble_eq_true rfl) ?_
  intro p e s m args below meth c A ls hf hr hlocks hnm hno hK hA hAz hw hl hst
  have hf : CallFix p m c cX1_told_4 3 s args lw_all "SilkRow" := hf
  have hnm : meth.name = "told" := hnm
  have hx := hf.1
  have hb := hf.2.1
  have hts := hf.2.2.2.2
  have hl : lv_has ls 3 [(0, .ref h0), (1, .int w)] := hl
  have hw : Wd D A s.heap s.heap [] [[ob h0 9 [.int (v 0), .int (v 1), .int (v 2), .ref h1, .ref h2, .int (v 9), .int (v 10)], (h1, aI dT [v 3, v 4, v 5]), (h2, aI dT [v 6, v 7, v 8])]] := hw
  refine lv_bipush (v := 9) hx hb dX1_told_4_0 (by decide) ?_
  refine xr_newi hf hK hw hA q463 (N := 9) (by decide) (by decide) (Nat.le_of_ble_eq_true rfl) (Nat.le_of_ble_eq_true rfl) (Nat.le_of_ble_eq_true rfl) dX1_told_4_2 (fun qa1 H hw => ?_)
  have hw : Wd D A s.heap _ _ [[ob h0 9 [.int (v 0), .int (v 1), .int (v 2), .ref h1, .ref h2, .int (v 9), .int (v 10)], (h1, aI dT [v 3, v 4, v 5]), (h2, aI dT [v 6, v 7, v 8])], [(qa1, aI dT [0, 0, 0, 0, 0, 0, 0, 0, 0])]] := hw
  refine lv_dup hx hb dX1_told_4_4 rfl ?_
  refine lv_iconst (v := 0) hx hb dX1_told_4_5 (by decide) ?_
  refine lv_aload_n hx hb dX1_told_4_6 rfl (lv_at hl 0 rfl) ?_
  refine xr_getN hf hK hw 0 0 rfl rfl in_X10 5 (by decide) q485 (fun _ h => h) rfl dX1_told_4_7 ?_
  refine xr_iast (LL' := [[ob h0 9 [.int (v 0), .int (v 1), .int (v 2), .ref h1, .ref h2, .int (v 9), .int (v 10)], (h1, aI dT [v 3, v 4, v 5]), (h2, aI dT [v 6, v 7, v 8])], [(qa1, aI dT [v 9, 0, 0, 0, 0, 0, 0, 0, 0])]]) hf hK hw 1 0 rfl 0 (by decide) (by decide) (Nat.le_of_ble_eq_true rfl) rfl dX1_told_4_10 (fun H locs hw => ?_)
  refine lv_dup hx hb dX1_told_4_11 rfl ?_
  refine lv_iconst (v := 1) hx hb dX1_told_4_12 (by decide) ?_
  refine lv_aload_n hx hb dX1_told_4_13 rfl (lv_at hl 0 rfl) ?_
  refine xr_getN hf hK hw 0 0 rfl rfl in_X10 0 (by decide) q475 (fun _ h => h) rfl dX1_told_4_14 ?_
  refine xr_iast (LL' := [[ob h0 9 [.int (v 0), .int (v 1), .int (v 2), .ref h1, .ref h2, .int (v 9), .int (v 10)], (h1, aI dT [v 3, v 4, v 5]), (h2, aI dT [v 6, v 7, v 8])], [(qa1, aI dT [v 9, v 0, 0, 0, 0, 0, 0, 0, 0])]]) hf hK hw 1 0 rfl 1 (by decide) (by decide) (Nat.le_of_ble_eq_true rfl) rfl dX1_told_4_17 (fun H locs hw => ?_)
  refine lv_dup hx hb dX1_told_4_18 rfl ?_
  refine lv_iconst (v := 2) hx hb dX1_told_4_19 (by decide) ?_
  refine lv_aload_n hx hb dX1_told_4_20 rfl (lv_at hl 0 rfl) ?_
  refine xr_getN hf hK hw 0 0 rfl rfl in_X10 3 (by decide) q481 (fun _ h => h) rfl dX1_told_4_21 ?_
  refine lv_iconst (v := 0) hx hb dX1_told_4_24 (by decide) ?_
  refine xr_iald hf hK hw 0 1 rfl 0 (by decide) (by decide) (Nat.le_of_ble_eq_true rfl) rfl dX1_told_4_25 ?_
  refine xr_iast (LL' := [[ob h0 9 [.int (v 0), .int (v 1), .int (v 2), .ref h1, .ref h2, .int (v 9), .int (v 10)], (h1, aI dT [v 3, v 4, v 5]), (h2, aI dT [v 6, v 7, v 8])], [(qa1, aI dT [v 9, v 0, v 3, 0, 0, 0, 0, 0, 0])]]) hf hK hw 1 0 rfl 2 (by decide) (by decide) (Nat.le_of_ble_eq_true rfl) rfl dX1_told_4_26 (fun H locs hw => ?_)
  refine lv_dup hx hb dX1_told_4_27 rfl ?_
  refine lv_iconst (v := 3) hx hb dX1_told_4_28 (by decide) ?_
  refine lv_aload_n hx hb dX1_told_4_29 rfl (lv_at hl 0 rfl) ?_
  refine xr_getN hf hK hw 0 0 rfl rfl in_X10 3 (by decide) q481 (fun _ h => h) rfl dX1_told_4_30 ?_
  refine lv_iconst (v := 1) hx hb dX1_told_4_33 (by decide) ?_
  refine xr_iald hf hK hw 0 1 rfl 1 (by decide) (by decide) (Nat.le_of_ble_eq_true rfl) rfl dX1_told_4_34 ?_
  refine xr_iast (LL' := [[ob h0 9 [.int (v 0), .int (v 1), .int (v 2), .ref h1, .ref h2, .int (v 9), .int (v 10)], (h1, aI dT [v 3, v 4, v 5]), (h2, aI dT [v 6, v 7, v 8])], [(qa1, aI dT [v 9, v 0, v 3, v 4, 0, 0, 0, 0, 0])]]) hf hK hw 1 0 rfl 3 (by decide) (by decide) (Nat.le_of_ble_eq_true rfl) rfl dX1_told_4_35 (fun H locs hw => ?_)
  refine lv_dup hx hb dX1_told_4_36 rfl ?_
  refine lv_iconst (v := 4) hx hb dX1_told_4_37 (by decide) ?_
  refine lv_aload_n hx hb dX1_told_4_38 rfl (lv_at hl 0 rfl) ?_
  refine xr_getN hf hK hw 0 0 rfl rfl in_X10 3 (by decide) q481 (fun _ h => h) rfl dX1_told_4_39 ?_
  refine lv_iconst (v := 2) hx hb dX1_told_4_42 (by decide) ?_
  refine xr_iald hf hK hw 0 1 rfl 2 (by decide) (by decide) (Nat.le_of_ble_eq_true rfl) rfl dX1_told_4_43 ?_
  refine xr_iast (LL' := [[ob h0 9 [.int (v 0), .int (v 1), .int (v 2), .ref h1, .ref h2, .int (v 9), .int (v 10)], (h1, aI dT [v 3, v 4, v 5]), (h2, aI dT [v 6, v 7, v 8])], [(qa1, aI dT [v 9, v 0, v 3, v 4, v 5, 0, 0, 0, 0])]]) hf hK hw 1 0 rfl 4 (by decide) (by decide) (Nat.le_of_ble_eq_true rfl) rfl dX1_told_4_44 (fun H locs hw => ?_)
  refine lv_dup hx hb dX1_told_4_45 rfl ?_
  refine lv_iconst (v := 5) hx hb dX1_told_4_46 (by decide) ?_
  refine lv_aload_n hx hb dX1_told_4_47 rfl (lv_at hl 0 rfl) ?_
  refine xr_getN hf hK hw 0 0 rfl rfl in_X10 4 (by decide) q483 (fun _ h => h) rfl dX1_told_4_48 ?_
  refine lv_iconst (v := 0) hx hb dX1_told_4_51 (by decide) ?_
  refine xr_iald hf hK hw 0 2 rfl 0 (by decide) (by decide) (Nat.le_of_ble_eq_true rfl) rfl dX1_told_4_52 ?_
  refine xr_iast (LL' := [[ob h0 9 [.int (v 0), .int (v 1), .int (v 2), .ref h1, .ref h2, .int (v 9), .int (v 10)], (h1, aI dT [v 3, v 4, v 5]), (h2, aI dT [v 6, v 7, v 8])], [(qa1, aI dT [v 9, v 0, v 3, v 4, v 5, v 6, 0, 0, 0])]]) hf hK hw 1 0 rfl 5 (by decide) (by decide) (Nat.le_of_ble_eq_true rfl) rfl dX1_told_4_53 (fun H locs hw => ?_)
  refine lv_dup hx hb dX1_told_4_54 rfl ?_
  refine lv_bipush (v := 6) hx hb dX1_told_4_55 (by decide) ?_
  refine lv_aload_n hx hb dX1_told_4_57 rfl (lv_at hl 0 rfl) ?_
  refine xr_getN hf hK hw 0 0 rfl rfl in_X10 4 (by decide) q483 (fun _ h => h) rfl dX1_told_4_58 ?_
  refine lv_iconst (v := 1) hx hb dX1_told_4_61 (by decide) ?_
  refine xr_iald hf hK hw 0 2 rfl 1 (by decide) (by decide) (Nat.le_of_ble_eq_true rfl) rfl dX1_told_4_62 ?_
  refine xr_iast (LL' := [[ob h0 9 [.int (v 0), .int (v 1), .int (v 2), .ref h1, .ref h2, .int (v 9), .int (v 10)], (h1, aI dT [v 3, v 4, v 5]), (h2, aI dT [v 6, v 7, v 8])], [(qa1, aI dT [v 9, v 0, v 3, v 4, v 5, v 6, v 7, 0, 0])]]) hf hK hw 1 0 rfl 6 (by decide) (by decide) (Nat.le_of_ble_eq_true rfl) rfl dX1_told_4_63 (fun H locs hw => ?_)
  refine lv_dup hx hb dX1_told_4_64 rfl ?_
  refine lv_bipush (v := 7) hx hb dX1_told_4_65 (by decide) ?_
  refine lv_aload_n hx hb dX1_told_4_67 rfl (lv_at hl 0 rfl) ?_
  refine xr_getN hf hK hw 0 0 rfl rfl in_X10 4 (by decide) q483 (fun _ h => h) rfl dX1_told_4_68 ?_
  refine lv_iconst (v := 2) hx hb dX1_told_4_71 (by decide) ?_
  refine xr_iald hf hK hw 0 2 rfl 2 (by decide) (by decide) (Nat.le_of_ble_eq_true rfl) rfl dX1_told_4_72 ?_
  refine xr_iast (LL' := [[ob h0 9 [.int (v 0), .int (v 1), .int (v 2), .ref h1, .ref h2, .int (v 9), .int (v 10)], (h1, aI dT [v 3, v 4, v 5]), (h2, aI dT [v 6, v 7, v 8])], [(qa1, aI dT [v 9, v 0, v 3, v 4, v 5, v 6, v 7, v 8, 0])]]) hf hK hw 1 0 rfl 7 (by decide) (by decide) (Nat.le_of_ble_eq_true rfl) rfl dX1_told_4_73 (fun H locs hw => ?_)
  refine lv_dup hx hb dX1_told_4_74 rfl ?_
  refine lv_bipush (v := 8) hx hb dX1_told_4_75 (by decide) ?_
  refine lv_aload_n hx hb dX1_told_4_77 rfl (lv_at hl 0 rfl) ?_
  refine xr_getN hf hK hw 0 0 rfl rfl in_X10 6 (by decide) q487 (fun _ h => h) rfl dX1_told_4_78 ?_
  refine xr_iast (LL' := [[ob h0 9 [.int (v 0), .int (v 1), .int (v 2), .ref h1, .ref h2, .int (v 9), .int (v 10)], (h1, aI dT [v 3, v 4, v 5]), (h2, aI dT [v 6, v 7, v 8])], [(qa1, aI dT [v 9, v 0, v 3, v 4, v 5, v 6, v 7, v 8, v 10])]]) hf hK hw 1 0 rfl 8 (by decide) (by decide) (Nat.le_of_ble_eq_true rfl) rfl dX1_told_4_81 (fun H locs hw => ?_)
  refine lv_astore_n (lv' := [(2, .ref qa1), (0, .ref h0), (1, .int w)]) hx hb dX1_told_4_82 rfl hl (by decide) rfl (fun ls hl => ?_)
  refine lv_aload_n hx hb dX1_told_4_83 rfl (lv_at hl 0 rfl) ?_
  refine lv_iload_n hx hb dX1_told_4_84 rfl (lv_at hl 2 rfl) ?_
  refine xr_iald hf hK hw 1 0 rfl w.toNatClampNeg (fun z => hin (Or.inl z)) rfl (ix_nor 8 (by decide) hin) rfl dX1_told_4_85 ?_
  have hw : Wd D A s.heap _ _ [[ob h0 9 [.int (v 0), .int (v 1), .int (v 2), .ref h1, .ref h2, .int (v 9), .int (v 10)], (h1, aI dT [v 3, v 4, v 5]), (h2, aI dT [v 6, v 7, v 8])]] := Wd.take hw [0] rfl rfl
  exact xr_iret hf hr hlocks hw (Nat.le_of_ble_eq_true rfl) (Nat.le_of_ble_eq_true rfl) ⟨congrArg (fun z => some (Value.int z)) (Eq.symm (by unfold lo_told; exact rfl)), rfl⟩ dX1_told_4_86

set_option maxHeartbeats 4000000 in
theorem k_X1_told_5 (l : Launch) (D : va_G) (dT g : Nat → Nat) (z0 : Nat) (h0 : Nat) (h1 : Nat) (v : Nat → Int32) (w : Int32) (hin : ¬ (w < 0 ∨ 9 < w)) : Con l D dT g z0 yX1_told_5 (ws_ yX1_told_5 cX1_told_5 3 (some .int)) ({ frames := 2, cells := 1, slots := 6, locals := 61 }) [.ref h0, .int w] [[ob h0 11 [.int (v 0), .int (v 1), .int (v 2), .int (v 3), .int (bz (v 4)), .ref h1], (h1, aI dT [v 5, v 6, v 7, v 8])]] (fun r LL => r = some (.int (sk_told v w)) ∧ LL = [[ob h0 11 [.int (v 0), .int (v 1), .int (v 2), .int (v 3), .int (bz (v 4)), .ref h1], (h1, aI dT [v 5, v 6, v 7, v 8])]]) noX 1 6 := by
  refine Con.of (maxL := 3) (ret := (some .int)) (by first | exact plainFor_of_name (by decide) | decide +kernel) (Nat.le_of_ble_eq_true rfl) ?_
  intro p e s m args below meth c A ls hf hr hlocks hnm hno hK hA hAz hw hl hst
  have hf : CallFix p m c cX1_told_5 3 s args lw_all "SilkRow" := hf
  have hnm : meth.name = "told" := hnm
  have hx := hf.1
  have hb := hf.2.1
  have hts := hf.2.2.2.2
  have hl : lv_has ls 3 [(0, .ref h0), (1, .int w)] := hl
  have hw : Wd D A s.heap s.heap [] [[ob h0 11 [.int (v 0), .int (v 1), .int (v 2), .int (v 3), .int (bz (v 4)), .ref h1], (h1, aI dT [v 5, v 6, v 7, v 8])]] := hw
  refine lv_bipush (v := 6) hx hb dX1_told_5_0 (by decide) ?_
  refine xr_newi hf hK hw hA q463 (N := 6) (by decide) (by decide) (Nat.le_of_ble_eq_true rfl) (Nat.le_of_ble_eq_true rfl) (Nat.le_of_ble_eq_true rfl) dX1_told_5_2 (fun qa1 H hw => ?_)
  have hw : Wd D A s.heap _ _ [[ob h0 11 [.int (v 0), .int (v 1), .int (v 2), .int (v 3), .int (bz (v 4)), .ref h1], (h1, aI dT [v 5, v 6, v 7, v 8])], [(qa1, aI dT [0, 0, 0, 0, 0, 0])]] := hw
  refine lv_dup hx hb dX1_told_5_4 rfl ?_
  refine lv_iconst (v := 0) hx hb dX1_told_5_5 (by decide) ?_
  refine lv_aload_n hx hb dX1_told_5_6 rfl (lv_at hl 0 rfl) ?_
  refine xr_getN hf hK hw 0 0 rfl rfl in_X12 0 (by decide) q513 (fun _ h => h) rfl dX1_told_5_7 ?_
  refine xr_iast (LL' := [[ob h0 11 [.int (v 0), .int (v 1), .int (v 2), .int (v 3), .int (bz (v 4)), .ref h1], (h1, aI dT [v 5, v 6, v 7, v 8])], [(qa1, aI dT [v 0, 0, 0, 0, 0, 0])]]) hf hK hw 1 0 rfl 0 (by decide) (by decide) (Nat.le_of_ble_eq_true rfl) rfl dX1_told_5_10 (fun H locs hw => ?_)
  refine lv_dup hx hb dX1_told_5_11 rfl ?_
  refine lv_iconst (v := 1) hx hb dX1_told_5_12 (by decide) ?_
  refine lv_aload_n hx hb dX1_told_5_13 rfl (lv_at hl 0 rfl) ?_
  refine xr_getN hf hK hw 0 0 rfl rfl in_X12 1 (by decide) q515 (fun _ h => h) rfl dX1_told_5_14 ?_
  refine xr_iast (LL' := [[ob h0 11 [.int (v 0), .int (v 1), .int (v 2), .int (v 3), .int (bz (v 4)), .ref h1], (h1, aI dT [v 5, v 6, v 7, v 8])], [(qa1, aI dT [v 0, v 1, 0, 0, 0, 0])]]) hf hK hw 1 0 rfl 1 (by decide) (by decide) (Nat.le_of_ble_eq_true rfl) rfl dX1_told_5_17 (fun H locs hw => ?_)
  refine lv_dup hx hb dX1_told_5_18 rfl ?_
  refine lv_iconst (v := 2) hx hb dX1_told_5_19 (by decide) ?_
  refine lv_aload_n hx hb dX1_told_5_20 rfl (lv_at hl 0 rfl) ?_
  refine xr_getN hf hK hw 0 0 rfl rfl in_X12 2 (by decide) q517 (fun _ h => h) rfl dX1_told_5_21 ?_
  refine xr_iast (LL' := [[ob h0 11 [.int (v 0), .int (v 1), .int (v 2), .int (v 3), .int (bz (v 4)), .ref h1], (h1, aI dT [v 5, v 6, v 7, v 8])], [(qa1, aI dT [v 0, v 1, v 2, 0, 0, 0])]]) hf hK hw 1 0 rfl 2 (by decide) (by decide) (Nat.le_of_ble_eq_true rfl) rfl dX1_told_5_24 (fun H locs hw => ?_)
  refine lv_dup hx hb dX1_told_5_25 rfl ?_
  refine lv_iconst (v := 3) hx hb dX1_told_5_26 (by decide) ?_
  refine lv_aload_n hx hb dX1_told_5_27 rfl (lv_at hl 0 rfl) ?_
  refine xr_getN hf hK hw 0 0 rfl rfl in_X12 3 (by decide) q519 (fun _ h => h) rfl dX1_told_5_28 ?_
  refine xr_iast (LL' := [[ob h0 11 [.int (v 0), .int (v 1), .int (v 2), .int (v 3), .int (bz (v 4)), .ref h1], (h1, aI dT [v 5, v 6, v 7, v 8])], [(qa1, aI dT [v 0, v 1, v 2, v 3, 0, 0])]]) hf hK hw 1 0 rfl 3 (by decide) (by decide) (Nat.le_of_ble_eq_true rfl) rfl dX1_told_5_31 (fun H locs hw => ?_)
  refine lv_dup hx hb dX1_told_5_32 rfl ?_
  refine lv_iconst (v := 4) hx hb dX1_told_5_33 (by decide) ?_
  refine lv_aload_n hx hb dX1_told_5_34 rfl (lv_at hl 0 rfl) ?_
  refine xc_V (rest := [.int 4, .ref qa1, .ref qa1]) (As := []) hf hK hA hAz hst (hw.pick [0] rfl rfl rfl) (k_X12_grade l D dT g z0 h0 h1 v) (cwV 0 hts (lw_V q342 q343 q344 q73 q345) rfl rfl rfl (by decide +kernel) ⟨Nat.le_of_ble_eq_true rfl, Nat.le_of_ble_eq_true rfl⟩) (xr_rv hK hw 0 0 rfl rfl) rfl hl.1 rfl (Nat.le_of_ble_eq_true rfl) dX1_told_5_35 ⟨(Nat.le_of_ble_eq_true rfl), (Nat.le_of_ble_eq_true rfl)⟩ (fun _ _ _ _ _ _ h => h.elim) (fun v9 LL1 H locs hp hw => ?_)
  rw [fs_X12_grade] at hp
  obtain ⟨r2, hr2⟩ : ∃ z, z = f_X12_grade v := ⟨_, rfl⟩
  rw [← hr2] at hp
  obtain ⟨rfl, rfl⟩ := hp
  have hw : Wd D A s.heap _ _ [[ob h0 11 [.int (v 0), .int (v 1), .int (v 2), .int (v 3), .int (bz (v 4)), .ref h1], (h1, aI dT [v 5, v 6, v 7, v 8])], [(qa1, aI dT [v 0, v 1, v 2, v 3, 0, 0])]] := hw
  refine W.eq (g2 := F0 m 38 ls [.int r2.1, .int 4, .ref qa1, .ref qa1]) rfl ?_
  refine xr_iast (LL' := [[ob h0 11 [.int (v 0), .int (v 1), .int (v 2), .int (v 3), .int (bz (v 4)), .ref h1], (h1, aI dT [v 5, v 6, v 7, v 8])], [(qa1, aI dT [v 0, v 1, v 2, v 3, r2.1, 0])]]) hf hK hw 1 0 rfl 4 (by decide) (by decide) (Nat.le_of_ble_eq_true rfl) rfl dX1_told_5_38 (fun H locs hw => ?_)
  refine lv_dup hx hb dX1_told_5_39 rfl ?_
  refine lv_iconst (v := 5) hx hb dX1_told_5_40 (by decide) ?_
  refine lv_aload_n hx hb dX1_told_5_41 rfl (lv_at hl 0 rfl) ?_
  refine xr_getN hf hK hw 0 0 rfl rfl in_X12 4 (by decide) q520 (fun _ h => h) rfl dX1_told_5_42 ?_
  refine xc_S (rest := [.int 5, .ref qa1, .ref qa1]) (As := [.int (bz (v 4))]) hf hK hA hAz hst (hw.pick [] rfl rfl rfl) (k_X1_one l D dT g z0 (v 4)) (va_cwS 1 hts (lw_S q355 q356 q44 q357) rfl rfl rfl (by decide +kernel) ⟨Nat.le_of_ble_eq_true rfl, Nat.le_of_ble_eq_true rfl⟩) rfl hl.1 rfl (Nat.le_of_ble_eq_true rfl) dX1_told_5_45 ⟨(Nat.le_of_ble_eq_true rfl), (Nat.le_of_ble_eq_true rfl)⟩ (fun _ _ _ _ _ _ h => h.elim) (fun v9 LL1 H locs hp hw => ?_)
  obtain ⟨r3, hr3⟩ : ∃ z, z = f_X1_one (v 4) := ⟨_, rfl⟩
  rw [← hr3] at hp
  obtain ⟨rfl, rfl⟩ := hp
  have hw : Wd D A s.heap _ _ [[ob h0 11 [.int (v 0), .int (v 1), .int (v 2), .int (v 3), .int (bz (v 4)), .ref h1], (h1, aI dT [v 5, v 6, v 7, v 8])], [(qa1, aI dT [v 0, v 1, v 2, v 3, r2.1, 0])]] := hw
  refine W.eq (g2 := F0 m 48 ls [.int r3, .int 5, .ref qa1, .ref qa1]) rfl ?_
  refine xr_iast (LL' := [[ob h0 11 [.int (v 0), .int (v 1), .int (v 2), .int (v 3), .int (bz (v 4)), .ref h1], (h1, aI dT [v 5, v 6, v 7, v 8])], [(qa1, aI dT [v 0, v 1, v 2, v 3, r2.1, r3])]]) hf hK hw 1 0 rfl 5 (by decide) (by decide) (Nat.le_of_ble_eq_true rfl) rfl dX1_told_5_48 (fun H locs hw => ?_)
  refine lv_astore_n (lv' := [(2, .ref qa1), (0, .ref h0), (1, .int w)]) hx hb dX1_told_5_49 rfl hl (by decide) rfl (fun ls hl => ?_)
  refine lv_iload_n hx hb dX1_told_5_50 rfl (lv_at hl 2 rfl) ?_
  refine lv_bipush (v := 6) hx hb dX1_told_5_51 (by decide) ?_
  refine lv_icmp_ge (tgt := 62) hx hb dX1_told_5_53 (by decide) (fun c_53 => ?_) (fun c_53 => ?_)
  · refine lv_aload_n hx hb dX1_told_5_62 rfl (lv_at hl 1 rfl) ?_
    refine xr_getN hf hK hw 0 0 rfl rfl in_X12 5 (by decide) q522 (fun _ h => h) rfl dX1_told_5_63 ?_
    refine lv_iload_n hx hb dX1_told_5_66 rfl (lv_at hl 2 rfl) ?_
    refine lv_bipush (v := 6) hx hb dX1_told_5_67 (by decide) ?_
    refine lv_isub hx hb dX1_told_5_69 ?_
    refine xr_iald hf hK hw 0 1 rfl (w - 6).toNatClampNeg (sk_ix hin c_53).1 rfl (sk_ix hin c_53).2 rfl dX1_told_5_70 ?_
    have hw : Wd D A s.heap _ _ [[ob h0 11 [.int (v 0), .int (v 1), .int (v 2), .int (v 3), .int (bz (v 4)), .ref h1], (h1, aI dT [v 5, v 6, v 7, v 8])]] := Wd.take hw [0] rfl rfl
    have hwZ := hw
    subst hr3
    subst hr2
    have hw := hwZ
    exact xr_iret hf hr hlocks hw (Nat.le_of_ble_eq_true rfl) (Nat.le_of_ble_eq_true rfl) ⟨congrArg (fun z => some (Value.int z)) (Eq.symm (by unfold sk_told; exact (dnr c_53 rfl))), rfl⟩ dX1_told_5_71
  · refine lv_aload_n hx hb dX1_told_5_56 rfl (lv_at hl 0 rfl) ?_
    refine lv_iload_n hx hb dX1_told_5_57 rfl (lv_at hl 2 rfl) ?_
    refine xr_iald hf hK hw 1 0 rfl w.toNatClampNeg (fun z => hin (Or.inl z)) rfl (sk_ix6 hin c_53) rfl dX1_told_5_58 ?_
    refine lv_goto (tgt := 71) hx hb dX1_told_5_59 (by decide) ?_
    have hw : Wd D A s.heap _ _ [[ob h0 11 [.int (v 0), .int (v 1), .int (v 2), .int (v 3), .int (bz (v 4)), .ref h1], (h1, aI dT [v 5, v 6, v 7, v 8])]] := Wd.take hw [0] rfl rfl
    have hwZ := hw
    subst hr3
    subst hr2
    have hw := hwZ
    exact xr_iret hf hr hlocks hw (Nat.le_of_ble_eq_true rfl) (Nat.le_of_ble_eq_true rfl) ⟨congrArg (fun z => some (Value.int z)) (Eq.symm (by unfold sk_told; exact (inz c_53 rfl))), rfl⟩ dX1_told_5_71

