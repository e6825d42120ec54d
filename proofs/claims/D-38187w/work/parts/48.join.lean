/-! 48.join (printed by gen/silk.py) -/
set_option maxRecDepth 100000
set_option maxHeartbeats 4000000 in
theorem k_X10_pieces (l : Launch) (D : va_G) (dT g : Nat → Nat) (z0 : Nat) (h0 : Nat) (h1 : Nat) (h2 : Nat) (x0 : Int32) (x1 : Int32) (x2 : Int32) (x3 : Int32) (x4 : Int32) (x5 : Int32) (x6 : Int32) (x7 : Int32) (x8 : Int32) (x9 : Int32) (x10 : Int32) (y : Int32) : Con l D dT g z0 yX10_pieces (ws_ yX10_pieces cX10_pieces 5 (some (.array .int))) ({ frames := 1, cells := 3, slots := 12, locals := 40 }) [.ref h0, .int y] [[ob h0 9 [.int x0, .int x1, .int x2, .ref h1, .ref h2, .int x9, .int x10], (h1, aI dT [x3, x4, x5]), (h2, aI dT [x6, x7, x8])]] (fun r LL => ∃ (q : Nat), r = some (.ref q) ∧ LL = [[ob h0 9 [.int x0, .int x1, .int x2, .ref h1, .ref h2, .int x9, .int x10], (h1, aI dT [x3, x4, x5]), (h2, aI dT [x6, x7, x8])], [(q, aI dT (lo_pieces x1 y))]]) noX 3 12 := by
  refine Con.of (maxL := 5) (ret := (some (.array .int))) (by first | exact plainFor_of_name (by decide) | decide +kernel) (Nat.le_of_ble_eq_true rfl) ?_
  intro p e s m args below meth c A ls hf hr hlocks hnm hno hK hA hAz hw hl hst
  have hf : CallFix p m c cX10_pieces 5 s args lw_all "SilkRow$Lot" := hf
  have hnm : meth.name = "pieces" := hnm
  have hx := hf.1
  have hb := hf.2.1
  have hts := hf.2.2.2.2
  have hl : lv_has ls 5 [(0, .ref h0), (1, .int y)] := hl
  have hw : Wd D A s.heap s.heap [] [[ob h0 9 [.int x0, .int x1, .int x2, .ref h1, .ref h2, .int x9, .int x10], (h1, aI dT [x3, x4, x5]), (h2, aI dT [x6, x7, x8])]] := hw
  refine lv_iconst (v := 5) hx hb dX10_pieces_0 (by decide) ?_
  refine xr_newi hf hK hw hA q463 (N := 5) (by decide) (by decide) (Nat.le_of_ble_eq_true rfl) (Nat.le_of_ble_eq_true rfl) (Nat.le_of_ble_eq_true rfl) dX10_pieces_1 (fun qa1 H hw => ?_)
  have hw : Wd D A s.heap _ _ [[ob h0 9 [.int x0, .int x1, .int x2, .ref h1, .ref h2, .int x9, .int x10], (h1, aI dT [x3, x4, x5]), (h2, aI dT [x6, x7, x8])], [(qa1, aI dT [0, 0, 0, 0, 0])]] := hw
  refine lv_dup hx hb dX10_pieces_3 rfl ?_
  refine lv_iconst (v := 0) hx hb dX10_pieces_4 (by decide) ?_
  refine lv_aload_n hx hb dX10_pieces_5 rfl (lv_at hl 0 rfl) ?_
  refine xr_get hf hK hw 0 0 rfl rfl in_X10 1 (by decide) q476 (fun _ h => h) rfl dX10_pieces_6 ?_
  refine lv_iconst (v := 1) hx hb dX10_pieces_9 (by decide) ?_
  refine lv_iadd hx hb dX10_pieces_10 ?_
  refine xr_iast (LL' := [[ob h0 9 [.int x0, .int x1, .int x2, .ref h1, .ref h2, .int x9, .int x10], (h1, aI dT [x3, x4, x5]), (h2, aI dT [x6, x7, x8])], [(qa1, aI dT [(x1 + 1), 0, 0, 0, 0])]]) hf hK hw 1 0 rfl 0 (by decide) (by decide) (Nat.le_of_ble_eq_true rfl) rfl dX10_pieces_11 (fun H locs hw => ?_)
  refine lv_dup hx hb dX10_pieces_12 rfl ?_
  refine lv_iconst (v := 1) hx hb dX10_pieces_13 (by decide) ?_
  refine lv_aload_n hx hb dX10_pieces_14 rfl (lv_at hl 0 rfl) ?_
  refine xr_get hf hK hw 0 0 rfl rfl in_X10 1 (by decide) q476 (fun _ h => h) rfl dX10_pieces_15 ?_
  refine xr_iast (LL' := [[ob h0 9 [.int x0, .int x1, .int x2, .ref h1, .ref h2, .int x9, .int x10], (h1, aI dT [x3, x4, x5]), (h2, aI dT [x6, x7, x8])], [(qa1, aI dT [(x1 + 1), x1, 0, 0, 0])]]) hf hK hw 1 0 rfl 1 (by decide) (by decide) (Nat.le_of_ble_eq_true rfl) rfl dX10_pieces_18 (fun H locs hw => ?_)
  refine lv_dup hx hb dX10_pieces_19 rfl ?_
  refine lv_iconst (v := 2) hx hb dX10_pieces_20 (by decide) ?_
  refine lv_aload_n hx hb dX10_pieces_21 rfl (lv_at hl 0 rfl) ?_
  refine xr_get hf hK hw 0 0 rfl rfl in_X10 1 (by decide) q476 (fun _ h => h) rfl dX10_pieces_22 ?_
  refine xr_iast (LL' := [[ob h0 9 [.int x0, .int x1, .int x2, .ref h1, .ref h2, .int x9, .int x10], (h1, aI dT [x3, x4, x5]), (h2, aI dT [x6, x7, x8])], [(qa1, aI dT [(x1 + 1), x1, x1, 0, 0])]]) hf hK hw 1 0 rfl 2 (by decide) (by decide) (Nat.le_of_ble_eq_true rfl) rfl dX10_pieces_25 (fun H locs hw => ?_)
  refine lv_dup hx hb dX10_pieces_26 rfl ?_
  refine lv_iconst (v := 3) hx hb dX10_pieces_27 (by decide) ?_
  refine lv_iconst (v := 1) hx hb dX10_pieces_28 (by decide) ?_
  refine lv_aload_n hx hb dX10_pieces_29 rfl (lv_at hl 0 rfl) ?_
  refine xr_get hf hK hw 0 0 rfl rfl in_X10 1 (by decide) q476 (fun _ h => h) rfl dX10_pieces_30 ?_
  refine lv_iconst (v := 1) hx hb dX10_pieces_33 (by decide) ?_
  refine lv_isub hx hb dX10_pieces_34 ?_
  refine va_mmax hx hb (by rw [hf.2.2.1]; exact hl.1.symm) hf.2.2.2.1 (hts _ q560) (hts _ q152) (hts _ q50) (hts _ q153) (Nat.le_of_ble_eq_true rfl) (Nat.le_of_ble_eq_true rfl) (Nat.le_of_ble_eq_true rfl) (Nat.le_of_ble_eq_true rfl) dX10_pieces_35 ?_
  refine lv_as (y := imax 1 (x1 - 1)) rfl ?_
  refine xr_iast (LL' := [[ob h0 9 [.int x0, .int x1, .int x2, .ref h1, .ref h2, .int x9, .int x10], (h1, aI dT [x3, x4, x5]), (h2, aI dT [x6, x7, x8])], [(qa1, aI dT [(x1 + 1), x1, x1, (imax 1 (x1 - 1)), 0])]]) hf hK hw 1 0 rfl 3 (by decide) (by decide) (Nat.le_of_ble_eq_true rfl) rfl dX10_pieces_38 (fun H locs hw => ?_)
  refine lv_dup hx hb dX10_pieces_39 rfl ?_
  refine lv_iconst (v := 4) hx hb dX10_pieces_40 (by decide) ?_
  refine lv_iconst (v := 1) hx hb dX10_pieces_41 (by decide) ?_
  refine lv_aload_n hx hb dX10_pieces_42 rfl (lv_at hl 0 rfl) ?_
  refine xr_get hf hK hw 0 0 rfl rfl in_X10 1 (by decide) q476 (fun _ h => h) rfl dX10_pieces_43 ?_
  refine lv_iconst (v := 2) hx hb dX10_pieces_46 (by decide) ?_
  refine lv_isub hx hb dX10_pieces_47 ?_
  refine va_mmax hx hb (by rw [hf.2.2.1]; exact hl.1.symm) hf.2.2.2.1 (hts _ q560) (hts _ q152) (hts _ q50) (hts _ q153) (Nat.le_of_ble_eq_true rfl) (Nat.le_of_ble_eq_true rfl) (Nat.le_of_ble_eq_true rfl) (Nat.le_of_ble_eq_true rfl) dX10_pieces_48 ?_
  refine lv_as (y := imax 1 (x1 - 2)) rfl ?_
  refine xr_iast (LL' := [[ob h0 9 [.int x0, .int x1, .int x2, .ref h1, .ref h2, .int x9, .int x10], (h1, aI dT [x3, x4, x5]), (h2, aI dT [x6, x7, x8])], [(qa1, aI dT [(x1 + 1), x1, x1, (imax 1 (x1 - 1)), (imax 1 (x1 - 2))])]]) hf hK hw 1 0 rfl 4 (by decide) (by decide) (Nat.le_of_ble_eq_true rfl) rfl dX10_pieces_51 (fun H locs hw => ?_)
  refine lv_astore_n (lv' := [(2, .ref qa1), (0, .ref h0), (1, .int y)]) hx hb dX10_pieces_52 rfl hl (by decide) rfl (fun ls hl => ?_)
  refine lv_iconst (v := 4) hx hb dX10_pieces_53 (by decide) ?_
  refine xr_newi hf hK hw hA q463 (N := 4) (by decide) (by decide) (Nat.le_of_ble_eq_true rfl) (Nat.le_of_ble_eq_true rfl) (Nat.le_of_ble_eq_true rfl) dX10_pieces_54 (fun qa2 H hw => ?_)
  have hw : Wd D A s.heap _ _ [[ob h0 9 [.int x0, .int x1, .int x2, .ref h1, .ref h2, .int x9, .int x10], (h1, aI dT [x3, x4, x5]), (h2, aI dT [x6, x7, x8])], [(qa1, aI dT [(x1 + 1), x1, x1, (imax 1 (x1 - 1)), (imax 1 (x1 - 2))])], [(qa2, aI dT [0, 0, 0, 0])]] := hw
  refine lv_dup hx hb dX10_pieces_56 rfl ?_
  refine lv_iconst (v := 0) hx hb dX10_pieces_57 (by decide) ?_
  refine lv_aload_n hx hb dX10_pieces_58 rfl (lv_at hl 1 rfl) ?_
  refine xr_get hf hK hw 0 0 rfl rfl in_X10 1 (by decide) q476 (fun _ h => h) rfl dX10_pieces_59 ?_
  refine xr_iast (LL' := [[ob h0 9 [.int x0, .int x1, .int x2, .ref h1, .ref h2, .int x9, .int x10], (h1, aI dT [x3, x4, x5]), (h2, aI dT [x6, x7, x8])], [(qa1, aI dT [(x1 + 1), x1, x1, (imax 1 (x1 - 1)), (imax 1 (x1 - 2))])], [(qa2, aI dT [x1, 0, 0, 0])]]) hf hK hw 2 0 rfl 0 (by decide) (by decide) (Nat.le_of_ble_eq_true rfl) rfl dX10_pieces_62 (fun H locs hw => ?_)
  refine lv_dup hx hb dX10_pieces_63 rfl ?_
  refine lv_iconst (v := 1) hx hb dX10_pieces_64 (by decide) ?_
  refine lv_aload_n hx hb dX10_pieces_65 rfl (lv_at hl 1 rfl) ?_
  refine xr_get hf hK hw 0 0 rfl rfl in_X10 1 (by decide) q476 (fun _ h => h) rfl dX10_pieces_66 ?_
  refine xr_iast (LL' := [[ob h0 9 [.int x0, .int x1, .int x2, .ref h1, .ref h2, .int x9, .int x10], (h1, aI dT [x3, x4, x5]), (h2, aI dT [x6, x7, x8])], [(qa1, aI dT [(x1 + 1), x1, x1, (imax 1 (x1 - 1)), (imax 1 (x1 - 2))])], [(qa2, aI dT [x1, x1, 0, 0])]]) hf hK hw 2 0 rfl 1 (by decide) (by decide) (Nat.le_of_ble_eq_true rfl) rfl dX10_pieces_69 (fun H locs hw => ?_)
  refine lv_dup hx hb dX10_pieces_70 rfl ?_
  refine lv_iconst (v := 2) hx hb dX10_pieces_71 (by decide) ?_
  refine lv_aload_n hx hb dX10_pieces_72 rfl (lv_at hl 1 rfl) ?_
  refine xr_get hf hK hw 0 0 rfl rfl in_X10 1 (by decide) q476 (fun _ h => h) rfl dX10_pieces_73 ?_
  refine xr_iast (LL' := [[ob h0 9 [.int x0, .int x1, .int x2, .ref h1, .ref h2, .int x9, .int x10], (h1, aI dT [x3, x4, x5]), (h2, aI dT [x6, x7, x8])], [(qa1, aI dT [(x1 + 1), x1, x1, (imax 1 (x1 - 1)), (imax 1 (x1 - 2))])], [(qa2, aI dT [x1, x1, x1, 0])]]) hf hK hw 2 0 rfl 2 (by decide) (by decide) (Nat.le_of_ble_eq_true rfl) rfl dX10_pieces_76 (fun H locs hw => ?_)
  refine lv_dup hx hb dX10_pieces_77 rfl ?_
  refine lv_iconst (v := 3) hx hb dX10_pieces_78 (by decide) ?_
  refine lv_aload_n hx hb dX10_pieces_79 rfl (lv_at hl 1 rfl) ?_
  refine xr_get hf hK hw 0 0 rfl rfl in_X10 1 (by decide) q476 (fun _ h => h) rfl dX10_pieces_80 ?_
  refine xr_iast (LL' := [[ob h0 9 [.int x0, .int x1, .int x2, .ref h1, .ref h2, .int x9, .int x10], (h1, aI dT [x3, x4, x5]), (h2, aI dT [x6, x7, x8])], [(qa1, aI dT [(x1 + 1), x1, x1, (imax 1 (x1 - 1)), (imax 1 (x1 - 2))])], [(qa2, aI dT [x1, x1, x1, x1])]]) hf hK hw 2 0 rfl 3 (by decide) (by decide) (Nat.le_of_ble_eq_true rfl) rfl dX10_pieces_83 (fun H locs hw => ?_)
  refine lv_astore_n (lv' := [(3, .ref qa2), (2, .ref qa1), (0, .ref h0), (1, .int y)]) hx hb dX10_pieces_84 rfl hl (by decide) rfl (fun ls hl => ?_)
  refine lv_iconst (v := 3) hx hb dX10_pieces_85 (by decide) ?_
  refine xr_newi hf hK hw hA q463 (N := 3) (by decide) (by decide) (Nat.le_of_ble_eq_true rfl) (Nat.le_of_ble_eq_true rfl) (Nat.le_of_ble_eq_true rfl) dX10_pieces_86 (fun qa3 H hw => ?_)
  have hw : Wd D A s.heap _ _ [[ob h0 9 [.int x0, .int x1, .int x2, .ref h1, .ref h2, .int x9, .int x10], (h1, aI dT [x3, x4, x5]), (h2, aI dT [x6, x7, x8])], [(qa1, aI dT [(x1 + 1), x1, x1, (imax 1 (x1 - 1)), (imax 1 (x1 - 2))])], [(qa2, aI dT [x1, x1, x1, x1])], [(qa3, aI dT [0, 0, 0])]] := hw
  refine lv_dup hx hb dX10_pieces_88 rfl ?_
  refine lv_iconst (v := 0) hx hb dX10_pieces_89 (by decide) ?_
  refine lv_iconst (v := 1) hx hb dX10_pieces_90 (by decide) ?_
  refine xr_iast (LL' := [[ob h0 9 [.int x0, .int x1, .int x2, .ref h1, .ref h2, .int x9, .int x10], (h1, aI dT [x3, x4, x5]), (h2, aI dT [x6, x7, x8])], [(qa1, aI dT [(x1 + 1), x1, x1, (imax 1 (x1 - 1)), (imax 1 (x1 - 2))])], [(qa2, aI dT [x1, x1, x1, x1])], [(qa3, aI dT [1, 0, 0])]]) hf hK hw 3 0 rfl 0 (by decide) (by decide) (Nat.le_of_ble_eq_true rfl) rfl dX10_pieces_91 (fun H locs hw => ?_)
  refine lv_dup hx hb dX10_pieces_92 rfl ?_
  refine lv_iconst (v := 1) hx hb dX10_pieces_93 (by decide) ?_
  refine lv_iconst (v := 1) hx hb dX10_pieces_94 (by decide) ?_
  refine xr_iast (LL' := [[ob h0 9 [.int x0, .int x1, .int x2, .ref h1, .ref h2, .int x9, .int x10], (h1, aI dT [x3, x4, x5]), (h2, aI dT [x6, x7, x8])], [(qa1, aI dT [(x1 + 1), x1, x1, (imax 1 (x1 - 1)), (imax 1 (x1 - 2))])], [(qa2, aI dT [x1, x1, x1, x1])], [(qa3, aI dT [1, 1, 0])]]) hf hK hw 3 0 rfl 1 (by decide) (by decide) (Nat.le_of_ble_eq_true rfl) rfl dX10_pieces_95 (fun H locs hw => ?_)
  refine lv_dup hx hb dX10_pieces_96 rfl ?_
  refine lv_iconst (v := 2) hx hb dX10_pieces_97 (by decide) ?_
  refine lv_iconst (v := 1) hx hb dX10_pieces_98 (by decide) ?_
  refine xr_iast (LL' := [[ob h0 9 [.int x0, .int x1, .int x2, .ref h1, .ref h2, .int x9, .int x10], (h1, aI dT [x3, x4, x5]), (h2, aI dT [x6, x7, x8])], [(qa1, aI dT [(x1 + 1), x1, x1, (imax 1 (x1 - 1)), (imax 1 (x1 - 2))])], [(qa2, aI dT [x1, x1, x1, x1])], [(qa3, aI dT [1, 1, 1])]]) hf hK hw 3 0 rfl 2 (by decide) (by decide) (Nat.le_of_ble_eq_true rfl) rfl dX10_pieces_99 (fun H locs hw => ?_)
  refine lv_astore (lv' := [(4, .ref qa3), (3, .ref qa2), (2, .ref qa1), (0, .ref h0), (1, .int y)]) hx hb dX10_pieces_100 hl (by decide) rfl (fun ls hl => ?_)
  refine lv_iload_n hx hb dX10_pieces_102 rfl (lv_at hl 4 rfl) ?_
  refine lv_if_ne (tgt := 110) hx hb dX10_pieces_103 (by decide) (fun c_103 => ?_) (fun c_103 => ?_)
  · refine lv_iload_n hx hb dX10_pieces_110 rfl (lv_at hl 4 rfl) ?_
    refine lv_iconst (v := 1) hx hb dX10_pieces_111 (by decide) ?_
    refine lv_icmp_ne (tgt := 119) hx hb dX10_pieces_112 (by decide) (fun c_112 => ?_) (fun c_112 => ?_)
    · refine lv_aload hx hb dX10_pieces_119 (lv_at hl 0 rfl) ?_
      have hw : Wd D A s.heap _ _ [[ob h0 9 [.int x0, .int x1, .int x2, .ref h1, .ref h2, .int x9, .int x10], (h1, aI dT [x3, x4, x5]), (h2, aI dT [x6, x7, x8])], [(qa3, aI dT [1, 1, 1])]] := Wd.take hw [0, 2] rfl rfl
      exact xr_aret hf hr (by first | exact Or.inl ⟨_, rfl⟩ | exact Or.inr ⟨_, rfl⟩) (Or.inr ⟨_, rfl⟩) hlocks hw (Nat.le_of_ble_eq_true rfl) (Nat.le_of_ble_eq_true rfl) ⟨qa3, rfl, by rw [show lo_pieces x1 y = _ from (inz c_103 (inz c_112 rfl))]⟩ dX10_pieces_121
    · refine lv_aload_n hx hb dX10_pieces_115 rfl (lv_at hl 1 rfl) ?_
      refine lv_goto (tgt := 121) hx hb dX10_pieces_116 (by decide) ?_
      have hw : Wd D A s.heap _ _ [[ob h0 9 [.int x0, .int x1, .int x2, .ref h1, .ref h2, .int x9, .int x10], (h1, aI dT [x3, x4, x5]), (h2, aI dT [x6, x7, x8])], [(qa2, aI dT [x1, x1, x1, x1])]] := Wd.take hw [0, 1] rfl rfl
      exact xr_aret hf hr (by first | exact Or.inl ⟨_, rfl⟩ | exact Or.inr ⟨_, rfl⟩) (Or.inr ⟨_, rfl⟩) hlocks hw (Nat.le_of_ble_eq_true rfl) (Nat.le_of_ble_eq_true rfl) ⟨qa2, rfl, by rw [show lo_pieces x1 y = _ from (inz c_103 (dnr c_112 rfl))]⟩ dX10_pieces_121
  · refine lv_aload_n hx hb dX10_pieces_106 rfl (lv_at hl 2 rfl) ?_
    refine lv_goto (tgt := 121) hx hb dX10_pieces_107 (by decide) ?_
    have hw : Wd D A s.heap _ _ [[ob h0 9 [.int x0, .int x1, .int x2, .ref h1, .ref h2, .int x9, .int x10], (h1, aI dT [x3, x4, x5]), (h2, aI dT [x6, x7, x8])], [(qa1, aI dT [(x1 + 1), x1, x1, (imax 1 (x1 - 1)), (imax 1 (x1 - 2))])]] := Wd.take hw [0, 0] rfl rfl
    exact xr_aret hf hr (by first | exact Or.inl ⟨_, rfl⟩ | exact Or.inr ⟨_, rfl⟩) (Or.inr ⟨_, rfl⟩) hlocks hw (Nat.le_of_ble_eq_true rfl) (Nat.le_of_ble_eq_true rfl) ⟨qa1, rfl, by rw [show lo_pieces x1 y = _ from (dnr c_103 rfl)]⟩ dX10_pieces_121

set_option maxHeartbeats 4000000 in
theorem k_X10_join_none (l : Launch) (D : va_G) (dT g : Nat → Nat) (z0 : Nat) (h0 : Nat) (h1 : Nat) (h2 : Nat) (x0 : Int32) (x1 : Int32) (x2 : Int32) (x3 : Int32) (x4 : Int32) (x5 : Int32) (x6 : Int32) (x7 : Int32) (x8 : Int32) (x9 : Int32) (x10 : Int32) (g0 : x6 ≤ 0) (g1 : x7 ≤ 0) (g2 : x8 ≤ 0) : Con l D dT g z0 yX10_join (ws_ yX10_join cX10_join 2 (some (.object "SilkRow$Filament"))) ({ frames := 1, cells := 0, slots := 0, locals := 40 }) [.ref h0] [[ob h0 9 [.int x0, .int x1, .int x2, .ref h1, .ref h2, .int x9, .int x10], (h1, aI dT [x3, x4, x5]), (h2, aI dT [x6, x7, x8])]] (fun r LL => r = some (.null) ∧ LL = [[ob h0 9 [.int x0, .int x1, .int x2, .ref h1, .ref h2, .int x9, .int x10], (h1, aI dT [x3, x4, x5]), (h2, aI dT [x6, x7, x8])]]) noX 0 0 := by
  refine Con.of (maxL := 2) (ret := (some (.object "SilkRow$Filament"))) (by first | exact plainFor_of_name (by decide) | decide +kernel) (Nat.le_of_ble_eq_true rfl) ?_
  intro p e s m args below meth c A ls hf hr hlocks hnm hno hK hA hAz hw hl hst
  have hf : CallFix p m c cX10_join 2 s args lw_all "SilkRow$Lot" := hf
  have hnm : meth.name = "join" := hnm
  have hx := hf.1
  have hb := hf.2.1
  have hts := hf.2.2.2.2
  have hl : lv_has ls 2 [(0, .ref h0)] := hl
  have hw : Wd D A s.heap s.heap [] [[ob h0 9 [.int x0, .int x1, .int x2, .ref h1, .ref h2, .int x9, .int x10], (h1, aI dT [x3, x4, x5]), (h2, aI dT [x6, x7, x8])]] := hw
  refine lv_iconst (v := 0) hx hb dX10_join_0 (by decide) ?_
  refine lv_istore_n (lv' := [(1, .int 0), (0, .ref h0)]) hx hb dX10_join_1 rfl hl (by decide) rfl (fun ls hl => ?_)
  refine lv_iload_n hx hb dX10_join_2 rfl (lv_at hl 0 rfl) ?_
  refine lv_iconst (v := 3) hx hb dX10_join_3 (by decide) ?_
  refine lv_icmp_ge (tgt := 49) hx hb dX10_join_4 (by decide) (fun c9 => absurd c9 (by decide)) (fun _ => ?_)
  refine lv_aload_n hx hb dX10_join_7 rfl (lv_at hl 1 rfl) ?_
  refine xr_get hf hK hw 0 0 rfl rfl in_X10 4 (by decide) q482 (fun _ h => h) rfl dX10_join_8 ?_
  refine lv_iload_n hx hb dX10_join_11 rfl (lv_at hl 0 rfl) ?_
  refine xr_iald hf hK hw 0 2 rfl 0 (by decide) (by decide) (Nat.le_of_ble_eq_true rfl) rfl dX10_join_12 ?_
  refine lv_if_le (tgt := 43) hx hb dX10_join_13 (by decide) (fun _ => ?_) (fun c9 => absurd g0 c9)
  refine lv_iinc (v := 1) (lv' := [(1, .int 1), (0, .ref h0)]) hx hb dX10_join_43 hl (k := 0) rfl (by decide) (by decide) rfl (fun ls hl => ?_)
  refine lv_goto (tgt := 2) hx hb dX10_join_46 (by decide) ?_
  refine lv_iload_n hx hb dX10_join_2 rfl (lv_at hl 0 rfl) ?_
  refine lv_iconst (v := 3) hx hb dX10_join_3 (by decide) ?_
  refine lv_icmp_ge (tgt := 49) hx hb dX10_join_4 (by decide) (fun c9 => absurd c9 (by decide)) (fun _ => ?_)
  refine lv_aload_n hx hb dX10_join_7 rfl (lv_at hl 1 rfl) ?_
  refine xr_get hf hK hw 0 0 rfl rfl in_X10 4 (by decide) q482 (fun _ h => h) rfl dX10_join_8 ?_
  refine lv_iload_n hx hb dX10_join_11 rfl (lv_at hl 0 rfl) ?_
  refine xr_iald hf hK hw 0 2 rfl 1 (by decide) (by decide) (Nat.le_of_ble_eq_true rfl) rfl dX10_join_12 ?_
  refine lv_if_le (tgt := 43) hx hb dX10_join_13 (by decide) (fun _ => ?_) (fun c9 => absurd g1 c9)
  refine lv_iinc (v := 2) (lv' := [(1, .int 2), (0, .ref h0)]) hx hb dX10_join_43 hl (k := 0) rfl (by decide) (by decide) rfl (fun ls hl => ?_)
  refine lv_goto (tgt := 2) hx hb dX10_join_46 (by decide) ?_
  refine lv_iload_n hx hb dX10_join_2 rfl (lv_at hl 0 rfl) ?_
  refine lv_iconst (v := 3) hx hb dX10_join_3 (by decide) ?_
  refine lv_icmp_ge (tgt := 49) hx hb dX10_join_4 (by decide) (fun c9 => absurd c9 (by decide)) (fun _ => ?_)
  refine lv_aload_n hx hb dX10_join_7 rfl (lv_at hl 1 rfl) ?_
  refine xr_get hf hK hw 0 0 rfl rfl in_X10 4 (by decide) q482 (fun _ h => h) rfl dX10_join_8 ?_
  refine lv_iload_n hx hb dX10_join_11 rfl (lv_at hl 0 rfl) ?_
  refine xr_iald hf hK hw 0 2 rfl 2 (by decide) (by decide) (Nat.le_of_ble_eq_true rfl) rfl dX10_join_12 ?_
  refine lv_if_le (tgt := 43) hx hb dX10_join_13 (by decide) (fun _ => ?_) (fun c9 => absurd g2 c9)
  refine lv_iinc (v := 3) (lv' := [(1, .int 3), (0, .ref h0)]) hx hb dX10_join_43 hl (k := 0) rfl (by decide) (by decide) rfl (fun ls hl => ?_)
  refine lv_goto (tgt := 2) hx hb dX10_join_46 (by decide) ?_
  refine lv_iload_n hx hb dX10_join_2 rfl (lv_at hl 0 rfl) ?_
  refine lv_iconst (v := 3) hx hb dX10_join_3 (by decide) ?_
  refine lv_icmp_ge (tgt := 49) hx hb dX10_join_4 (by decide) (fun _ => ?_) (fun c9 => absurd c9 (by decide))
  refine lv_null hx hb dX10_join_49 ?_
  exact xr_aret hf hr (by first | exact Or.inl ⟨_, rfl⟩ | exact Or.inr ⟨_, rfl⟩) (Or.inl rfl) hlocks hw (Nat.le_of_ble_eq_true rfl) (Nat.le_of_ble_eq_true rfl) ⟨rfl, rfl⟩ dX10_join_50

set_option maxHeartbeats 4000000 in
theorem k_X10_join_k0 (l : Launch) (D : va_G) (dT g : Nat → Nat) (z0 : Nat) (h0 : Nat) (h1 : Nat) (h2 : Nat) (x0 : Int32) (x1 : Int32) (x2 : Int32) (x3 : Int32) (x4 : Int32) (x5 : Int32) (x6 : Int32) (x7 : Int32) (x8 : Int32) (x9 : Int32) (x10 : Int32) (gk : ¬ x6 ≤ 0) : Con l D dT g z0 yX10_join (ws_ yX10_join cX10_join 2 (some (.object "SilkRow$Filament"))) ({ frames := 2, cells := 4, slots := 15, locals := 64 }) [.ref h0] [[ob h0 9 [.int x0, .int x1, .int x2, .ref h1, .ref h2, .int x9, .int x10], (h1, aI dT [x3, x4, x5]), (h2, aI dT [x6, x7, x8])]] (fun r LL => ∃ (qa : Nat) (qb : Nat), r = some (.ref qa) ∧ LL = [[ob h0 9 [.int x0, .int x1, .int x2, .ref h1, .ref h2, .int x9, .int x10], (h1, aI dT [x3, x4, x5]), (h2, aI dT [(x6 - 1), x7, x8])], [ob qa 12 [.int x0, .ref qb, .int 0]], [(qb, aI dT (lo_pieces x1 0))]]) noX 4 15 := by
  refine Con.of (maxL := 2) (ret := (some (.object "SilkRow$Filament"))) (by first | exact plainFor_of_name (by decide) | decide +kernel) (Nat.le_of_ble_eq_true rfl) ?_
  intro p e s m args below meth c A ls hf hr hlocks hnm hno hK hA hAz hw hl hst
  have hf : CallFix p m c cX10_join 2 s args lw_all "SilkRow$Lot" := hf
  have hnm : meth.name = "join" := hnm
  have hx := hf.1
  have hb := hf.2.1
  have hts := hf.2.2.2.2
  have hl : lv_has ls 2 [(0, .ref h0)] := hl
  have hw : Wd D A s.heap s.heap [] [[ob h0 9 [.int x0, .int x1, .int x2, .ref h1, .ref h2, .int x9, .int x10], (h1, aI dT [x3, x4, x5]), (h2, aI dT [x6, x7, x8])]] := hw
  refine lv_iconst (v := 0) hx hb dX10_join_0 (by decide) ?_
  refine lv_istore_n (lv' := [(1, .int 0), (0, .ref h0)]) hx hb dX10_join_1 rfl hl (by decide) rfl (fun ls hl => ?_)
  refine lv_iload_n hx hb dX10_join_2 rfl (lv_at hl 0 rfl) ?_
  refine lv_iconst (v := 3) hx hb dX10_join_3 (by decide) ?_
  refine lv_icmp_ge (tgt := 49) hx hb dX10_join_4 (by decide) (fun c9 => absurd c9 (by decide)) (fun _ => ?_)
  refine lv_aload_n hx hb dX10_join_7 rfl (lv_at hl 1 rfl) ?_
  refine xr_get hf hK hw 0 0 rfl rfl in_X10 4 (by decide) q482 (fun _ h => h) rfl dX10_join_8 ?_
  refine lv_iload_n hx hb dX10_join_11 rfl (lv_at hl 0 rfl) ?_
  refine xr_iald hf hK hw 0 2 rfl 0 (by decide) (by decide) (Nat.le_of_ble_eq_true rfl) rfl dX10_join_12 ?_
  refine lv_if_le (tgt := 43) hx hb dX10_join_13 (by decide) (fun c9 => absurd c9 gk) (fun _ => ?_)
  refine lv_aload_n hx hb dX10_join_16 rfl (lv_at hl 1 rfl) ?_
  refine xr_get hf hK hw 0 0 rfl rfl in_X10 4 (by decide) q482 (fun _ h => h) rfl dX10_join_17 ?_
  refine lv_iload_n hx hb dX10_join_20 rfl (lv_at hl 0 rfl) ?_
  refine lv_dup2_11 hx hb dX10_join_21 rfl rfl ?_
  refine xr_iald hf hK hw 0 2 rfl 0 (by decide) (by decide) (Nat.le_of_ble_eq_true rfl) rfl dX10_join_22 ?_
  refine lv_iconst (v := 1) hx hb dX10_join_23 (by decide) ?_
  refine lv_isub hx hb dX10_join_24 ?_
  refine xr_iast (LL' := [[ob h0 9 [.int x0, .int x1, .int x2, .ref h1, .ref h2, .int x9, .int x10], (h1, aI dT [x3, x4, x5]), (h2, aI dT [(x6 - 1), x7, x8])]]) hf hK hw 0 2 rfl 0 (by decide) (by decide) (Nat.le_of_ble_eq_true rfl) rfl dX10_join_25 (fun H locs hw => ?_)
  refine xr_new (LL' := [[ob h0 9 [.int x0, .int x1, .int x2, .ref h1, .ref h2, .int x9, .int x10], (h1, aI dT [x3, x4, x5]), (h2, aI dT [(x6 - 1), x7, x8])]]) (fs := [.int 0, .null, .int 0]) hf hK hw hA 12 rfl in_X13 tyX13_ok q555 q445 q74 rfl (Nat.le_of_ble_eq_true rfl) (Nat.le_of_ble_eq_true rfl) (fun _ => rfl) dX10_join_26 (fun qa1 H hw => ?_)
  have hw : Wd D A s.heap _ _ [[ob h0 9 [.int x0, .int x1, .int x2, .ref h1, .ref h2, .int x9, .int x10], (h1, aI dT [x3, x4, x5]), (h2, aI dT [(x6 - 1), x7, x8])], [ob qa1 12 [.int 0, .null, .int 0]]] := hw
  refine lv_dup hx hb dX10_join_29 rfl ?_
  refine lv_aload_n hx hb dX10_join_30 rfl (lv_at hl 1 rfl) ?_
  refine xr_get hf hK hw 0 0 rfl rfl in_X10 0 (by decide) q474 (fun _ h => h) rfl dX10_join_31 ?_
  refine lv_aload_n hx hb dX10_join_34 rfl (lv_at hl 1 rfl) ?_
  refine lv_iload_n hx hb dX10_join_35 rfl (lv_at hl 0 rfl) ?_
  refine xc_V (rest := [.int x0, .ref qa1, .ref qa1]) (As := [.int 0]) hf hK hA hAz hst (hw.pick [0] rfl rfl rfl) (k_X10_pieces l D dT g z0 h0 h1 h2 x0 x1 x2 x3 x4 x5 (x6 - 1) x7 x8 x9 x10 0) (cwV 1 hts (lw_V q556 q558 qs7 q71 q559) rfl rfl rfl (by decide +kernel) ⟨Nat.le_of_ble_eq_true rfl, Nat.le_of_ble_eq_true rfl⟩) (xr_rv hK hw 0 0 rfl rfl) rfl hl.1 rfl (Nat.le_of_ble_eq_true rfl) dX10_join_36 ⟨(Nat.le_of_ble_eq_true rfl), (Nat.le_of_ble_eq_true rfl)⟩ (fun _ _ _ _ _ _ h => h.elim) (fun v9 LL1 H locs hp hw => ?_)
  obtain ⟨q_2, rfl, rfl⟩ := hp
  have hw : Wd D A s.heap _ _ [[ob h0 9 [.int x0, .int x1, .int x2, .ref h1, .ref h2, .int x9, .int x10], (h1, aI dT [x3, x4, x5]), (h2, aI dT [(x6 - 1), x7, x8])], [(q_2, aI dT (lo_pieces x1 0))], [ob qa1 12 [.int 0, .null, .int 0]]] := hw
  refine W.eq (g2 := F0 m 39 ls [.ref q_2, .int x0, .ref qa1, .ref qa1]) rfl ?_
  refine xc_I (rest := [.ref qa1]) (As := [.int x0, .ref q_2]) hf hK hA hAz hst (hw.pick [2] rfl rfl rfl) (k_X13_init l D dT g z0 qa1 q_2 x0) (cwI 2 hts (lw_meth q448) rfl rfl rfl (hts _ q74) (hts _ q561) (hts _ q447) rfl (by decide +kernel) ⟨Nat.le_of_ble_eq_true rfl, Nat.le_of_ble_eq_true rfl⟩) rfl hl.1 rfl (Nat.le_of_ble_eq_true rfl) dX10_join_39 ⟨(Nat.le_of_ble_eq_true rfl), (Nat.le_of_ble_eq_true rfl)⟩ (fun _ _ _ _ _ _ h => h.elim) (fun v9 LL1 H locs hp hw => ?_)
  obtain ⟨r3, hr3⟩ : ∃ z, z = f_X13_init x0 := ⟨_, rfl⟩
  rw [← hr3] at hp
  obtain ⟨rfl, rfl⟩ := hp
  have hw : Wd D A s.heap _ _ [[ob qa1 12 [.int (r3 0), .ref q_2, .int (r3 1)]], [ob h0 9 [.int x0, .int x1, .int x2, .ref h1, .ref h2, .int x9, .int x10], (h1, aI dT [x3, x4, x5]), (h2, aI dT [(x6 - 1), x7, x8])], [(q_2, aI dT (lo_pieces x1 0))]] := hw
  refine W.eq (g2 := F0 m 42 ls [.ref qa1]) rfl ?_
  have hw : Wd D A s.heap _ _ [[ob h0 9 [.int x0, .int x1, .int x2, .ref h1, .ref h2, .int x9, .int x10], (h1, aI dT [x3, x4, x5]), (h2, aI dT [(x6 - 1), x7, x8])], [ob qa1 12 [.int (r3 0), .ref q_2, .int (r3 1)]], [(q_2, aI dT (lo_pieces x1 0))]] := Wd.take hw [1, 0, 0] rfl rfl
  have hwZ := hw
  subst hr3
  have hw := hwZ
  exact xr_aret hf hr (by first | exact Or.inl ⟨_, rfl⟩ | exact Or.inr ⟨_, rfl⟩) (Or.inr ⟨_, rfl⟩) hlocks hw (Nat.le_of_ble_eq_true rfl) (Nat.le_of_ble_eq_true rfl) ⟨qa1, q_2, rfl, rfl⟩ dX10_join_42

set_option maxHeartbeats 4000000 in
theorem k_X10_join_k1 (l : Launch) (D : va_G) (dT g : Nat → Nat) (z0 : Nat) (h0 : Nat) (h1 : Nat) (h2 : Nat) (x0 : Int32) (x1 : Int32) (x2 : Int32) (x3 : Int32) (x4 : Int32) (x5 : Int32) (x6 : Int32) (x7 : Int32) (x8 : Int32) (x9 : Int32) (x10 : Int32) (g0 : x6 ≤ 0) (gk : ¬ x7 ≤ 0) : Con l D dT g z0 yX10_join (ws_ yX10_join cX10_join 2 (some (.object "SilkRow$Filament"))) ({ frames := 2, cells := 4, slots := 15, locals := 64 }) [.ref h0] [[ob h0 9 [.int x0, .int x1, .int x2, .ref h1, .ref h2, .int x9, .int x10], (h1, aI dT [x3, x4, x5]), (h2, aI dT [x6, x7, x8])]] (fun r LL => ∃ (qa : Nat) (qb : Nat), r = some (.ref qa) ∧ LL = [[ob h0 9 [.int x0, .int x1, .int x2, .ref h1, .ref h2, .int x9, .int x10], (h1, aI dT [x3, x4, x5]), (h2, aI dT [x6, (x7 - 1), x8])], [ob qa 12 [.int x0, .ref qb, .int 0]], [(qb, aI dT (lo_pieces x1 1))]]) noX 4 15 := by
  refine Con.of (maxL := 2) (ret := (some (.object "SilkRow$Filament"))) (by first | exact plainFor_of_name (by decide) | decide +kernel) (Nat.le_of_ble_eq_true rfl) ?_
  intro p e s m args below meth c A ls hf hr hlocks hnm hno hK hA hAz hw hl hst
  have hf : CallFix p m c cX10_join 2 s args lw_all "SilkRow$Lot" := hf
  have hnm : meth.name = "join" := hnm
  have hx := hf.1
  have hb := hf.2.1
  have hts := hf.2.2.2.2
  have hl : lv_has ls 2 [(0, .ref h0)] := hl
  have hw : Wd D A s.heap s.heap [] [[ob h0 9 [.int x0, .int x1, .int x2, .ref h1, .ref h2, .int x9, .int x10], (h1, aI dT [x3, x4, x5]), (h2, aI dT [x6, x7, x8])]] := hw
  refine lv_iconst (v := 0) hx hb dX10_join_0 (by decide) ?_
  refine lv_istore_n (lv' := [(1, .int 0), (0, .ref h0)]) hx hb dX10_join_1 rfl hl (by decide) rfl (fun ls hl => ?_)
  refine lv_iload_n hx hb dX10_join_2 rfl (lv_at hl 0 rfl) ?_
  refine lv_iconst (v := 3) hx hb dX10_join_3 (by decide) ?_
  refine lv_icmp_ge (tgt := 49) hx hb dX10_join_4 (by decide) (fun c9 => absurd c9 (by decide)) (fun _ => ?_)
  refine lv_aload_n hx hb dX10_join_7 rfl (lv_at hl 1 rfl) ?_
  refine xr_get hf hK hw 0 0 rfl rfl in_X10 4 (by decide) q482 (fun _ h => h) rfl dX10_join_8 ?_
  refine lv_iload_n hx hb dX10_join_11 rfl (lv_at hl 0 rfl) ?_
  refine xr_iald hf hK hw 0 2 rfl 0 (by decide) (by decide) (Nat.le_of_ble_eq_true rfl) rfl dX10_join_12 ?_
  refine lv_if_le (tgt := 43) hx hb dX10_join_13 (by decide) (fun _ => ?_) (fun c9 => absurd g0 c9)
  refine lv_iinc (v := 1) (lv' := [(1, .int 1), (0, .ref h0)]) hx hb dX10_join_43 hl (k := 0) rfl (by decide) (by decide) rfl (fun ls hl => ?_)
  refine lv_goto (tgt := 2) hx hb dX10_join_46 (by decide) ?_
  refine lv_iload_n hx hb dX10_join_2 rfl (lv_at hl 0 rfl) ?_
  refine lv_iconst (v := 3) hx hb dX10_join_3 (by decide) ?_
  refine lv_icmp_ge (tgt := 49) hx hb dX10_join_4 (by decide) (fun c9 => absurd c9 (by decide)) (fun _ => ?_)
  refine lv_aload_n hx hb dX10_join_7 rfl (lv_at hl 1 rfl) ?_
  refine xr_get hf hK hw 0 0 rfl rfl in_X10 4 (by decide) q482 (fun _ h => h) rfl dX10_join_8 ?_
  refine lv_iload_n hx hb dX10_join_11 rfl (lv_at hl 0 rfl) ?_
  refine xr_iald hf hK hw 0 2 rfl 1 (by decide) (by decide) (Nat.le_of_ble_eq_true rfl) rfl dX10_join_12 ?_
  refine lv_if_le (tgt := 43) hx hb dX10_join_13 (by decide) (fun c9 => absurd c9 gk) (fun _ => ?_)
  refine lv_aload_n hx hb dX10_join_16 rfl (lv_at hl 1 rfl) ?_
  refine xr_get hf hK hw 0 0 rfl rfl in_X10 4 (by decide) q482 (fun _ h => h) rfl dX10_join_17 ?_
  refine lv_iload_n hx hb dX10_join_20 rfl (lv_at hl 0 rfl) ?_
  refine lv_dup2_11 hx hb dX10_join_21 rfl rfl ?_
  refine xr_iald hf hK hw 0 2 rfl 1 (by decide) (by decide) (Nat.le_of_ble_eq_true rfl) rfl dX10_join_22 ?_
  refine lv_iconst (v := 1) hx hb dX10_join_23 (by decide) ?_
  refine lv_isub hx hb dX10_join_24 ?_
  refine xr_iast (LL' := [[ob h0 9 [.int x0, .int x1, .int x2, .ref h1, .ref h2, .int x9, .int x10], (h1, aI dT [x3, x4, x5]), (h2, aI dT [x6, (x7 - 1), x8])]]) hf hK hw 0 2 rfl 1 (by decide) (by decide) (Nat.le_of_ble_eq_true rfl) rfl dX10_join_25 (fun H locs hw => ?_)
  refine xr_new (LL' := [[ob h0 9 [.int x0, .int x1, .int x2, .ref h1, .ref h2, .int x9, .int x10], (h1, aI dT [x3, x4, x5]), (h2, aI dT [x6, (x7 - 1), x8])]]) (fs := [.int 0, .null, .int 0]) hf hK hw hA 12 rfl in_X13 tyX13_ok q555 q445 q74 rfl (Nat.le_of_ble_eq_true rfl) (Nat.le_of_ble_eq_true rfl) (fun _ => rfl) dX10_join_26 (fun qa1 H hw => ?_)
  have hw : Wd D A s.heap _ _ [[ob h0 9 [.int x0, .int x1, .int x2, .ref h1, .ref h2, .int x9, .int x10], (h1, aI dT [x3, x4, x5]), (h2, aI dT [x6, (x7 - 1), x8])], [ob qa1 12 [.int 0, .null, .int 0]]] := hw
  refine lv_dup hx hb dX10_join_29 rfl ?_
  refine lv_aload_n hx hb dX10_join_30 rfl (lv_at hl 1 rfl) ?_
  refine xr_get hf hK hw 0 0 rfl rfl in_X10 0 (by decide) q474 (fun _ h => h) rfl dX10_join_31 ?_
  refine lv_aload_n hx hb dX10_join_34 rfl (lv_at hl 1 rfl) ?_
  refine lv_iload_n hx hb dX10_join_35 rfl (lv_at hl 0 rfl) ?_
  refine xc_V (rest := [.int x0, .ref qa1, .ref qa1]) (As := [.int 1]) hf hK hA hAz hst (hw.pick [0] rfl rfl rfl) (k_X10_pieces l D dT g z0 h0 h1 h2 x0 x1 x2 x3 x4 x5 x6 (x7 - 1) x8 x9 x10 1) (cwV 1 hts (lw_V q556 q558 qs7 q71 q559) rfl rfl rfl (by decide +kernel) ⟨Nat.le_of_ble_eq_true rfl, Nat.le_of_ble_eq_true rfl⟩) (xr_rv hK hw 0 0 rfl rfl) rfl hl.1 rfl (Nat.le_of_ble_eq_true rfl) dX10_join_36 ⟨(Nat.le_of_ble_eq_true rfl), (Nat.le_of_ble_eq_true rfl)⟩ (fun _ _ _ _ _ _ h => h.elim) (fun v9 LL1 H locs hp hw => ?_)
  obtain ⟨q_2, rfl, rfl⟩ := hp
  have hw : Wd D A s.heap _ _ [[ob h0 9 [.int x0, .int x1, .int x2, .ref h1, .ref h2, .int x9, .int x10], (h1, aI dT [x3, x4, x5]), (h2, aI dT [x6, (x7 - 1), x8])], [(q_2, aI dT (lo_pieces x1 1))], [ob qa1 12 [.int 0, .null, .int 0]]] := hw
  refine W.eq (g2 := F0 m 39 ls [.ref q_2, .int x0, .ref qa1, .ref qa1]) rfl ?_
  refine xc_I (rest := [.ref qa1]) (As := [.int x0, .ref q_2]) hf hK hA hAz hst (hw.pick [2] rfl rfl rfl) (k_X13_init l D dT g z0 qa1 q_2 x0) (cwI 2 hts (lw_meth q448) rfl rfl rfl (hts _ q74) (hts _ q561) (hts _ q447) rfl (by decide +kernel) ⟨Nat.le_of_ble_eq_true rfl, Nat.le_of_ble_eq_true rfl⟩) rfl hl.1 rfl (Nat.le_of_ble_eq_true rfl) dX10_join_39 ⟨(Nat.le_of_ble_eq_true rfl), (Nat.le_of_ble_eq_true rfl)⟩ (fun _ _ _ _ _ _ h => h.elim) (fun v9 LL1 H locs hp hw => ?_)
  obtain ⟨r3, hr3⟩ : ∃ z, z = f_X13_init x0 := ⟨_, rfl⟩
  rw [← hr3] at hp
  obtain ⟨rfl, rfl⟩ := hp
  have hw : Wd D A s.heap _ _ [[ob qa1 12 [.int (r3 0), .ref q_2, .int (r3 1)]], [ob h0 9 [.int x0, .int x1, .int x2, .ref h1, .ref h2, .int x9, .int x10], (h1, aI dT [x3, x4, x5]), (h2, aI dT [x6, (x7 - 1), x8])], [(q_2, aI dT (lo_pieces x1 1))]] := hw
  refine W.eq (g2 := F0 m 42 ls [.ref qa1]) rfl ?_
  have hw : Wd D A s.heap _ _ [[ob h0 9 [.int x0, .int x1, .int x2, .ref h1, .ref h2, .int x9, .int x10], (h1, aI dT [x3, x4, x5]), (h2, aI dT [x6, (x7 - 1), x8])], [ob qa1 12 [.int (r3 0), .ref q_2, .int (r3 1)]], [(q_2, aI dT (lo_pieces x1 1))]] := Wd.take hw [1, 0, 0] rfl rfl
  have hwZ := hw
  subst hr3
  have hw := hwZ
  exact xr_aret hf hr (by first | exact Or.inl ⟨_, rfl⟩ | exact Or.inr ⟨_, rfl⟩) (Or.inr ⟨_, rfl⟩) hlocks hw (Nat.le_of_ble_eq_true rfl) (Nat.le_of_ble_eq_true rfl) ⟨qa1, q_2, rfl, rfl⟩ dX10_join_42

set_option maxHeartbeats 4000000 in
theorem k_X10_join_k2 (l : Launch) (D : va_G) (dT g : Nat → Nat) (z0 : Nat) (h0 : Nat) (h1 : Nat) (h2 : Nat) (x0 : Int32) (x1 : Int32) (x2 : Int32) (x3 : Int32) (x4 : Int32) (x5 : Int32) (x6 : Int32) (x7 : Int32) (x8 : Int32) (x9 : Int32) (x10 : Int32) (g0 : x6 ≤ 0) (g1 : x7 ≤ 0) (gk : ¬ x8 ≤ 0) : Con l D dT g z0 yX10_join (ws_ yX10_join cX10_join 2 (some (.object "SilkRow$Filament"))) ({ frames := 2, cells := 4, slots := 15, locals := 64 }) [.ref h0] [[ob h0 9 [.int x0, .int x1, .int x2, .ref h1, .ref h2, .int x9, .int x10], (h1, aI dT [x3, x4, x5]), (h2, aI dT [x6, x7, x8])]] (fun r LL => ∃ (qa : Nat) (qb : Nat), r = some (.ref qa) ∧ LL = [[ob h0 9 [.int x0, .int x1, .int x2, .ref h1, .ref h2, .int x9, .int x10], (h1, aI dT [x3, x4, x5]), (h2, aI dT [x6, x7, (x8 - 1)])], [ob qa 12 [.int x0, .ref qb, .int 0]], [(qb, aI dT (lo_pieces x1 2))]]) noX 4 15 := by
  refine Con.of (maxL := 2) (ret := (some (.object "SilkRow$Filament"))) (by first | exact plainFor_of_name (by decide) | decide +kernel) (Nat.le_of_ble_eq_true rfl) ?_
  intro p e s m args below meth c A ls hf hr hlocks hnm hno hK hA hAz hw hl hst
  have hf : CallFix p m c cX10_join 2 s args lw_all "SilkRow$Lot" := hf
  have hnm : meth.name = "join" := hnm
  have hx := hf.1
  have hb := hf.2.1
  have hts := hf.2.2.2.2
  have hl : lv_has ls 2 [(0, .ref h0)] := hl
  have hw : Wd D A s.heap s.heap [] [[ob h0 9 [.int x0, .int x1, .int x2, .ref h1, .ref h2, .int x9, .int x10], (h1, aI dT [x3, x4, x5]), (h2, aI dT [x6, x7, x8])]] := hw
  refine lv_iconst (v := 0) hx hb dX10_join_0 (by decide) ?_
  refine lv_istore_n (lv' := [(1, .int 0), (0, .ref h0)]) hx hb dX10_join_1 rfl hl (by decide) rfl (fun ls hl => ?_)
  refine lv_iload_n hx hb dX10_join_2 rfl (lv_at hl 0 rfl) ?_
  refine lv_iconst (v := 3) hx hb dX10_join_3 (by decide) ?_
  refine lv_icmp_ge (tgt := 49) hx hb dX10_join_4 (by decide) (fun c9 => absurd c9 (by decide)) (fun _ => ?_)
  refine lv_aload_n hx hb dX10_join_7 rfl (lv_at hl 1 rfl) ?_
  refine xr_get hf hK hw 0 0 rfl rfl in_X10 4 (by decide) q482 (fun _ h => h) rfl dX10_join_8 ?_
  refine lv_iload_n hx hb dX10_join_11 rfl (lv_at hl 0 rfl) ?_
  refine xr_iald hf hK hw 0 2 rfl 0 (by decide) (by decide) (Nat.le_of_ble_eq_true rfl) rfl dX10_join_12 ?_
  refine lv_if_le (tgt := 43) hx hb dX10_join_13 (by decide) (fun _ => ?_) (fun c9 => absurd g0 c9)
  refine lv_iinc (v := 1) (lv' := [(1, .int 1), (0, .ref h0)]) hx hb dX10_join_43 hl (k := 0) rfl (by decide) (by decide) rfl (fun ls hl => ?_)
  refine lv_goto (tgt := 2) hx hb dX10_join_46 (by decide) ?_
  refine lv_iload_n hx hb dX10_join_2 rfl (lv_at hl 0 rfl) ?_
  refine lv_iconst (v := 3) hx hb dX10_join_3 (by decide) ?_
  refine lv_icmp_ge (tgt := 49) hx hb dX10_join_4 (by decide) (fun c9 => absurd c9 (by decide)) (fun _ => ?_)
  refine lv_aload_n hx hb dX10_join_7 rfl (lv_at hl 1 rfl) ?_
  refine xr_get hf hK hw 0 0 rfl rfl in_X10 4 (by decide) q482 (fun _ h => h) rfl dX10_join_8 ?_
  refine lv_iload_n hx hb dX10_join_11 rfl (lv_at hl 0 rfl) ?_
  refine xr_iald hf hK hw 0 2 rfl 1 (by decide) (by decide) (Nat.le_of_ble_eq_true rfl) rfl dX10_join_12 ?_
  refine lv_if_le (tgt := 43) hx hb dX10_join_13 (by decide) (fun _ => ?_) (fun c9 => absurd g1 c9)
  refine lv_iinc (v := 2) (lv' := [(1, .int 2), (0, .ref h0)]) hx hb dX10_join_43 hl (k := 0) rfl (by decide) (by decide) rfl (fun ls hl => ?_)
  refine lv_goto (tgt := 2) hx hb dX10_join_46 (by decide) ?_
  refine lv_iload_n hx hb dX10_join_2 rfl (lv_at hl 0 rfl) ?_
  refine lv_iconst (v := 3) hx hb dX10_join_3 (by decide) ?_
  refine lv_icmp_ge (tgt := 49) hx hb dX10_join_4 (by decide) (fun c9 => absurd c9 (by decide)) (fun _ => ?_)
  refine lv_aload_n hx hb dX10_join_7 rfl (lv_at hl 1 rfl) ?_
  refine xr_get hf hK hw 0 0 rfl rfl in_X10 4 (by decide) q482 (fun _ h => h) rfl dX10_join_8 ?_
  refine lv_iload_n hx hb dX10_join_11 rfl (lv_at hl 0 rfl) ?_
  refine xr_iald hf hK hw 0 2 rfl 2 (by decide) (by decide) (Nat.le_of_ble_eq_true rfl) rfl dX10_join_12 ?_
  refine lv_if_le (tgt := 43) hx hb dX10_join_13 (by decide) (fun c9 => absurd c9 gk) (fun _ => ?_)
  refine lv_aload_n hx hb dX10_join_16 rfl (lv_at hl 1 rfl) ?_
  refine xr_get hf hK hw 0 0 rfl rfl in_X10 4 (by decide) q482 (fun _ h => h) rfl dX10_join_17 ?_
  refine lv_iload_n hx hb dX10_join_20 rfl (lv_at hl 0 rfl) ?_
  refine lv_dup2_11 hx hb dX10_join_21 rfl rfl ?_
  refine xr_iald hf hK hw 0 2 rfl 2 (by decide) (by decide) (Nat.le_of_ble_eq_true rfl) rfl dX10_join_22 ?_
  refine lv_iconst (v := 1) hx hb dX10_join_23 (by decide) ?_
  refine lv_isub hx hb dX10_join_24 ?_
  refine xr_iast (LL' := [[ob h0 9 [.int x0, .int x1, .int x2, .ref h1, .ref h2, .int x9, .int x10], (h1, aI dT [x3, x4, x5]), (h2, aI dT [x6, x7, (x8 - 1)])]]) hf hK hw 0 2 rfl 2 (by decide) (by decide) (Nat.le_of_ble_eq_true rfl) rfl dX10_join_25 (fun H locs hw => ?_)
  refine xr_new (LL' := [[ob h0 9 [.int x0, .int x1, .int x2, .ref h1, .ref h2, .int x9, .int x10], (h1, aI dT [x3, x4, x5]), (h2, aI dT [x6, x7, (x8 - 1)])]]) (fs := [.int 0, .null, .int 0]) hf hK hw hA 12 rfl in_X13 tyX13_ok q555 q445 q74 rfl (Nat.le_of_ble_eq_true rfl) (Nat.le_of_ble_eq_true rfl) (fun _ => rfl) dX10_join_26 (fun qa1 H hw => ?_)
  have hw : Wd D A s.heap _ _ [[ob h0 9 [.int x0, .int x1, .int x2, .ref h1, .ref h2, .int x9, .int x10], (h1, aI dT [x3, x4, x5]), (h2, aI dT [x6, x7, (x8 - 1)])], [ob qa1 12 [.int 0, .null, .int 0]]] := hw
  refine lv_dup hx hb dX10_join_29 rfl ?_
  refine lv_aload_n hx hb dX10_join_30 rfl (lv_at hl 1 rfl) ?_
  refine xr_get hf hK hw 0 0 rfl rfl in_X10 0 (by decide) q474 (fun _ h => h) rfl dX10_join_31 ?_
  refine lv_aload_n hx hb dX10_join_34 rfl (lv_at hl 1 rfl) ?_
  refine lv_iload_n hx hb dX10_join_35 rfl (lv_at hl 0 rfl) ?_
  refine xc_V (rest := [.int x0, .ref qa1, .ref qa1]) (As := [.int 2]) hf hK hA hAz hst (hw.pick [0] rfl rfl rfl) (k_X10_pieces l D dT g z0 h0 h1 h2 x0 x1 x2 x3 x4 x5 x6 x7 (x8 - 1) x9 x10 2) (cwV 1 hts (lw_V q556 q558 qs7 q71 q559) rfl rfl rfl (by decide +kernel) ⟨Nat.le_of_ble_eq_true rfl, Nat.le_of_ble_eq_true rfl⟩) (xr_rv hK hw 0 0 rfl rfl) rfl hl.1 rfl (Nat.le_of_ble_eq_true rfl) dX10_join_36 ⟨(Nat.le_of_ble_eq_true rfl), (Nat.le_of_ble_eq_true rfl)⟩ (fun _ _ _ _ _ _ h => h.elim) (fun v9 LL1 H locs hp hw => ?_)
  obtain ⟨q_2, rfl, rfl⟩ := hp
  have hw : Wd D A s.heap _ _ [[ob h0 9 [.int x0, .int x1, .int x2, .ref h1, .ref h2, .int x9, .int x10], (h1, aI dT [x3, x4, x5]), (h2, aI dT [x6, x7, (x8 - 1)])], [(q_2, aI dT (lo_pieces x1 2))], [ob qa1 12 [.int 0, .null, .int 0]]] := hw
  refine W.eq (g2 := F0 m 39 ls [.ref q_2, .int x0, .ref qa1, .ref qa1]) rfl ?_
  refine xc_I (rest := [.ref qa1]) (As := [.int x0, .ref q_2]) hf hK hA hAz hst (hw.pick [2] rfl rfl rfl) (k_X13_init l D dT g z0 qa1 q_2 x0) (cwI 2 hts (lw_meth q448) rfl rfl rfl (hts _ q74) (hts _ q561) (hts _ q447) rfl (by decide +kernel) ⟨Nat.le_of_ble_eq_true rfl, Nat.le_of_ble_eq_true rfl⟩) rfl hl.1 rfl (Nat.le_of_ble_eq_true rfl) dX10_join_39 ⟨(Nat.le_of_ble_eq_true rfl), (Nat.le_of_ble_eq_true rfl)⟩ (fun _ _ _ _ _ _ h => h.elim) (fun v9 LL1 H locs hp hw => ?_)
  obtain ⟨r3, hr3⟩ : ∃ z, z = f_X13_init x0 := ⟨_, rfl⟩
  rw [← hr3] at hp
  obtain ⟨rfl, rfl⟩ := hp
  have hw : Wd D A s.heap _ _ [[ob qa1 12 [.int (r3 0), .ref q_2, .int (r3 1)]], [ob h0 9 [.int x0, .int x1, .int x2, .ref h1, .ref h2, .int x9, .int x10], (h1, aI dT [x3, x4, x5]), (h2, aI dT [x6, x7, (x8 - 1)])], [(q_2, aI dT (lo_pieces x1 2))]] := hw
  refine W.eq (g2 := F0 m 42 ls [.ref qa1]) rfl ?_
  have hw : Wd D A s.heap _ _ [[ob h0 9 [.int x0, .int x1, .int x2, .ref h1, .ref h2, .int x9, .int x10], (h1, aI dT [x3, x4, x5]), (h2, aI dT [x6, x7, (x8 - 1)])], [ob qa1 12 [.int (r3 0), .ref q_2, .int (r3 1)]], [(q_2, aI dT (lo_pieces x1 2))]] := Wd.take hw [1, 0, 0] rfl rfl
  have hwZ := hw
  subst hr3
  have hw := hwZ
  exact xr_aret hf hr (by first | exact Or.inl ⟨_, rfl⟩ | exact Or.inr ⟨_, rfl⟩) (Or.inr ⟨_, rfl⟩) hlocks hw (Nat.le_of_ble_eq_true rfl) (Nat.le_of_ble_eq_true rfl) ⟨qa1, q_2, rfl, rfl⟩ dX10_join_42

