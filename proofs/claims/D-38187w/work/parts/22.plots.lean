/-! LEAVES: 22.plots (printed by gen/leaves.py) -/
set_option maxRecDepth 100000
def f_X8_init  (x : Int32) : (Nat → Int32) :=
  (vec [x, 0, 0, 0, 0, 0])
set_option maxHeartbeats 4000000 in
theorem k_X8_init (l : Launch) (D : va_G) (dT g : Nat → Nat) (z0 : Nat) (h0 : Nat)  (x : Int32) : Con l D dT g z0 yX8_init (ws_ yX8_init cX8_init 2 none) ({ frames := 1, cells := 1, slots := 4, locals := 40 }) [.ref h0, .int x] [[ob h0 7 [.int 0, .int 0, .null]]] (fun r LL => ∃ a1 : Nat, r = none ∧ LL = [plS dT h0 a1 (f_X8_init x)]) noX 1 4 := by
  refine Con.of (maxL := 2) (ret := none) (by first | exact plainFor_of_name (by decide) | decide +kernel) (Nat.le_of_ble_eq_true rfl) ?_
  intro p e s m args below meth c A ls hf hr hlocks hnm hno hK hA hAz hw hl hst
  have hf : CallFix p m c cX8_init 2 s args lw_all "SilkRow$Plot" := hf
  have hnm : meth.name = "<init>" := hnm
  have hx := hf.1
  have hb := hf.2.1
  have hts := hf.2.2.2.2
  have hl : lv_has ls 2 [(0, .ref h0), (1, .int x)] := hl
  have hw : Wd D A s.heap s.heap [] [[ob h0 7 [.int 0, .int 0, .null]]] := hw
  refine lv_aload_n hx hb dX8_init_0 rfl (lv_at hl 0 rfl) ?_
  refine W.objInit hx hb hf.2.2.2.1 (hts _ q755) (hts _ q83) (hts _ q84) rfl (by rw [hf.2.2.1]; exact hl.1) rfl dX8_init_1 (Nat.le_of_ble_eq_true rfl) (Nat.le_of_ble_eq_true rfl) ?_
  refine W.eq (g2 := F0 m 4 ls []) rfl ?_
  refine lv_aload_n hx hb dX8_init_4 rfl (lv_at hl 0 rfl) ?_
  refine lv_iconst (v := 4) hx hb dX8_init_5 (by decide) ?_
  refine xr_newi hf hK hw hA q463 (N := 4) (by decide) (by decide) (Nat.le_of_ble_eq_true rfl) (Nat.le_of_ble_eq_true rfl) (Nat.le_of_ble_eq_true rfl) dX8_init_6 (fun qa1 H hw => ?_)
  have hw : Wd D A s.heap _ _ [[ob h0 7 [.int 0, .int 0, .null]], [(qa1, aI dT [0, 0, 0, 0])]] := hw
  refine xr_putF (LL' := [[ob h0 7 [.int 0, .int 0, .ref qa1]], [(qa1, aI dT [0, 0, 0, 0])]]) hf hK hw 0 0 rfl rfl in_X8 tyX8_ok nmX8 2 (by decide) q760 (fun _ h => h) rfl hnm rfl rfl rfl (Nat.le_of_ble_eq_true rfl) rfl dX8_init_8 (fun H locs hw => ?_)
  refine lv_aload_n hx hb dX8_init_11 rfl (lv_at hl 0 rfl) ?_
  refine lv_iload_n hx hb dX8_init_12 rfl (lv_at hl 1 rfl) ?_
  refine xr_putF (LL' := [[ob h0 7 [.int x, .int 0, .ref qa1]], [(qa1, aI dT [0, 0, 0, 0])]]) hf hK hw 0 0 rfl rfl in_X8 tyX8_ok nmX8 0 (by decide) q756 (fun _ h => h) rfl hnm rfl rfl rfl (Nat.le_of_ble_eq_true rfl) rfl dX8_init_13 (fun H locs hw => ?_)
  have hw := Wd.take (L2 := [[ob h0 7 [.int x, .int 0, .ref qa1]], [(qa1, aI dT [0, 0, 0, 0])]]) hw [0, 0] rfl rfl
  have e9 : f_X8_init x = (vec [x, 0, 0, 0, 0, 0]) := by
    unfold f_X8_init
    try rfl
  have hw : Wd D A s.heap _ _ [[ob h0 7 [.int x, .int 0, .ref qa1], (qa1, aI dT [0, 0, 0, 0])]] := hw.eq rfl
  have p1 := congrArg (fun z : (Nat → Int32) => [plS dT h0 qa1 z]) e9.symm
  exact xr_vret hf hr hlocks hw (Nat.le_of_ble_eq_true rfl) (Nat.le_of_ble_eq_true rfl) ⟨qa1, rfl, p1⟩ dX8_init_16

def f_X8_pass (v : Nat → Int32) (x : Int32) : (Nat → Int32) :=
  if v 1 ≤ 0 then
    (vec [v 0, v 1, (v 0 * x), v 2, v 3, (imin 99 (v 5 + v 4))])
  else
    (vec [v 0, (v 1 - 1), v 2, v 3, v 4, v 5])
set_option maxHeartbeats 4000000 in
theorem k_X8_pass (l : Launch) (D : va_G) (dT g : Nat → Nat) (z0 : Nat) (h0 : Nat) (h1 : Nat) (v : Nat → Int32) (x : Int32) : Con l D dT g z0 yX8_pass (ws_ yX8_pass cX8_pass 2 none) ({ frames := 1, cells := 0, slots := 0, locals := 40 }) [.ref h0, .int x] [plS dT h0 h1 v] (fun r LL => r = none ∧ LL = [plS dT h0 h1 (f_X8_pass v x)]) noX 0 0 := by
  refine Con.of (maxL := 2) (ret := none) (by first | exact plainFor_of_name (by decide) | decide +kernel) (Nat.le_of_ble_eq_true rfl) ?_
  intro p e s m args below meth c A ls hf hr hlocks hnm hno hK hA hAz hw hl hst
  have hf : CallFix p m c cX8_pass 2 s args lw_all "SilkRow$Plot" := hf
  have hnm : meth.name = "pass" := hnm
  have hx := hf.1
  have hb := hf.2.1
  have hts := hf.2.2.2.2
  have hl : lv_has ls 2 [(0, .ref h0), (1, .int x)] := hl
  have hw : Wd D A s.heap s.heap [] [[ob h0 7 [.int (v 0), .int (v 1), .ref h1], (h1, aI dT [v 2, v 3, v 4, v 5])]] := hw
  refine lv_aload_n hx hb dX8_pass_0 rfl (lv_at hl 0 rfl) ?_
  refine xr_get hf hK hw 0 0 rfl rfl in_X8 1 (by decide) q758 (fun _ h => h) rfl dX8_pass_1 ?_
  refine lv_if_le (tgt := 18) hx hb dX8_pass_4 (by decide) (fun c_4 => ?_) (fun c_4 => ?_)
  · refine lv_aload_n hx hb dX8_pass_18 rfl (lv_at hl 0 rfl) ?_
    refine xr_get hf hK hw 0 0 rfl rfl in_X8 2 (by decide) q760 (fun _ h => h) rfl dX8_pass_19 ?_
    refine lv_iconst (v := 3) hx hb dX8_pass_22 (by decide) ?_
    refine lv_bipush (v := 99) hx hb dX8_pass_23 (by decide) ?_
    refine lv_aload_n hx hb dX8_pass_25 rfl (lv_at hl 0 rfl) ?_
    refine xr_get hf hK hw 0 0 rfl rfl in_X8 2 (by decide) q760 (fun _ h => h) rfl dX8_pass_26 ?_
    refine lv_iconst (v := 3) hx hb dX8_pass_29 (by decide) ?_
    refine xr_iald hf hK hw 0 1 rfl 3 (by decide) (by decide) (Nat.le_of_ble_eq_true rfl) rfl dX8_pass_30 ?_
    refine lv_aload_n hx hb dX8_pass_31 rfl (lv_at hl 0 rfl) ?_
    refine xr_get hf hK hw 0 0 rfl rfl in_X8 2 (by decide) q760 (fun _ h => h) rfl dX8_pass_32 ?_
    refine lv_iconst (v := 2) hx hb dX8_pass_35 (by decide) ?_
    refine xr_iald hf hK hw 0 1 rfl 2 (by decide) (by decide) (Nat.le_of_ble_eq_true rfl) rfl dX8_pass_36 ?_
    refine lv_iadd hx hb dX8_pass_37 ?_
    refine va_mmin hx hb (by rw [hf.2.2.1]; exact hl.1.symm) hf.2.2.2.1 (hts _ q784) (hts _ q193) (hts _ q50) (hts _ q194) (Nat.le_of_ble_eq_true rfl) (Nat.le_of_ble_eq_true rfl) (Nat.le_of_ble_eq_true rfl) (Nat.le_of_ble_eq_true rfl) dX8_pass_38 ?_
    refine lv_as (y := imin 99 (v 5 + v 4)) rfl ?_
    refine xr_iast (LL' := [[ob h0 7 [.int (v 0), .int (v 1), .ref h1], (h1, aI dT [v 2, v 3, v 4, (imin 99 (v 5 + v 4))])]]) hf hK hw 0 1 rfl 3 (by decide) (by decide) (Nat.le_of_ble_eq_true rfl) rfl dX8_pass_41 (fun H locs hw => ?_)
    refine lv_aload_n hx hb dX8_pass_42 rfl (lv_at hl 0 rfl) ?_
    refine xr_get hf hK hw 0 0 rfl rfl in_X8 2 (by decide) q760 (fun _ h => h) rfl dX8_pass_43 ?_
    refine lv_iconst (v := 2) hx hb dX8_pass_46 (by decide) ?_
    refine lv_aload_n hx hb dX8_pass_47 rfl (lv_at hl 0 rfl) ?_
    refine xr_get hf hK hw 0 0 rfl rfl in_X8 2 (by decide) q760 (fun _ h => h) rfl dX8_pass_48 ?_
    refine lv_iconst (v := 1) hx hb dX8_pass_51 (by decide) ?_
    refine xr_iald hf hK hw 0 1 rfl 1 (by decide) (by decide) (Nat.le_of_ble_eq_true rfl) rfl dX8_pass_52 ?_
    refine xr_iast (LL' := [[ob h0 7 [.int (v 0), .int (v 1), .ref h1], (h1, aI dT [v 2, v 3, v 3, (imin 99 (v 5 + v 4))])]]) hf hK hw 0 1 rfl 2 (by decide) (by decide) (Nat.le_of_ble_eq_true rfl) rfl dX8_pass_53 (fun H locs hw => ?_)
    refine lv_aload_n hx hb dX8_pass_54 rfl (lv_at hl 0 rfl) ?_
    refine xr_get hf hK hw 0 0 rfl rfl in_X8 2 (by decide) q760 (fun _ h => h) rfl dX8_pass_55 ?_
    refine lv_iconst (v := 1) hx hb dX8_pass_58 (by decide) ?_
    refine lv_aload_n hx hb dX8_pass_59 rfl (lv_at hl 0 rfl) ?_
    refine xr_get hf hK hw 0 0 rfl rfl in_X8 2 (by decide) q760 (fun _ h => h) rfl dX8_pass_60 ?_
    refine lv_iconst (v := 0) hx hb dX8_pass_63 (by decide) ?_
    refine xr_iald hf hK hw 0 1 rfl 0 (by decide) (by decide) (Nat.le_of_ble_eq_true rfl) rfl dX8_pass_64 ?_
    refine xr_iast (LL' := [[ob h0 7 [.int (v 0), .int (v 1), .ref h1], (h1, aI dT [v 2, v 2, v 3, (imin 99 (v 5 + v 4))])]]) hf hK hw 0 1 rfl 1 (by decide) (by decide) (Nat.le_of_ble_eq_true rfl) rfl dX8_pass_65 (fun H locs hw => ?_)
    refine lv_aload_n hx hb dX8_pass_66 rfl (lv_at hl 0 rfl) ?_
    refine xr_get hf hK hw 0 0 rfl rfl in_X8 2 (by decide) q760 (fun _ h => h) rfl dX8_pass_67 ?_
    refine lv_iconst (v := 0) hx hb dX8_pass_70 (by decide) ?_
    refine lv_aload_n hx hb dX8_pass_71 rfl (lv_at hl 0 rfl) ?_
    refine xr_get hf hK hw 0 0 rfl rfl in_X8 0 (by decide) q756 (fun _ h => h) rfl dX8_pass_72 ?_
    refine lv_iload_n hx hb dX8_pass_75 rfl (lv_at hl 1 rfl) ?_
    refine lv_imul hx hb dX8_pass_76 ?_
    refine xr_iast (LL' := [[ob h0 7 [.int (v 0), .int (v 1), .ref h1], (h1, aI dT [(v 0 * x), v 2, v 3, (imin 99 (v 5 + v 4))])]]) hf hK hw 0 1 rfl 0 (by decide) (by decide) (Nat.le_of_ble_eq_true rfl) rfl dX8_pass_77 (fun H locs hw => ?_)
    have e9 : f_X8_pass v x = (vec [v 0, v 1, (v 0 * x), v 2, v 3, (imin 99 (v 5 + v 4))]) := by
      unfold f_X8_pass
      rw [if_pos c_4]
      try rfl
    have p1 := congrArg (fun z : (Nat → Int32) => [plS dT h0 h1 z]) e9.symm
    exact xr_vret hf hr hlocks hw (Nat.le_of_ble_eq_true rfl) (Nat.le_of_ble_eq_true rfl) ⟨rfl, p1⟩ dX8_pass_78
  · refine lv_aload_n hx hb dX8_pass_7 rfl (lv_at hl 0 rfl) ?_
    refine lv_dup hx hb dX8_pass_8 rfl ?_
    refine xr_get hf hK hw 0 0 rfl rfl in_X8 1 (by decide) q758 (fun _ h => h) rfl dX8_pass_9 ?_
    refine lv_iconst (v := 1) hx hb dX8_pass_12 (by decide) ?_
    refine lv_isub hx hb dX8_pass_13 ?_
    refine xr_put (LL' := [[ob h0 7 [.int (v 0), .int (v 1 - 1), .ref h1], (h1, aI dT [v 2, v 3, v 4, v 5])]]) hf hK hw 0 0 rfl rfl in_X8 tyX8_ok nmX8 1 (by decide) q758 (fun _ h => h) rfl rfl rfl (Nat.le_of_ble_eq_true rfl) rfl dX8_pass_14 (fun H locs hw => ?_)
    have e9 : f_X8_pass v x = (vec [v 0, (v 1 - 1), v 2, v 3, v 4, v 5]) := by
      unfold f_X8_pass
      rw [if_neg c_4]
      try rfl
    have p1 := congrArg (fun z : (Nat → Int32) => [plS dT h0 h1 z]) e9.symm
    exact xr_vret hf hr hlocks hw (Nat.le_of_ble_eq_true rfl) (Nat.le_of_ble_eq_true rfl) ⟨rfl, p1⟩ dX8_pass_17

def f_X8_pick (v : Nat → Int32) (x : Int32) : Int32 × (Nat → Int32) :=
  (((((0 + ((imin x (v 4)) * 2)) + ((imin (x - (imin x (v 4))) (v 3)) * 2)) + ((imin ((x - (imin x (v 4))) - (imin (x - (imin x (v 4))) (v 3))) (v 5)) * 1)) + ((imin (((x - (imin x (v 4))) - (imin (x - (imin x (v 4))) (v 3))) - (imin ((x - (imin x (v 4))) - (imin (x - (imin x (v 4))) (v 3))) (v 5))) (v 2)) * 1)), (vec [v 0, v 1, (v 2 - (imin (((x - (imin x (v 4))) - (imin (x - (imin x (v 4))) (v 3))) - (imin ((x - (imin x (v 4))) - (imin (x - (imin x (v 4))) (v 3))) (v 5))) (v 2))), (v 3 - (imin (x - (imin x (v 4))) (v 3))), (v 4 - (imin x (v 4))), (v 5 - (imin ((x - (imin x (v 4))) - (imin (x - (imin x (v 4))) (v 3))) (v 5)))]))
set_option maxHeartbeats 4000000 in
theorem k_X8_pick (l : Launch) (D : va_G) (dT g : Nat → Nat) (z0 : Nat) (h0 : Nat) (h1 : Nat) (v : Nat → Int32) (x : Int32) : Con l D dT g z0 yX8_pick (ws_ yX8_pick cX8_pick 10 (some .int)) ({ frames := 1, cells := 1, slots := 4, locals := 40 }) [.ref h0, .int x] [plS dT h0 h1 v] (fun r LL => r = some (.int (f_X8_pick v x).1) ∧ LL = [plS dT h0 h1 (f_X8_pick v x).2]) noX 1 4 := by
  refine Con.of (maxL := 10) (ret := (some .int)) (by first | exact plainFor_of_name (by decide) | decide +kernel) (Nat.le_of_ble_eq_true rfl) ?_
  intro p e s m args below meth c A ls hf hr hlocks hnm hno hK hA hAz hw hl hst
  have hf : CallFix p m c cX8_pick 10 s args lw_all "SilkRow$Plot" := hf
  have hnm : meth.name = "pick" := hnm
  have hx := hf.1
  have hb := hf.2.1
  have hts := hf.2.2.2.2
  have hl : lv_has ls 10 [(0, .ref h0), (1, .int x)] := hl
  have hw : Wd D A s.heap s.heap [] [[ob h0 7 [.int (v 0), .int (v 1), .ref h1], (h1, aI dT [v 2, v 3, v 4, v 5])]] := hw
  refine lv_iconst (v := 4) hx hb dX8_pick_0 (by decide) ?_
  refine xr_newi hf hK hw hA q463 (N := 4) (by decide) (by decide) (Nat.le_of_ble_eq_true rfl) (Nat.le_of_ble_eq_true rfl) (Nat.le_of_ble_eq_true rfl) dX8_pick_1 (fun qa1 H hw => ?_)
  have hw : Wd D A s.heap _ _ [[ob h0 7 [.int (v 0), .int (v 1), .ref h1], (h1, aI dT [v 2, v 3, v 4, v 5])], [(qa1, aI dT [0, 0, 0, 0])]] := hw
  refine lv_dup hx hb dX8_pick_3 rfl ?_
  refine lv_iconst (v := 0) hx hb dX8_pick_4 (by decide) ?_
  refine lv_iconst (v := 2) hx hb dX8_pick_5 (by decide) ?_
  refine xr_iast (LL' := [[ob h0 7 [.int (v 0), .int (v 1), .ref h1], (h1, aI dT [v 2, v 3, v 4, v 5])], [(qa1, aI dT [2, 0, 0, 0])]]) hf hK hw 1 0 rfl 0 (by decide) (by decide) (Nat.le_of_ble_eq_true rfl) rfl dX8_pick_6 (fun H locs hw => ?_)
  refine lv_dup hx hb dX8_pick_7 rfl ?_
  refine lv_iconst (v := 1) hx hb dX8_pick_8 (by decide) ?_
  refine lv_iconst (v := 1) hx hb dX8_pick_9 (by decide) ?_
  refine xr_iast (LL' := [[ob h0 7 [.int (v 0), .int (v 1), .ref h1], (h1, aI dT [v 2, v 3, v 4, v 5])], [(qa1, aI dT [2, 1, 0, 0])]]) hf hK hw 1 0 rfl 1 (by decide) (by decide) (Nat.le_of_ble_eq_true rfl) rfl dX8_pick_10 (fun H locs hw => ?_)
  refine lv_dup hx hb dX8_pick_11 rfl ?_
  refine lv_iconst (v := 2) hx hb dX8_pick_12 (by decide) ?_
  refine lv_iconst (v := 3) hx hb dX8_pick_13 (by decide) ?_
  refine xr_iast (LL' := [[ob h0 7 [.int (v 0), .int (v 1), .ref h1], (h1, aI dT [v 2, v 3, v 4, v 5])], [(qa1, aI dT [2, 1, 3, 0])]]) hf hK hw 1 0 rfl 2 (by decide) (by decide) (Nat.le_of_ble_eq_true rfl) rfl dX8_pick_14 (fun H locs hw => ?_)
  refine lv_dup hx hb dX8_pick_15 rfl ?_
  refine lv_iconst (v := 3) hx hb dX8_pick_16 (by decide) ?_
  refine lv_iconst (v := 0) hx hb dX8_pick_17 (by decide) ?_
  refine xr_iast (LL' := [[ob h0 7 [.int (v 0), .int (v 1), .ref h1], (h1, aI dT [v 2, v 3, v 4, v 5])], [(qa1, aI dT [2, 1, 3, 0])]]) hf hK hw 1 0 rfl 3 (by decide) (by decide) (Nat.le_of_ble_eq_true rfl) rfl dX8_pick_18 (fun H locs hw => ?_)
  refine lv_astore_n (lv' := [(2, .ref qa1), (0, .ref h0), (1, .int x)]) hx hb dX8_pick_19 rfl hl (by decide) rfl (fun ls hl => ?_)
  refine lv_iload_n hx hb dX8_pick_20 rfl (lv_at hl 2 rfl) ?_
  refine lv_istore_n (lv' := [(3, .int x), (2, .ref qa1), (0, .ref h0), (1, .int x)]) hx hb dX8_pick_21 rfl hl (by decide) rfl (fun ls hl => ?_)
  refine lv_iconst (v := 0) hx hb dX8_pick_22 (by decide) ?_
  refine lv_istore (lv' := [(4, .int 0), (3, .int x), (2, .ref qa1), (0, .ref h0), (1, .int x)]) hx hb dX8_pick_23 hl (by decide) rfl (fun ls hl => ?_)
  refine lv_aload_n hx hb dX8_pick_25 rfl (lv_at hl 2 rfl) ?_
  refine lv_astore (lv' := [(5, .ref qa1), (4, .int 0), (3, .int x), (2, .ref qa1), (0, .ref h0), (1, .int x)]) hx hb dX8_pick_26 hl (by decide) rfl (fun ls hl => ?_)
  refine lv_aload hx hb dX8_pick_28 (lv_at hl 0 rfl) ?_
  refine xr_ilen (v := 4) hf hK hw 1 0 rfl (by decide) dX8_pick_30 ?_
  refine lv_istore (lv' := [(6, .int 4), (5, .ref qa1), (4, .int 0), (3, .int x), (2, .ref qa1), (0, .ref h0), (1, .int x)]) hx hb dX8_pick_31 hl (by decide) rfl (fun ls hl => ?_)
  refine lv_iconst (v := 0) hx hb dX8_pick_33 (by decide) ?_
  refine lv_istore (lv' := [(7, .int 0), (6, .int 4), (5, .ref qa1), (4, .int 0), (3, .int x), (2, .ref qa1), (0, .ref h0), (1, .int x)]) hx hb dX8_pick_34 hl (by decide) rfl (fun ls hl => ?_)
  refine lv_iload hx hb dX8_pick_36 (lv_at hl 0 rfl) ?_
  refine lv_iload hx hb dX8_pick_38 (lv_at hl 1 rfl) ?_
  refine lv_icmp_ge (tgt := 111) hx hb dX8_pick_40 (by decide) (fun c9 => absurd c9 (by decide)) (fun _ => ?_)
  refine lv_aload hx hb dX8_pick_43 (lv_at hl 2 rfl) ?_
  refine lv_iload hx hb dX8_pick_45 (lv_at hl 0 rfl) ?_
  refine xr_iald hf hK hw 1 0 rfl 0 (by decide) (by decide) (Nat.le_of_ble_eq_true rfl) rfl dX8_pick_47 ?_
  refine lv_istore (lv' := [(8, .int 2), (7, .int 0), (6, .int 4), (5, .ref qa1), (4, .int 0), (3, .int x), (2, .ref qa1), (0, .ref h0), (1, .int x)]) hx hb dX8_pick_48 hl (by decide) rfl (fun ls hl => ?_)
  refine lv_iload_n hx hb dX8_pick_50 rfl (lv_at hl 5 rfl) ?_
  refine lv_aload_n hx hb dX8_pick_51 rfl (lv_at hl 7 rfl) ?_
  refine xr_get hf hK hw 0 0 rfl rfl in_X8 2 (by decide) q760 (fun _ h => h) rfl dX8_pick_52 ?_
  refine lv_iload hx hb dX8_pick_55 (lv_at hl 0 rfl) ?_
  refine xr_iald hf hK hw 0 1 rfl 2 (by decide) (by decide) (Nat.le_of_ble_eq_true rfl) rfl dX8_pick_57 ?_
  refine va_mmin hx hb (by rw [hf.2.2.1]; exact hl.1.symm) hf.2.2.2.1 (hts _ q784) (hts _ q193) (hts _ q50) (hts _ q194) (Nat.le_of_ble_eq_true rfl) (Nat.le_of_ble_eq_true rfl) (Nat.le_of_ble_eq_true rfl) (Nat.le_of_ble_eq_true rfl) dX8_pick_58 ?_
  refine lv_as (y := imin x (v 4)) rfl ?_
  refine lv_istore (lv' := [(9, .int (imin x (v 4))), (8, .int 2), (7, .int 0), (6, .int 4), (5, .ref qa1), (4, .int 0), (3, .int x), (2, .ref qa1), (0, .ref h0), (1, .int x)]) hx hb dX8_pick_61 hl (by decide) rfl (fun ls hl => ?_)
  refine lv_aload_n hx hb dX8_pick_63 rfl (lv_at hl 8 rfl) ?_
  refine xr_get hf hK hw 0 0 rfl rfl in_X8 2 (by decide) q760 (fun _ h => h) rfl dX8_pick_64 ?_
  refine lv_iload hx hb dX8_pick_67 (lv_at hl 1 rfl) ?_
  refine lv_dup2_11 hx hb dX8_pick_69 rfl rfl ?_
  refine xr_iald hf hK hw 0 1 rfl 2 (by decide) (by decide) (Nat.le_of_ble_eq_true rfl) rfl dX8_pick_70 ?_
  refine lv_iload hx hb dX8_pick_71 (lv_at hl 0 rfl) ?_
  refine lv_isub hx hb dX8_pick_73 ?_
  refine xr_iast (LL' := [[ob h0 7 [.int (v 0), .int (v 1), .ref h1], (h1, aI dT [v 2, v 3, (v 4 - (imin x (v 4))), v 5])], [(qa1, aI dT [2, 1, 3, 0])]]) hf hK hw 0 1 rfl 2 (by decide) (by decide) (Nat.le_of_ble_eq_true rfl) rfl dX8_pick_74 (fun H locs hw => ?_)
  refine lv_iload_n hx hb dX8_pick_75 rfl (lv_at hl 6 rfl) ?_
  refine lv_iload hx hb dX8_pick_76 (lv_at hl 0 rfl) ?_
  refine lv_isub hx hb dX8_pick_78 ?_
  refine lv_istore_n (lv' := [(3, .int (x - (imin x (v 4)))), (9, .int (imin x (v 4))), (8, .int 2), (7, .int 0), (6, .int 4), (5, .ref qa1), (4, .int 0), (2, .ref qa1), (0, .ref h0), (1, .int x)]) hx hb dX8_pick_79 rfl hl (by decide) rfl (fun ls hl => ?_)
  refine lv_iload hx hb dX8_pick_80 (lv_at hl 6 rfl) ?_
  refine lv_iload hx hb dX8_pick_82 (lv_at hl 1 rfl) ?_
  refine lv_iload hx hb dX8_pick_84 (lv_at hl 2 rfl) ?_
  refine lv_iconst (v := 1) hx hb dX8_pick_86 (by decide) ?_
  refine lv_icmp_eq (tgt := 96) hx hb dX8_pick_87 (by decide) (fun c9 => absurd c9 (by decide)) (fun _ => ?_)
  refine lv_iload hx hb dX8_pick_90 (lv_at hl 2 rfl) ?_
  refine lv_iconst (v := 2) hx hb dX8_pick_92 (by decide) ?_
  refine lv_icmp_ne (tgt := 100) hx hb dX8_pick_93 (by decide) (fun c9 => absurd c9 (by decide)) (fun _ => ?_)
  refine lv_iconst (v := 2) hx hb dX8_pick_96 (by decide) ?_
  refine lv_goto (tgt := 101) hx hb dX8_pick_97 (by decide) ?_
  refine lv_imul hx hb dX8_pick_101 ?_
  refine lv_iadd hx hb dX8_pick_102 ?_
  refine lv_istore (lv' := [(4, .int (0 + ((imin x (v 4)) * 2))), (3, .int (x - (imin x (v 4)))), (9, .int (imin x (v 4))), (8, .int 2), (7, .int 0), (6, .int 4), (5, .ref qa1), (2, .ref qa1), (0, .ref h0), (1, .int x)]) hx hb dX8_pick_103 hl (by decide) rfl (fun ls hl => ?_)
  refine lv_iinc (v := 1) (lv' := [(7, .int 1), (4, .int (0 + ((imin x (v 4)) * 2))), (3, .int (x - (imin x (v 4)))), (9, .int (imin x (v 4))), (8, .int 2), (6, .int 4), (5, .ref qa1), (2, .ref qa1), (0, .ref h0), (1, .int x)]) hx hb dX8_pick_105 hl (k := 4) rfl (by decide) (by decide) rfl (fun ls hl => ?_)
  refine lv_goto (tgt := 36) hx hb dX8_pick_108 (by decide) ?_
  refine lv_iload hx hb dX8_pick_36 (lv_at hl 0 rfl) ?_
  refine lv_iload hx hb dX8_pick_38 (lv_at hl 5 rfl) ?_
  refine lv_icmp_ge (tgt := 111) hx hb dX8_pick_40 (by decide) (fun c9 => absurd c9 (by decide)) (fun _ => ?_)
  refine lv_aload hx hb dX8_pick_43 (lv_at hl 6 rfl) ?_
  refine lv_iload hx hb dX8_pick_45 (lv_at hl 0 rfl) ?_
  refine xr_iald hf hK hw 1 0 rfl 1 (by decide) (by decide) (Nat.le_of_ble_eq_true rfl) rfl dX8_pick_47 ?_
  refine lv_istore (lv' := [(8, .int 1), (7, .int 1), (4, .int (0 + ((imin x (v 4)) * 2))), (3, .int (x - (imin x (v 4)))), (9, .int (imin x (v 4))), (6, .int 4), (5, .ref qa1), (2, .ref qa1), (0, .ref h0), (1, .int x)]) hx hb dX8_pick_48 hl (by decide) rfl (fun ls hl => ?_)
  refine lv_iload_n hx hb dX8_pick_50 rfl (lv_at hl 3 rfl) ?_
  refine lv_aload_n hx hb dX8_pick_51 rfl (lv_at hl 8 rfl) ?_
  refine xr_get hf hK hw 0 0 rfl rfl in_X8 2 (by decide) q760 (fun _ h => h) rfl dX8_pick_52 ?_
  refine lv_iload hx hb dX8_pick_55 (lv_at hl 0 rfl) ?_
  refine xr_iald hf hK hw 0 1 rfl 1 (by decide) (by decide) (Nat.le_of_ble_eq_true rfl) rfl dX8_pick_57 ?_
  refine va_mmin hx hb (by rw [hf.2.2.1]; exact hl.1.symm) hf.2.2.2.1 (hts _ q784) (hts _ q193) (hts _ q50) (hts _ q194) (Nat.le_of_ble_eq_true rfl) (Nat.le_of_ble_eq_true rfl) (Nat.le_of_ble_eq_true rfl) (Nat.le_of_ble_eq_true rfl) dX8_pick_58 ?_
  refine lv_as (y := imin (x - (imin x (v 4))) (v 3)) rfl ?_
  refine lv_istore (lv' := [(9, .int (imin (x - (imin x (v 4))) (v 3))), (8, .int 1), (7, .int 1), (4, .int (0 + ((imin x (v 4)) * 2))), (3, .int (x - (imin x (v 4)))), (6, .int 4), (5, .ref qa1), (2, .ref qa1), (0, .ref h0), (1, .int x)]) hx hb dX8_pick_61 hl (by decide) rfl (fun ls hl => ?_)
  refine lv_aload_n hx hb dX8_pick_63 rfl (lv_at hl 8 rfl) ?_
  refine xr_get hf hK hw 0 0 rfl rfl in_X8 2 (by decide) q760 (fun _ h => h) rfl dX8_pick_64 ?_
  refine lv_iload hx hb dX8_pick_67 (lv_at hl 1 rfl) ?_
  refine lv_dup2_11 hx hb dX8_pick_69 rfl rfl ?_
  refine xr_iald hf hK hw 0 1 rfl 1 (by decide) (by decide) (Nat.le_of_ble_eq_true rfl) rfl dX8_pick_70 ?_
  refine lv_iload hx hb dX8_pick_71 (lv_at hl 0 rfl) ?_
  refine lv_isub hx hb dX8_pick_73 ?_
  refine xr_iast (LL' := [[ob h0 7 [.int (v 0), .int (v 1), .ref h1], (h1, aI dT [v 2, (v 3 - (imin (x - (imin x (v 4))) (v 3))), (v 4 - (imin x (v 4))), v 5])], [(qa1, aI dT [2, 1, 3, 0])]]) hf hK hw 0 1 rfl 1 (by decide) (by decide) (Nat.le_of_ble_eq_true rfl) rfl dX8_pick_74 (fun H locs hw => ?_)
  refine lv_iload_n hx hb dX8_pick_75 rfl (lv_at hl 4 rfl) ?_
  refine lv_iload hx hb dX8_pick_76 (lv_at hl 0 rfl) ?_
  refine lv_isub hx hb dX8_pick_78 ?_
  refine lv_istore_n (lv' := [(3, .int ((x - (imin x (v 4))) - (imin (x - (imin x (v 4))) (v 3)))), (9, .int (imin (x - (imin x (v 4))) (v 3))), (8, .int 1), (7, .int 1), (4, .int (0 + ((imin x (v 4)) * 2))), (6, .int 4), (5, .ref qa1), (2, .ref qa1), (0, .ref h0), (1, .int x)]) hx hb dX8_pick_79 rfl hl (by decide) rfl (fun ls hl => ?_)
  refine lv_iload hx hb dX8_pick_80 (lv_at hl 4 rfl) ?_
  refine lv_iload hx hb dX8_pick_82 (lv_at hl 1 rfl) ?_
  refine lv_iload hx hb dX8_pick_84 (lv_at hl 2 rfl) ?_
  refine lv_iconst (v := 1) hx hb dX8_pick_86 (by decide) ?_
  refine lv_icmp_eq (tgt := 96) hx hb dX8_pick_87 (by decide) (fun _ => ?_) (fun c9 => absurd c9 (by decide))
  refine lv_iconst (v := 2) hx hb dX8_pick_96 (by decide) ?_
  refine lv_goto (tgt := 101) hx hb dX8_pick_97 (by decide) ?_
  refine lv_imul hx hb dX8_pick_101 ?_
  refine lv_iadd hx hb dX8_pick_102 ?_
  refine lv_istore (lv' := [(4, .int ((0 + ((imin x (v 4)) * 2)) + ((imin (x - (imin x (v 4))) (v 3)) * 2))), (3, .int ((x - (imin x (v 4))) - (imin (x - (imin x (v 4))) (v 3)))), (9, .int (imin (x - (imin x (v 4))) (v 3))), (8, .int 1), (7, .int 1), (6, .int 4), (5, .ref qa1), (2, .ref qa1), (0, .ref h0), (1, .int x)]) hx hb dX8_pick_103 hl (by decide) rfl (fun ls hl => ?_)
  refine lv_iinc (v := 2) (lv' := [(7, .int 2), (4, .int ((0 + ((imin x (v 4)) * 2)) + ((imin (x - (imin x (v 4))) (v 3)) * 2))), (3, .int ((x - (imin x (v 4))) - (imin (x - (imin x (v 4))) (v 3)))), (9, .int (imin (x - (imin x (v 4))) (v 3))), (8, .int 1), (6, .int 4), (5, .ref qa1), (2, .ref qa1), (0, .ref h0), (1, .int x)]) hx hb dX8_pick_105 hl (k := 4) rfl (by decide) (by decide) rfl (fun ls hl => ?_)
  refine lv_goto (tgt := 36) hx hb dX8_pick_108 (by decide) ?_
  refine lv_iload hx hb dX8_pick_36 (lv_at hl 0 rfl) ?_
  refine lv_iload hx hb dX8_pick_38 (lv_at hl 5 rfl) ?_
  refine lv_icmp_ge (tgt := 111) hx hb dX8_pick_40 (by decide) (fun c9 => absurd c9 (by decide)) (fun _ => ?_)
  refine lv_aload hx hb dX8_pick_43 (lv_at hl 6 rfl) ?_
  refine lv_iload hx hb dX8_pick_45 (lv_at hl 0 rfl) ?_
  refine xr_iald hf hK hw 1 0 rfl 2 (by decide) (by decide) (Nat.le_of_ble_eq_true rfl) rfl dX8_pick_47 ?_
  refine lv_istore (lv' := [(8, .int 3), (7, .int 2), (4, .int ((0 + ((imin x (v 4)) * 2)) + ((imin (x - (imin x (v 4))) (v 3)) * 2))), (3, .int ((x - (imin x (v 4))) - (imin (x - (imin x (v 4))) (v 3)))), (9, .int (imin (x - (imin x (v 4))) (v 3))), (6, .int 4), (5, .ref qa1), (2, .ref qa1), (0, .ref h0), (1, .int x)]) hx hb dX8_pick_48 hl (by decide) rfl (fun ls hl => ?_)
  refine lv_iload_n hx hb dX8_pick_50 rfl (lv_at hl 3 rfl) ?_
  refine lv_aload_n hx hb dX8_pick_51 rfl (lv_at hl 8 rfl) ?_
  refine xr_get hf hK hw 0 0 rfl rfl in_X8 2 (by decide) q760 (fun _ h => h) rfl dX8_pick_52 ?_
  refine lv_iload hx hb dX8_pick_55 (lv_at hl 0 rfl) ?_
  refine xr_iald hf hK hw 0 1 rfl 3 (by decide) (by decide) (Nat.le_of_ble_eq_true rfl) rfl dX8_pick_57 ?_
  refine va_mmin hx hb (by rw [hf.2.2.1]; exact hl.1.symm) hf.2.2.2.1 (hts _ q784) (hts _ q193) (hts _ q50) (hts _ q194) (Nat.le_of_ble_eq_true rfl) (Nat.le_of_ble_eq_true rfl) (Nat.le_of_ble_eq_true rfl) (Nat.le_of_ble_eq_true rfl) dX8_pick_58 ?_
  refine lv_as (y := imin ((x - (imin x (v 4))) - (imin (x - (imin x (v 4))) (v 3))) (v 5)) rfl ?_
  refine lv_istore (lv' := [(9, .int (imin ((x - (imin x (v 4))) - (imin (x - (imin x (v 4))) (v 3))) (v 5))), (8, .int 3), (7, .int 2), (4, .int ((0 + ((imin x (v 4)) * 2)) + ((imin (x - (imin x (v 4))) (v 3)) * 2))), (3, .int ((x - (imin x (v 4))) - (imin (x - (imin x (v 4))) (v 3)))), (6, .int 4), (5, .ref qa1), (2, .ref qa1), (0, .ref h0), (1, .int x)]) hx hb dX8_pick_61 hl (by decide) rfl (fun ls hl => ?_)
  refine lv_aload_n hx hb dX8_pick_63 rfl (lv_at hl 8 rfl) ?_
  refine xr_get hf hK hw 0 0 rfl rfl in_X8 2 (by decide) q760 (fun _ h => h) rfl dX8_pick_64 ?_
  refine lv_iload hx hb dX8_pick_67 (lv_at hl 1 rfl) ?_
  refine lv_dup2_11 hx hb dX8_pick_69 rfl rfl ?_
  refine xr_iald hf hK hw 0 1 rfl 3 (by decide) (by decide) (Nat.le_of_ble_eq_true rfl) rfl dX8_pick_70 ?_
  refine lv_iload hx hb dX8_pick_71 (lv_at hl 0 rfl) ?_
  refine lv_isub hx hb dX8_pick_73 ?_
  refine xr_iast (LL' := [[ob h0 7 [.int (v 0), .int (v 1), .ref h1], (h1, aI dT [v 2, (v 3 - (imin (x - (imin x (v 4))) (v 3))), (v 4 - (imin x (v 4))), (v 5 - (imin ((x - (imin x (v 4))) - (imin (x - (imin x (v 4))) (v 3))) (v 5)))])], [(qa1, aI dT [2, 1, 3, 0])]]) hf hK hw 0 1 rfl 3 (by decide) (by decide) (Nat.le_of_ble_eq_true rfl) rfl dX8_pick_74 (fun H locs hw => ?_)
  refine lv_iload_n hx hb dX8_pick_75 rfl (lv_at hl 4 rfl) ?_
  refine lv_iload hx hb dX8_pick_76 (lv_at hl 0 rfl) ?_
  refine lv_isub hx hb dX8_pick_78 ?_
  refine lv_istore_n (lv' := [(3, .int (((x - (imin x (v 4))) - (imin (x - (imin x (v 4))) (v 3))) - (imin ((x - (imin x (v 4))) - (imin (x - (imin x (v 4))) (v 3))) (v 5)))), (9, .int (imin ((x - (imin x (v 4))) - (imin (x - (imin x (v 4))) (v 3))) (v 5))), (8, .int 3), (7, .int 2), (4, .int ((0 + ((imin x (v 4)) * 2)) + ((imin (x - (imin x (v 4))) (v 3)) * 2))), (6, .int 4), (5, .ref qa1), (2, .ref qa1), (0, .ref h0), (1, .int x)]) hx hb dX8_pick_79 rfl hl (by decide) rfl (fun ls hl => ?_)
  refine lv_iload hx hb dX8_pick_80 (lv_at hl 4 rfl) ?_
  refine lv_iload hx hb dX8_pick_82 (lv_at hl 1 rfl) ?_
  refine lv_iload hx hb dX8_pick_84 (lv_at hl 2 rfl) ?_
  refine lv_iconst (v := 1) hx hb dX8_pick_86 (by decide) ?_
  refine lv_icmp_eq (tgt := 96) hx hb dX8_pick_87 (by decide) (fun c9 => absurd c9 (by decide)) (fun _ => ?_)
  refine lv_iload hx hb dX8_pick_90 (lv_at hl 2 rfl) ?_
  refine lv_iconst (v := 2) hx hb dX8_pick_92 (by decide) ?_
  refine lv_icmp_ne (tgt := 100) hx hb dX8_pick_93 (by decide) (fun _ => ?_) (fun c9 => absurd c9 (by decide))
  refine lv_iconst (v := 1) hx hb dX8_pick_100 (by decide) ?_
  refine lv_imul hx hb dX8_pick_101 ?_
  refine lv_iadd hx hb dX8_pick_102 ?_
  refine lv_istore (lv' := [(4, .int (((0 + ((imin x (v 4)) * 2)) + ((imin (x - (imin x (v 4))) (v 3)) * 2)) + ((imin ((x - (imin x (v 4))) - (imin (x - (imin x (v 4))) (v 3))) (v 5)) * 1))), (3, .int (((x - (imin x (v 4))) - (imin (x - (imin x (v 4))) (v 3))) - (imin ((x - (imin x (v 4))) - (imin (x - (imin x (v 4))) (v 3))) (v 5)))), (9, .int (imin ((x - (imin x (v 4))) - (imin (x - (imin x (v 4))) (v 3))) (v 5))), (8, .int 3), (7, .int 2), (6, .int 4), (5, .ref qa1), (2, .ref qa1), (0, .ref h0), (1, .int x)]) hx hb dX8_pick_103 hl (by decide) rfl (fun ls hl => ?_)
  refine lv_iinc (v := 3) (lv' := [(7, .int 3), (4, .int (((0 + ((imin x (v 4)) * 2)) + ((imin (x - (imin x (v 4))) (v 3)) * 2)) + ((imin ((x - (imin x (v 4))) - (imin (x - (imin x (v 4))) (v 3))) (v 5)) * 1))), (3, .int (((x - (imin x (v 4))) - (imin (x - (imin x (v 4))) (v 3))) - (imin ((x - (imin x (v 4))) - (imin (x - (imin x (v 4))) (v 3))) (v 5)))), (9, .int (imin ((x - (imin x (v 4))) - (imin (x - (imin x (v 4))) (v 3))) (v 5))), (8, .int 3), (6, .int 4), (5, .ref qa1), (2, .ref qa1), (0, .ref h0), (1, .int x)]) hx hb dX8_pick_105 hl (k := 4) rfl (by decide) (by decide) rfl (fun ls hl => ?_)
  refine lv_goto (tgt := 36) hx hb dX8_pick_108 (by decide) ?_
  refine lv_iload hx hb dX8_pick_36 (lv_at hl 0 rfl) ?_
  refine lv_iload hx hb dX8_pick_38 (lv_at hl 5 rfl) ?_
  refine lv_icmp_ge (tgt := 111) hx hb dX8_pick_40 (by decide) (fun c9 => absurd c9 (by decide)) (fun _ => ?_)
  refine lv_aload hx hb dX8_pick_43 (lv_at hl 6 rfl) ?_
  refine lv_iload hx hb dX8_pick_45 (lv_at hl 0 rfl) ?_
  refine xr_iald hf hK hw 1 0 rfl 3 (by decide) (by decide) (Nat.le_of_ble_eq_true rfl) rfl dX8_pick_47 ?_
  refine lv_istore (lv' := [(8, .int 0), (7, .int 3), (4, .int (((0 + ((imin x (v 4)) * 2)) + ((imin (x - (imin x (v 4))) (v 3)) * 2)) + ((imin ((x - (imin x (v 4))) - (imin (x - (imin x (v 4))) (v 3))) (v 5)) * 1))), (3, .int (((x - (imin x (v 4))) - (imin (x - (imin x (v 4))) (v 3))) - (imin ((x - (imin x (v 4))) - (imin (x - (imin x (v 4))) (v 3))) (v 5)))), (9, .int (imin ((x - (imin x (v 4))) - (imin (x - (imin x (v 4))) (v 3))) (v 5))), (6, .int 4), (5, .ref qa1), (2, .ref qa1), (0, .ref h0), (1, .int x)]) hx hb dX8_pick_48 hl (by decide) rfl (fun ls hl => ?_)
  refine lv_iload_n hx hb dX8_pick_50 rfl (lv_at hl 3 rfl) ?_
  refine lv_aload_n hx hb dX8_pick_51 rfl (lv_at hl 8 rfl) ?_
  refine xr_get hf hK hw 0 0 rfl rfl in_X8 2 (by decide) q760 (fun _ h => h) rfl dX8_pick_52 ?_
  refine lv_iload hx hb dX8_pick_55 (lv_at hl 0 rfl) ?_
  refine xr_iald hf hK hw 0 1 rfl 0 (by decide) (by decide) (Nat.le_of_ble_eq_true rfl) rfl dX8_pick_57 ?_
  refine va_mmin hx hb (by rw [hf.2.2.1]; exact hl.1.symm) hf.2.2.2.1 (hts _ q784) (hts _ q193) (hts _ q50) (hts _ q194) (Nat.le_of_ble_eq_true rfl) (Nat.le_of_ble_eq_true rfl) (Nat.le_of_ble_eq_true rfl) (Nat.le_of_ble_eq_true rfl) dX8_pick_58 ?_
  refine lv_as (y := imin (((x - (imin x (v 4))) - (imin (x - (imin x (v 4))) (v 3))) - (imin ((x - (imin x (v 4))) - (imin (x - (imin x (v 4))) (v 3))) (v 5))) (v 2)) rfl ?_
  refine lv_istore (lv' := [(9, .int (imin (((x - (imin x (v 4))) - (imin (x - (imin x (v 4))) (v 3))) - (imin ((x - (imin x (v 4))) - (imin (x - (imin x (v 4))) (v 3))) (v 5))) (v 2))), (8, .int 0), (7, .int 3), (4, .int (((0 + ((imin x (v 4)) * 2)) + ((imin (x - (imin x (v 4))) (v 3)) * 2)) + ((imin ((x - (imin x (v 4))) - (imin (x - (imin x (v 4))) (v 3))) (v 5)) * 1))), (3, .int (((x - (imin x (v 4))) - (imin (x - (imin x (v 4))) (v 3))) - (imin ((x - (imin x (v 4))) - (imin (x - (imin x (v 4))) (v 3))) (v 5)))), (6, .int 4), (5, .ref qa1), (2, .ref qa1), (0, .ref h0), (1, .int x)]) hx hb dX8_pick_61 hl (by decide) rfl (fun ls hl => ?_)
  refine lv_aload_n hx hb dX8_pick_63 rfl (lv_at hl 8 rfl) ?_
  refine xr_get hf hK hw 0 0 rfl rfl in_X8 2 (by decide) q760 (fun _ h => h) rfl dX8_pick_64 ?_
  refine lv_iload hx hb dX8_pick_67 (lv_at hl 1 rfl) ?_
  refine lv_dup2_11 hx hb dX8_pick_69 rfl rfl ?_
  refine xr_iald hf hK hw 0 1 rfl 0 (by decide) (by decide) (Nat.le_of_ble_eq_true rfl) rfl dX8_pick_70 ?_
  refine lv_iload hx hb dX8_pick_71 (lv_at hl 0 rfl) ?_
  refine lv_isub hx hb dX8_pick_73 ?_
  refine xr_iast (LL' := [[ob h0 7 [.int (v 0), .int (v 1), .ref h1], (h1, aI dT [(v 2 - (imin (((x - (imin x (v 4))) - (imin (x - (imin x (v 4))) (v 3))) - (imin ((x - (imin x (v 4))) - (imin (x - (imin x (v 4))) (v 3))) (v 5))) (v 2))), (v 3 - (imin (x - (imin x (v 4))) (v 3))), (v 4 - (imin x (v 4))), (v 5 - (imin ((x - (imin x (v 4))) - (imin (x - (imin x (v 4))) (v 3))) (v 5)))])], [(qa1, aI dT [2, 1, 3, 0])]]) hf hK hw 0 1 rfl 0 (by decide) (by decide) (Nat.le_of_ble_eq_true rfl) rfl dX8_pick_74 (fun H locs hw => ?_)
  refine lv_iload_n hx hb dX8_pick_75 rfl (lv_at hl 4 rfl) ?_
  refine lv_iload hx hb dX8_pick_76 (lv_at hl 0 rfl) ?_
  refine lv_isub hx hb dX8_pick_78 ?_
  refine lv_istore_n (lv' := [(3, .int ((((x - (imin x (v 4))) - (imin (x - (imin x (v 4))) (v 3))) - (imin ((x - (imin x (v 4))) - (imin (x - (imin x (v 4))) (v 3))) (v 5))) - (imin (((x - (imin x (v 4))) - (imin (x - (imin x (v 4))) (v 3))) - (imin ((x - (imin x (v 4))) - (imin (x - (imin x (v 4))) (v 3))) (v 5))) (v 2)))), (9, .int (imin (((x - (imin x (v 4))) - (imin (x - (imin x (v 4))) (v 3))) - (imin ((x - (imin x (v 4))) - (imin (x - (imin x (v 4))) (v 3))) (v 5))) (v 2))), (8, .int 0), (7, .int 3), (4, .int (((0 + ((imin x (v 4)) * 2)) + ((imin (x - (imin x (v 4))) (v 3)) * 2)) + ((imin ((x - (imin x (v 4))) - (imin (x - (imin x (v 4))) (v 3))) (v 5)) * 1))), (6, .int 4), (5, .ref qa1), (2, .ref qa1), (0, .ref h0), (1, .int x)]) hx hb dX8_pick_79 rfl hl (by decide) rfl (fun ls hl => ?_)
  refine lv_iload hx hb dX8_pick_80 (lv_at hl 4 rfl) ?_
  refine lv_iload hx hb dX8_pick_82 (lv_at hl 1 rfl) ?_
  refine lv_iload hx hb dX8_pick_84 (lv_at hl 2 rfl) ?_
  refine lv_iconst (v := 1) hx hb dX8_pick_86 (by decide) ?_
  refine lv_icmp_eq (tgt := 96) hx hb dX8_pick_87 (by decide) (fun c9 => absurd c9 (by decide)) (fun _ => ?_)
  refine lv_iload hx hb dX8_pick_90 (lv_at hl 2 rfl) ?_
  refine lv_iconst (v := 2) hx hb dX8_pick_92 (by decide) ?_
  refine lv_icmp_ne (tgt := 100) hx hb dX8_pick_93 (by decide) (fun _ => ?_) (fun c9 => absurd c9 (by decide))
  refine lv_iconst (v := 1) hx hb dX8_pick_100 (by decide) ?_
  refine lv_imul hx hb dX8_pick_101 ?_
  refine lv_iadd hx hb dX8_pick_102 ?_
  refine lv_istore (lv' := [(4, .int ((((0 + ((imin x (v 4)) * 2)) + ((imin (x - (imin x (v 4))) (v 3)) * 2)) + ((imin ((x - (imin x (v 4))) - (imin (x - (imin x (v 4))) (v 3))) (v 5)) * 1)) + ((imin (((x - (imin x (v 4))) - (imin (x - (imin x (v 4))) (v 3))) - (imin ((x - (imin x (v 4))) - (imin (x - (imin x (v 4))) (v 3))) (v 5))) (v 2)) * 1))), (3, .int ((((x - (imin x (v 4))) - (imin (x - (imin x (v 4))) (v 3))) - (imin ((x - (imin x (v 4))) - (imin (x - (imin x (v 4))) (v 3))) (v 5))) - (imin (((x - (imin x (v 4))) - (imin (x - (imin x (v 4))) (v 3))) - (imin ((x - (imin x (v 4))) - (imin (x - (imin x (v 4))) (v 3))) (v 5))) (v 2)))), (9, .int (imin (((x - (imin x (v 4))) - (imin (x - (imin x (v 4))) (v 3))) - (imin ((x - (imin x (v 4))) - (imin (x - (imin x (v 4))) (v 3))) (v 5))) (v 2))), (8, .int 0), (7, .int 3), (6, .int 4), (5, .ref qa1), (2, .ref qa1), (0, .ref h0), (1, .int x)]) hx hb dX8_pick_103 hl (by decide) rfl (fun ls hl => ?_)
  refine lv_iinc (v := 4) (lv' := [(7, .int 4), (4, .int ((((0 + ((imin x (v 4)) * 2)) + ((imin (x - (imin x (v 4))) (v 3)) * 2)) + ((imin ((x - (imin x (v 4))) - (imin (x - (imin x (v 4))) (v 3))) (v 5)) * 1)) + ((imin (((x - (imin x (v 4))) - (imin (x - (imin x (v 4))) (v 3))) - (imin ((x - (imin x (v 4))) - (imin (x - (imin x (v 4))) (v 3))) (v 5))) (v 2)) * 1))), (3, .int ((((x - (imin x (v 4))) - (imin (x - (imin x (v 4))) (v 3))) - (imin ((x - (imin x (v 4))) - (imin (x - (imin x (v 4))) (v 3))) (v 5))) - (imin (((x - (imin x (v 4))) - (imin (x - (imin x (v 4))) (v 3))) - (imin ((x - (imin x (v 4))) - (imin (x - (imin x (v 4))) (v 3))) (v 5))) (v 2)))), (9, .int (imin (((x - (imin x (v 4))) - (imin (x - (imin x (v 4))) (v 3))) - (imin ((x - (imin x (v 4))) - (imin (x - (imin x (v 4))) (v 3))) (v 5))) (v 2))), (8, .int 0), (6, .int 4), (5, .ref qa1), (2, .ref qa1), (0, .ref h0), (1, .int x)]) hx hb dX8_pick_105 hl (k := 4) rfl (by decide) (by decide) rfl (fun ls hl => ?_)
  refine lv_goto (tgt := 36) hx hb dX8_pick_108 (by decide) ?_
  refine lv_iload hx hb dX8_pick_36 (lv_at hl 0 rfl) ?_
  refine lv_iload hx hb dX8_pick_38 (lv_at hl 5 rfl) ?_
  refine lv_icmp_ge (tgt := 111) hx hb dX8_pick_40 (by decide) (fun _ => ?_) (fun c9 => absurd c9 (by decide))
  refine lv_iload hx hb dX8_pick_111 (lv_at hl 1 rfl) ?_
  have hw := Wd.take (L2 := [[ob h0 7 [.int (v 0), .int (v 1), .ref h1], (h1, aI dT [(v 2 - (imin (((x - (imin x (v 4))) - (imin (x - (imin x (v 4))) (v 3))) - (imin ((x - (imin x (v 4))) - (imin (x - (imin x (v 4))) (v 3))) (v 5))) (v 2))), (v 3 - (imin (x - (imin x (v 4))) (v 3))), (v 4 - (imin x (v 4))), (v 5 - (imin ((x - (imin x (v 4))) - (imin (x - (imin x (v 4))) (v 3))) (v 5)))])]]) hw [0] rfl rfl
  have e9 : f_X8_pick v x = (((((0 + ((imin x (v 4)) * 2)) + ((imin (x - (imin x (v 4))) (v 3)) * 2)) + ((imin ((x - (imin x (v 4))) - (imin (x - (imin x (v 4))) (v 3))) (v 5)) * 1)) + ((imin (((x - (imin x (v 4))) - (imin (x - (imin x (v 4))) (v 3))) - (imin ((x - (imin x (v 4))) - (imin (x - (imin x (v 4))) (v 3))) (v 5))) (v 2)) * 1)), (vec [v 0, v 1, (v 2 - (imin (((x - (imin x (v 4))) - (imin (x - (imin x (v 4))) (v 3))) - (imin ((x - (imin x (v 4))) - (imin (x - (imin x (v 4))) (v 3))) (v 5))) (v 2))), (v 3 - (imin (x - (imin x (v 4))) (v 3))), (v 4 - (imin x (v 4))), (v 5 - (imin ((x - (imin x (v 4))) - (imin (x - (imin x (v 4))) (v 3))) (v 5)))])) := by
    unfold f_X8_pick
    try rfl
  have p0 := congrArg (fun z : Int32 × (Nat → Int32) => some (Value.int z.1)) e9.symm
  have p1 := congrArg (fun z : Int32 × (Nat → Int32) => [plS dT h0 h1 z.2]) e9.symm
  exact xr_iret hf hr hlocks hw (Nat.le_of_ble_eq_true rfl) (Nat.le_of_ble_eq_true rfl) ⟨p0, p1⟩ dX8_pick_113

def f_X8_prune (v : Nat → Int32)  : Int32 × (Nat → Int32) :=
  (((((0 + v 2) + v 3) + v 4) + v 5), (vec [v 0, 4, 0, 0, 0, 0]))
set_option maxHeartbeats 4000000 in
theorem k_X8_prune (l : Launch) (D : va_G) (dT g : Nat → Nat) (z0 : Nat) (h0 : Nat) (h1 : Nat) (v : Nat → Int32)  : Con l D dT g z0 yX8_prune (ws_ yX8_prune cX8_prune 3 (some .int)) ({ frames := 1, cells := 0, slots := 0, locals := 40 }) [.ref h0] [plS dT h0 h1 v] (fun r LL => r = some (.int (f_X8_prune v).1) ∧ LL = [plS dT h0 h1 (f_X8_prune v).2]) noX 0 0 := by
  refine Con.of (maxL := 3) (ret := (some .int)) (by first | exact plainFor_of_name (by decide) | decide +kernel) (Nat.le_of_ble_eq_true rfl) ?_
  intro p e s m args below meth c A ls hf hr hlocks hnm hno hK hA hAz hw hl hst
  have hf : CallFix p m c cX8_prune 3 s args lw_all "SilkRow$Plot" := hf
  have hnm : meth.name = "prune" := hnm
  have hx := hf.1
  have hb := hf.2.1
  have hts := hf.2.2.2.2
  have hl : lv_has ls 3 [(0, .ref h0)] := hl
  have hw : Wd D A s.heap s.heap [] [[ob h0 7 [.int (v 0), .int (v 1), .ref h1], (h1, aI dT [v 2, v 3, v 4, v 5])]] := hw
  refine lv_iconst (v := 0) hx hb dX8_prune_0 (by decide) ?_
  refine lv_istore_n (lv' := [(1, .int 0), (0, .ref h0)]) hx hb dX8_prune_1 rfl hl (by decide) rfl (fun ls hl => ?_)
  refine lv_iconst (v := 0) hx hb dX8_prune_2 (by decide) ?_
  refine lv_istore_n (lv' := [(2, .int 0), (1, .int 0), (0, .ref h0)]) hx hb dX8_prune_3 rfl hl (by decide) rfl (fun ls hl => ?_)
  refine lv_iload_n hx hb dX8_prune_4 rfl (lv_at hl 0 rfl) ?_
  refine lv_iconst (v := 4) hx hb dX8_prune_5 (by decide) ?_
  refine lv_icmp_ge (tgt := 31) hx hb dX8_prune_6 (by decide) (fun c9 => absurd c9 (by decide)) (fun _ => ?_)
  refine lv_iload_n hx hb dX8_prune_9 rfl (lv_at hl 1 rfl) ?_
  refine lv_aload_n hx hb dX8_prune_10 rfl (lv_at hl 2 rfl) ?_
  refine xr_get hf hK hw 0 0 rfl rfl in_X8 2 (by decide) q760 (fun _ h => h) rfl dX8_prune_11 ?_
  refine lv_iload_n hx hb dX8_prune_14 rfl (lv_at hl 0 rfl) ?_
  refine xr_iald hf hK hw 0 1 rfl 0 (by decide) (by decide) (Nat.le_of_ble_eq_true rfl) rfl dX8_prune_15 ?_
  refine lv_iadd hx hb dX8_prune_16 ?_
  refine lv_istore_n (lv' := [(1, .int (0 + v 2)), (2, .int 0), (0, .ref h0)]) hx hb dX8_prune_17 rfl hl (by decide) rfl (fun ls hl => ?_)
  refine lv_aload_n hx hb dX8_prune_18 rfl (lv_at hl 2 rfl) ?_
  refine xr_get hf hK hw 0 0 rfl rfl in_X8 2 (by decide) q760 (fun _ h => h) rfl dX8_prune_19 ?_
  refine lv_iload_n hx hb dX8_prune_22 rfl (lv_at hl 1 rfl) ?_
  refine lv_iconst (v := 0) hx hb dX8_prune_23 (by decide) ?_
  refine xr_iast (LL' := [[ob h0 7 [.int (v 0), .int (v 1), .ref h1], (h1, aI dT [0, v 3, v 4, v 5])]]) hf hK hw 0 1 rfl 0 (by decide) (by decide) (Nat.le_of_ble_eq_true rfl) rfl dX8_prune_24 (fun H locs hw => ?_)
  refine lv_iinc (v := 1) (lv' := [(2, .int 1), (1, .int (0 + v 2)), (0, .ref h0)]) hx hb dX8_prune_25 hl (k := 1) rfl (by decide) (by decide) rfl (fun ls hl => ?_)
  refine lv_goto (tgt := 4) hx hb dX8_prune_28 (by decide) ?_
  refine lv_iload_n hx hb dX8_prune_4 rfl (lv_at hl 0 rfl) ?_
  refine lv_iconst (v := 4) hx hb dX8_prune_5 (by decide) ?_
  refine lv_icmp_ge (tgt := 31) hx hb dX8_prune_6 (by decide) (fun c9 => absurd c9 (by decide)) (fun _ => ?_)
  refine lv_iload_n hx hb dX8_prune_9 rfl (lv_at hl 1 rfl) ?_
  refine lv_aload_n hx hb dX8_prune_10 rfl (lv_at hl 2 rfl) ?_
  refine xr_get hf hK hw 0 0 rfl rfl in_X8 2 (by decide) q760 (fun _ h => h) rfl dX8_prune_11 ?_
  refine lv_iload_n hx hb dX8_prune_14 rfl (lv_at hl 0 rfl) ?_
  refine xr_iald hf hK hw 0 1 rfl 1 (by decide) (by decide) (Nat.le_of_ble_eq_true rfl) rfl dX8_prune_15 ?_
  refine lv_iadd hx hb dX8_prune_16 ?_
  refine lv_istore_n (lv' := [(1, .int ((0 + v 2) + v 3)), (2, .int 1), (0, .ref h0)]) hx hb dX8_prune_17 rfl hl (by decide) rfl (fun ls hl => ?_)
  refine lv_aload_n hx hb dX8_prune_18 rfl (lv_at hl 2 rfl) ?_
  refine xr_get hf hK hw 0 0 rfl rfl in_X8 2 (by decide) q760 (fun _ h => h) rfl dX8_prune_19 ?_
  refine lv_iload_n hx hb dX8_prune_22 rfl (lv_at hl 1 rfl) ?_
  refine lv_iconst (v := 0) hx hb dX8_prune_23 (by decide) ?_
  refine xr_iast (LL' := [[ob h0 7 [.int (v 0), .int (v 1), .ref h1], (h1, aI dT [0, 0, v 4, v 5])]]) hf hK hw 0 1 rfl 1 (by decide) (by decide) (Nat.le_of_ble_eq_true rfl) rfl dX8_prune_24 (fun H locs hw => ?_)
  refine lv_iinc (v := 2) (lv' := [(2, .int 2), (1, .int ((0 + v 2) + v 3)), (0, .ref h0)]) hx hb dX8_prune_25 hl (k := 1) rfl (by decide) (by decide) rfl (fun ls hl => ?_)
  refine lv_goto (tgt := 4) hx hb dX8_prune_28 (by decide) ?_
  refine lv_iload_n hx hb dX8_prune_4 rfl (lv_at hl 0 rfl) ?_
  refine lv_iconst (v := 4) hx hb dX8_prune_5 (by decide) ?_
  refine lv_icmp_ge (tgt := 31) hx hb dX8_prune_6 (by decide) (fun c9 => absurd c9 (by decide)) (fun _ => ?_)
  refine lv_iload_n hx hb dX8_prune_9 rfl (lv_at hl 1 rfl) ?_
  refine lv_aload_n hx hb dX8_prune_10 rfl (lv_at hl 2 rfl) ?_
  refine xr_get hf hK hw 0 0 rfl rfl in_X8 2 (by decide) q760 (fun _ h => h) rfl dX8_prune_11 ?_
  refine lv_iload_n hx hb dX8_prune_14 rfl (lv_at hl 0 rfl) ?_
  refine xr_iald hf hK hw 0 1 rfl 2 (by decide) (by decide) (Nat.le_of_ble_eq_true rfl) rfl dX8_prune_15 ?_
  refine lv_iadd hx hb dX8_prune_16 ?_
  refine lv_istore_n (lv' := [(1, .int (((0 + v 2) + v 3) + v 4)), (2, .int 2), (0, .ref h0)]) hx hb dX8_prune_17 rfl hl (by decide) rfl (fun ls hl => ?_)
  refine lv_aload_n hx hb dX8_prune_18 rfl (lv_at hl 2 rfl) ?_
  refine xr_get hf hK hw 0 0 rfl rfl in_X8 2 (by decide) q760 (fun _ h => h) rfl dX8_prune_19 ?_
  refine lv_iload_n hx hb dX8_prune_22 rfl (lv_at hl 1 rfl) ?_
  refine lv_iconst (v := 0) hx hb dX8_prune_23 (by decide) ?_
  refine xr_iast (LL' := [[ob h0 7 [.int (v 0), .int (v 1), .ref h1], (h1, aI dT [0, 0, 0, v 5])]]) hf hK hw 0 1 rfl 2 (by decide) (by decide) (Nat.le_of_ble_eq_true rfl) rfl dX8_prune_24 (fun H locs hw => ?_)
  refine lv_iinc (v := 3) (lv' := [(2, .int 3), (1, .int (((0 + v 2) + v 3) + v 4)), (0, .ref h0)]) hx hb dX8_prune_25 hl (k := 1) rfl (by decide) (by decide) rfl (fun ls hl => ?_)
  refine lv_goto (tgt := 4) hx hb dX8_prune_28 (by decide) ?_
  refine lv_iload_n hx hb dX8_prune_4 rfl (lv_at hl 0 rfl) ?_
  refine lv_iconst (v := 4) hx hb dX8_prune_5 (by decide) ?_
  refine lv_icmp_ge (tgt := 31) hx hb dX8_prune_6 (by decide) (fun c9 => absurd c9 (by decide)) (fun _ => ?_)
  refine lv_iload_n hx hb dX8_prune_9 rfl (lv_at hl 1 rfl) ?_
  refine lv_aload_n hx hb dX8_prune_10 rfl (lv_at hl 2 rfl) ?_
  refine xr_get hf hK hw 0 0 rfl rfl in_X8 2 (by decide) q760 (fun _ h => h) rfl dX8_prune_11 ?_
  refine lv_iload_n hx hb dX8_prune_14 rfl (lv_at hl 0 rfl) ?_
  refine xr_iald hf hK hw 0 1 rfl 3 (by decide) (by decide) (Nat.le_of_ble_eq_true rfl) rfl dX8_prune_15 ?_
  refine lv_iadd hx hb dX8_prune_16 ?_
  refine lv_istore_n (lv' := [(1, .int ((((0 + v 2) + v 3) + v 4) + v 5)), (2, .int 3), (0, .ref h0)]) hx hb dX8_prune_17 rfl hl (by decide) rfl (fun ls hl => ?_)
  refine lv_aload_n hx hb dX8_prune_18 rfl (lv_at hl 2 rfl) ?_
  refine xr_get hf hK hw 0 0 rfl rfl in_X8 2 (by decide) q760 (fun _ h => h) rfl dX8_prune_19 ?_
  refine lv_iload_n hx hb dX8_prune_22 rfl (lv_at hl 1 rfl) ?_
  refine lv_iconst (v := 0) hx hb dX8_prune_23 (by decide) ?_
  refine xr_iast (LL' := [[ob h0 7 [.int (v 0), .int (v 1), .ref h1], (h1, aI dT [0, 0, 0, 0])]]) hf hK hw 0 1 rfl 3 (by decide) (by decide) (Nat.le_of_ble_eq_true rfl) rfl dX8_prune_24 (fun H locs hw => ?_)
  refine lv_iinc (v := 4) (lv' := [(2, .int 4), (1, .int ((((0 + v 2) + v 3) + v 4) + v 5)), (0, .ref h0)]) hx hb dX8_prune_25 hl (k := 1) rfl (by decide) (by decide) rfl (fun ls hl => ?_)
  refine lv_goto (tgt := 4) hx hb dX8_prune_28 (by decide) ?_
  refine lv_iload_n hx hb dX8_prune_4 rfl (lv_at hl 0 rfl) ?_
  refine lv_iconst (v := 4) hx hb dX8_prune_5 (by decide) ?_
  refine lv_icmp_ge (tgt := 31) hx hb dX8_prune_6 (by decide) (fun _ => ?_) (fun c9 => absurd c9 (by decide))
  refine lv_aload_n hx hb dX8_prune_31 rfl (lv_at hl 2 rfl) ?_
  refine lv_iconst (v := 4) hx hb dX8_prune_32 (by decide) ?_
  refine xr_put (LL' := [[ob h0 7 [.int (v 0), .int 4, .ref h1], (h1, aI dT [0, 0, 0, 0])]]) hf hK hw 0 0 rfl rfl in_X8 tyX8_ok nmX8 1 (by decide) q758 (fun _ h => h) rfl rfl rfl (Nat.le_of_ble_eq_true rfl) rfl dX8_prune_33 (fun H locs hw => ?_)
  refine lv_iload_n hx hb dX8_prune_36 rfl (lv_at hl 1 rfl) ?_
  have e9 : f_X8_prune v = (((((0 + v 2) + v 3) + v 4) + v 5), (vec [v 0, 4, 0, 0, 0, 0])) := by
    unfold f_X8_prune
    try rfl
  have p0 := congrArg (fun z : Int32 × (Nat → Int32) => some (Value.int z.1)) e9.symm
  have p1 := congrArg (fun z : Int32 × (Nat → Int32) => [plS dT h0 h1 z.2]) e9.symm
  exact xr_iret hf hr hlocks hw (Nat.le_of_ble_eq_true rfl) (Nat.le_of_ble_eq_true rfl) ⟨p0, p1⟩ dX8_prune_37

def f_X9_init  (x : Int32) : (Nat → Int32) :=
  (vec [x, 0, 0, 0, 0, 0])
set_option maxHeartbeats 4000000 in
theorem k_X9_init (l : Launch) (D : va_G) (dT g : Nat → Nat) (z0 : Nat) (h0 : Nat)  (x : Int32) : Con l D dT g z0 yX9_init (ws_ yX9_init cX9_init 2 none) ({ frames := 1, cells := 1, slots := 4, locals := 40 }) [.ref h0, .int x] [[ob h0 8 [.int 0, .int 0, .null]]] (fun r LL => ∃ a1 : Nat, r = none ∧ LL = [mpS dT h0 a1 (f_X9_init x)]) noX 1 4 := by
  refine Con.of (maxL := 2) (ret := none) (by first | exact plainFor_of_name (by decide) | decide +kernel) (Nat.le_of_ble_eq_true rfl) ?_
  intro p e s m args below meth c A ls hf hr hlocks hnm hno hK hA hAz hw hl hst
  have hf : CallFix p m c cX9_init 2 s args lw_all "SilkRowModel$Plot" := hf
  have hnm : meth.name = "<init>" := hnm
  have hx := hf.1
  have hb := hf.2.1
  have hts := hf.2.2.2.2
  have hl : lv_has ls 2 [(0, .ref h0), (1, .int x)] := hl
  have hw : Wd D A s.heap s.heap [] [[ob h0 8 [.int 0, .int 0, .null]]] := hw
  refine lv_aload_n hx hb dX9_init_0 rfl (lv_at hl 0 rfl) ?_
  refine W.objInit hx hb hf.2.2.2.1 (hts _ q1248) (hts _ q83) (hts _ q84) rfl (by rw [hf.2.2.1]; exact hl.1) rfl dX9_init_1 (Nat.le_of_ble_eq_true rfl) (Nat.le_of_ble_eq_true rfl) ?_
  refine W.eq (g2 := F0 m 4 ls []) rfl ?_
  refine lv_aload_n hx hb dX9_init_4 rfl (lv_at hl 0 rfl) ?_
  refine lv_iconst (v := 4) hx hb dX9_init_5 (by decide) ?_
  refine xr_newi hf hK hw hA q463 (N := 4) (by decide) (by decide) (Nat.le_of_ble_eq_true rfl) (Nat.le_of_ble_eq_true rfl) (Nat.le_of_ble_eq_true rfl) dX9_init_6 (fun qa1 H hw => ?_)
  have hw : Wd D A s.heap _ _ [[ob h0 8 [.int 0, .int 0, .null]], [(qa1, aI dT [0, 0, 0, 0])]] := hw
  refine xr_putF (LL' := [[ob h0 8 [.int 0, .int 0, .ref qa1]], [(qa1, aI dT [0, 0, 0, 0])]]) hf hK hw 0 0 rfl rfl in_X9 tyX9_ok nmX9 2 (by decide) q1253 (fun _ h => h) rfl hnm rfl rfl rfl (Nat.le_of_ble_eq_true rfl) rfl dX9_init_8 (fun H locs hw => ?_)
  refine lv_aload_n hx hb dX9_init_11 rfl (lv_at hl 0 rfl) ?_
  refine lv_iload_n hx hb dX9_init_12 rfl (lv_at hl 1 rfl) ?_
  refine xr_putF (LL' := [[ob h0 8 [.int x, .int 0, .ref qa1]], [(qa1, aI dT [0, 0, 0, 0])]]) hf hK hw 0 0 rfl rfl in_X9 tyX9_ok nmX9 0 (by decide) q1249 (fun _ h => h) rfl hnm rfl rfl rfl (Nat.le_of_ble_eq_true rfl) rfl dX9_init_13 (fun H locs hw => ?_)
  have hw := Wd.take (L2 := [[ob h0 8 [.int x, .int 0, .ref qa1]], [(qa1, aI dT [0, 0, 0, 0])]]) hw [0, 0] rfl rfl
  have e9 : f_X9_init x = (vec [x, 0, 0, 0, 0, 0]) := by
    unfold f_X9_init
    try rfl
  have hw : Wd D A s.heap _ _ [[ob h0 8 [.int x, .int 0, .ref qa1], (qa1, aI dT [0, 0, 0, 0])]] := hw.eq rfl
  have p1 := congrArg (fun z : (Nat → Int32) => [mpS dT h0 qa1 z]) e9.symm
  exact xr_vret hf hr hlocks hw (Nat.le_of_ble_eq_true rfl) (Nat.le_of_ble_eq_true rfl) ⟨qa1, rfl, p1⟩ dX9_init_16

def f_X9_day (v : Nat → Int32) (x : Int32) : (Nat → Int32) :=
  if v 1 ≤ 0 then
    (vec [v 0, v 1, (v 0 * x), v 2, v 3, (imin 99 (v 5 + v 4))])
  else
    (vec [v 0, (v 1 - 1), v 2, v 3, v 4, v 5])
set_option maxHeartbeats 4000000 in
theorem k_X9_day (l : Launch) (D : va_G) (dT g : Nat → Nat) (z0 : Nat) (h0 : Nat) (h1 : Nat) (v : Nat → Int32) (x : Int32) : Con l D dT g z0 yX9_day (ws_ yX9_day cX9_day 2 none) ({ frames := 1, cells := 0, slots := 0, locals := 40 }) [.ref h0, .int x] [mpS dT h0 h1 v] (fun r LL => r = none ∧ LL = [mpS dT h0 h1 (f_X9_day v x)]) noX 0 0 := by
  refine Con.of (maxL := 2) (ret := none) (by first | exact plainFor_of_name (by decide) | decide +kernel) (Nat.le_of_ble_eq_true rfl) ?_
  intro p e s m args below meth c A ls hf hr hlocks hnm hno hK hA hAz hw hl hst
  have hf : CallFix p m c cX9_day 2 s args lw_all "SilkRowModel$Plot" := hf
  have hnm : meth.name = "day" := hnm
  have hx := hf.1
  have hb := hf.2.1
  have hts := hf.2.2.2.2
  have hl : lv_has ls 2 [(0, .ref h0), (1, .int x)] := hl
  have hw : Wd D A s.heap s.heap [] [[ob h0 8 [.int (v 0), .int (v 1), .ref h1], (h1, aI dT [v 2, v 3, v 4, v 5])]] := hw
  refine lv_aload_n hx hb dX9_day_0 rfl (lv_at hl 0 rfl) ?_
  refine xr_get hf hK hw 0 0 rfl rfl in_X9 1 (by decide) q1251 (fun _ h => h) rfl dX9_day_1 ?_
  refine lv_if_le (tgt := 18) hx hb dX9_day_4 (by decide) (fun c_4 => ?_) (fun c_4 => ?_)
  · refine lv_aload_n hx hb dX9_day_18 rfl (lv_at hl 0 rfl) ?_
    refine xr_get hf hK hw 0 0 rfl rfl in_X9 2 (by decide) q1253 (fun _ h => h) rfl dX9_day_19 ?_
    refine lv_iconst (v := 3) hx hb dX9_day_22 (by decide) ?_
    refine lv_bipush (v := 99) hx hb dX9_day_23 (by decide) ?_
    refine lv_aload_n hx hb dX9_day_25 rfl (lv_at hl 0 rfl) ?_
    refine xr_get hf hK hw 0 0 rfl rfl in_X9 2 (by decide) q1253 (fun _ h => h) rfl dX9_day_26 ?_
    refine lv_iconst (v := 3) hx hb dX9_day_29 (by decide) ?_
    refine xr_iald hf hK hw 0 1 rfl 3 (by decide) (by decide) (Nat.le_of_ble_eq_true rfl) rfl dX9_day_30 ?_
    refine lv_aload_n hx hb dX9_day_31 rfl (lv_at hl 0 rfl) ?_
    refine xr_get hf hK hw 0 0 rfl rfl in_X9 2 (by decide) q1253 (fun _ h => h) rfl dX9_day_32 ?_
    refine lv_iconst (v := 2) hx hb dX9_day_35 (by decide) ?_
    refine xr_iald hf hK hw 0 1 rfl 2 (by decide) (by decide) (Nat.le_of_ble_eq_true rfl) rfl dX9_day_36 ?_
    refine lv_iadd hx hb dX9_day_37 ?_
    refine va_mmin hx hb (by rw [hf.2.2.1]; exact hl.1.symm) hf.2.2.2.1 (hts _ q1280) (hts _ q193) (hts _ q50) (hts _ q194) (Nat.le_of_ble_eq_true rfl) (Nat.le_of_ble_eq_true rfl) (Nat.le_of_ble_eq_true rfl) (Nat.le_of_ble_eq_true rfl) dX9_day_38 ?_
    refine lv_as (y := imin 99 (v 5 + v 4)) rfl ?_
    refine xr_iast (LL' := [[ob h0 8 [.int (v 0), .int (v 1), .ref h1], (h1, aI dT [v 2, v 3, v 4, (imin 99 (v 5 + v 4))])]]) hf hK hw 0 1 rfl 3 (by decide) (by decide) (Nat.le_of_ble_eq_true rfl) rfl dX9_day_41 (fun H locs hw => ?_)
    refine lv_aload_n hx hb dX9_day_42 rfl (lv_at hl 0 rfl) ?_
    refine xr_get hf hK hw 0 0 rfl rfl in_X9 2 (by decide) q1253 (fun _ h => h) rfl dX9_day_43 ?_
    refine lv_iconst (v := 2) hx hb dX9_day_46 (by decide) ?_
    refine lv_aload_n hx hb dX9_day_47 rfl (lv_at hl 0 rfl) ?_
    refine xr_get hf hK hw 0 0 rfl rfl in_X9 2 (by decide) q1253 (fun _ h => h) rfl dX9_day_48 ?_
    refine lv_iconst (v := 1) hx hb dX9_day_51 (by decide) ?_
    refine xr_iald hf hK hw 0 1 rfl 1 (by decide) (by decide) (Nat.le_of_ble_eq_true rfl) rfl dX9_day_52 ?_
    refine xr_iast (LL' := [[ob h0 8 [.int (v 0), .int (v 1), .ref h1], (h1, aI dT [v 2, v 3, v 3, (imin 99 (v 5 + v 4))])]]) hf hK hw 0 1 rfl 2 (by decide) (by decide) (Nat.le_of_ble_eq_true rfl) rfl dX9_day_53 (fun H locs hw => ?_)
    refine lv_aload_n hx hb dX9_day_54 rfl (lv_at hl 0 rfl) ?_
    refine xr_get hf hK hw 0 0 rfl rfl in_X9 2 (by decide) q1253 (fun _ h => h) rfl dX9_day_55 ?_
    refine lv_iconst (v := 1) hx hb dX9_day_58 (by decide) ?_
    refine lv_aload_n hx hb dX9_day_59 rfl (lv_at hl 0 rfl) ?_
    refine xr_get hf hK hw 0 0 rfl rfl in_X9 2 (by decide) q1253 (fun _ h => h) rfl dX9_day_60 ?_
    refine lv_iconst (v := 0) hx hb dX9_day_63 (by decide) ?_
    refine xr_iald hf hK hw 0 1 rfl 0 (by decide) (by decide) (Nat.le_of_ble_eq_true rfl) rfl dX9_day_64 ?_
    refine xr_iast (LL' := [[ob h0 8 [.int (v 0), .int (v 1), .ref h1], (h1, aI dT [v 2, v 2, v 3, (imin 99 (v 5 + v 4))])]]) hf hK hw 0 1 rfl 1 (by decide) (by decide) (Nat.le_of_ble_eq_true rfl) rfl dX9_day_65 (fun H locs hw => ?_)
    refine lv_aload_n hx hb dX9_day_66 rfl (lv_at hl 0 rfl) ?_
    refine xr_get hf hK hw 0 0 rfl rfl in_X9 2 (by decide) q1253 (fun _ h => h) rfl dX9_day_67 ?_
    refine lv_iconst (v := 0) hx hb dX9_day_70 (by decide) ?_
    refine lv_aload_n hx hb dX9_day_71 rfl (lv_at hl 0 rfl) ?_
    refine xr_get hf hK hw 0 0 rfl rfl in_X9 0 (by decide) q1249 (fun _ h => h) rfl dX9_day_72 ?_
    refine lv_iload_n hx hb dX9_day_75 rfl (lv_at hl 1 rfl) ?_
    refine lv_imul hx hb dX9_day_76 ?_
    refine xr_iast (LL' := [[ob h0 8 [.int (v 0), .int (v 1), .ref h1], (h1, aI dT [(v 0 * x), v 2, v 3, (imin 99 (v 5 + v 4))])]]) hf hK hw 0 1 rfl 0 (by decide) (by decide) (Nat.le_of_ble_eq_true rfl) rfl dX9_day_77 (fun H locs hw => ?_)
    have e9 : f_X9_day v x = (vec [v 0, v 1, (v 0 * x), v 2, v 3, (imin 99 (v 5 + v 4))]) := by
      unfold f_X9_day
      rw [if_pos c_4]
      try rfl
    have p1 := congrArg (fun z : (Nat → Int32) => [mpS dT h0 h1 z]) e9.symm
    exact xr_vret hf hr hlocks hw (Nat.le_of_ble_eq_true rfl) (Nat.le_of_ble_eq_true rfl) ⟨rfl, p1⟩ dX9_day_78
  · refine lv_aload_n hx hb dX9_day_7 rfl (lv_at hl 0 rfl) ?_
    refine lv_dup hx hb dX9_day_8 rfl ?_
    refine xr_get hf hK hw 0 0 rfl rfl in_X9 1 (by decide) q1251 (fun _ h => h) rfl dX9_day_9 ?_
    refine lv_iconst (v := 1) hx hb dX9_day_12 (by decide) ?_
    refine lv_isub hx hb dX9_day_13 ?_
    refine xr_put (LL' := [[ob h0 8 [.int (v 0), .int (v 1 - 1), .ref h1], (h1, aI dT [v 2, v 3, v 4, v 5])]]) hf hK hw 0 0 rfl rfl in_X9 tyX9_ok nmX9 1 (by decide) q1251 (fun _ h => h) rfl rfl rfl (Nat.le_of_ble_eq_true rfl) rfl dX9_day_14 (fun H locs hw => ?_)
    have e9 : f_X9_day v x = (vec [v 0, (v 1 - 1), v 2, v 3, v 4, v 5]) := by
      unfold f_X9_day
      rw [if_neg c_4]
      try rfl
    have p1 := congrArg (fun z : (Nat → Int32) => [mpS dT h0 h1 z]) e9.symm
    exact xr_vret hf hr hlocks hw (Nat.le_of_ble_eq_true rfl) (Nat.le_of_ble_eq_true rfl) ⟨rfl, p1⟩ dX9_day_17

def f_X9_pick (v : Nat → Int32) (x : Int32) : Int32 × (Nat → Int32) :=
  (((((0 + (2 * (imin x (v 4)))) + (2 * (imin (x - (imin x (v 4))) (v 3)))) + (imin ((x - (imin x (v 4))) - (imin (x - (imin x (v 4))) (v 3))) (v 5))) + (imin (((x - (imin x (v 4))) - (imin (x - (imin x (v 4))) (v 3))) - (imin ((x - (imin x (v 4))) - (imin (x - (imin x (v 4))) (v 3))) (v 5))) (v 2))), (vec [v 0, v 1, (v 2 - (imin (((x - (imin x (v 4))) - (imin (x - (imin x (v 4))) (v 3))) - (imin ((x - (imin x (v 4))) - (imin (x - (imin x (v 4))) (v 3))) (v 5))) (v 2))), (v 3 - (imin (x - (imin x (v 4))) (v 3))), (v 4 - (imin x (v 4))), (v 5 - (imin ((x - (imin x (v 4))) - (imin (x - (imin x (v 4))) (v 3))) (v 5)))]))
set_option maxHeartbeats 4000000 in
theorem k_X9_pick (l : Launch) (D : va_G) (dT g : Nat → Nat) (z0 : Nat) (h0 : Nat) (h1 : Nat) (v : Nat → Int32) (x : Int32) : Con l D dT g z0 yX9_pick (ws_ yX9_pick cX9_pick 10 (some .int)) ({ frames := 1, cells := 1, slots := 4, locals := 40 }) [.ref h0, .int x] [mpS dT h0 h1 v] (fun r LL => r = some (.int (f_X9_pick v x).1) ∧ LL = [mpS dT h0 h1 (f_X9_pick v x).2]) noX 1 4 := by
  refine Con.of (maxL := 10) (ret := (some .int)) (by first | exact plainFor_of_name (by decide) | decide +kernel) (Nat.le_of_ble_eq_true rfl) ?_
  intro p e s m args below meth c A ls hf hr hlocks hnm hno hK hA hAz hw hl hst
  have hf : CallFix p m c cX9_pick 10 s args lw_all "SilkRowModel$Plot" := hf
  have hnm : meth.name = "pick" := hnm
  have hx := hf.1
  have hb := hf.2.1
  have hts := hf.2.2.2.2
  have hl : lv_has ls 10 [(0, .ref h0), (1, .int x)] := hl
  have hw : Wd D A s.heap s.heap [] [[ob h0 8 [.int (v 0), .int (v 1), .ref h1], (h1, aI dT [v 2, v 3, v 4, v 5])]] := hw
  refine lv_iconst (v := 4) hx hb dX9_pick_0 (by decide) ?_
  refine xr_newi hf hK hw hA q463 (N := 4) (by decide) (by decide) (Nat.le_of_ble_eq_true rfl) (Nat.le_of_ble_eq_true rfl) (Nat.le_of_ble_eq_true rfl) dX9_pick_1 (fun qa1 H hw => ?_)
  have hw : Wd D A s.heap _ _ [[ob h0 8 [.int (v 0), .int (v 1), .ref h1], (h1, aI dT [v 2, v 3, v 4, v 5])], [(qa1, aI dT [0, 0, 0, 0])]] := hw
  refine lv_dup hx hb dX9_pick_3 rfl ?_
  refine lv_iconst (v := 0) hx hb dX9_pick_4 (by decide) ?_
  refine lv_iconst (v := 2) hx hb dX9_pick_5 (by decide) ?_
  refine xr_iast (LL' := [[ob h0 8 [.int (v 0), .int (v 1), .ref h1], (h1, aI dT [v 2, v 3, v 4, v 5])], [(qa1, aI dT [2, 0, 0, 0])]]) hf hK hw 1 0 rfl 0 (by decide) (by decide) (Nat.le_of_ble_eq_true rfl) rfl dX9_pick_6 (fun H locs hw => ?_)
  refine lv_dup hx hb dX9_pick_7 rfl ?_
  refine lv_iconst (v := 1) hx hb dX9_pick_8 (by decide) ?_
  refine lv_iconst (v := 1) hx hb dX9_pick_9 (by decide) ?_
  refine xr_iast (LL' := [[ob h0 8 [.int (v 0), .int (v 1), .ref h1], (h1, aI dT [v 2, v 3, v 4, v 5])], [(qa1, aI dT [2, 1, 0, 0])]]) hf hK hw 1 0 rfl 1 (by decide) (by decide) (Nat.le_of_ble_eq_true rfl) rfl dX9_pick_10 (fun H locs hw => ?_)
  refine lv_dup hx hb dX9_pick_11 rfl ?_
  refine lv_iconst (v := 2) hx hb dX9_pick_12 (by decide) ?_
  refine lv_iconst (v := 3) hx hb dX9_pick_13 (by decide) ?_
  refine xr_iast (LL' := [[ob h0 8 [.int (v 0), .int (v 1), .ref h1], (h1, aI dT [v 2, v 3, v 4, v 5])], [(qa1, aI dT [2, 1, 3, 0])]]) hf hK hw 1 0 rfl 2 (by decide) (by decide) (Nat.le_of_ble_eq_true rfl) rfl dX9_pick_14 (fun H locs hw => ?_)
  refine lv_dup hx hb dX9_pick_15 rfl ?_
  refine lv_iconst (v := 3) hx hb dX9_pick_16 (by decide) ?_
  refine lv_iconst (v := 0) hx hb dX9_pick_17 (by decide) ?_
  refine xr_iast (LL' := [[ob h0 8 [.int (v 0), .int (v 1), .ref h1], (h1, aI dT [v 2, v 3, v 4, v 5])], [(qa1, aI dT [2, 1, 3, 0])]]) hf hK hw 1 0 rfl 3 (by decide) (by decide) (Nat.le_of_ble_eq_true rfl) rfl dX9_pick_18 (fun H locs hw => ?_)
  refine lv_astore_n (lv' := [(2, .ref qa1), (0, .ref h0), (1, .int x)]) hx hb dX9_pick_19 rfl hl (by decide) rfl (fun ls hl => ?_)
  refine lv_iload_n hx hb dX9_pick_20 rfl (lv_at hl 2 rfl) ?_
  refine lv_istore_n (lv' := [(3, .int x), (2, .ref qa1), (0, .ref h0), (1, .int x)]) hx hb dX9_pick_21 rfl hl (by decide) rfl (fun ls hl => ?_)
  refine lv_iconst (v := 0) hx hb dX9_pick_22 (by decide) ?_
  refine lv_istore (lv' := [(4, .int 0), (3, .int x), (2, .ref qa1), (0, .ref h0), (1, .int x)]) hx hb dX9_pick_23 hl (by decide) rfl (fun ls hl => ?_)
  refine lv_aload_n hx hb dX9_pick_25 rfl (lv_at hl 2 rfl) ?_
  refine lv_astore (lv' := [(5, .ref qa1), (4, .int 0), (3, .int x), (2, .ref qa1), (0, .ref h0), (1, .int x)]) hx hb dX9_pick_26 hl (by decide) rfl (fun ls hl => ?_)
  refine lv_aload hx hb dX9_pick_28 (lv_at hl 0 rfl) ?_
  refine xr_ilen (v := 4) hf hK hw 1 0 rfl (by decide) dX9_pick_30 ?_
  refine lv_istore (lv' := [(6, .int 4), (5, .ref qa1), (4, .int 0), (3, .int x), (2, .ref qa1), (0, .ref h0), (1, .int x)]) hx hb dX9_pick_31 hl (by decide) rfl (fun ls hl => ?_)
  refine lv_iconst (v := 0) hx hb dX9_pick_33 (by decide) ?_
  refine lv_istore (lv' := [(7, .int 0), (6, .int 4), (5, .ref qa1), (4, .int 0), (3, .int x), (2, .ref qa1), (0, .ref h0), (1, .int x)]) hx hb dX9_pick_34 hl (by decide) rfl (fun ls hl => ?_)
  refine lv_iload hx hb dX9_pick_36 (lv_at hl 0 rfl) ?_
  refine lv_iload hx hb dX9_pick_38 (lv_at hl 1 rfl) ?_
  refine lv_icmp_ge (tgt := 112) hx hb dX9_pick_40 (by decide) (fun c9 => absurd c9 (by decide)) (fun _ => ?_)
  refine lv_aload hx hb dX9_pick_43 (lv_at hl 2 rfl) ?_
  refine lv_iload hx hb dX9_pick_45 (lv_at hl 0 rfl) ?_
  refine xr_iald hf hK hw 1 0 rfl 0 (by decide) (by decide) (Nat.le_of_ble_eq_true rfl) rfl dX9_pick_47 ?_
  refine lv_istore (lv' := [(8, .int 2), (7, .int 0), (6, .int 4), (5, .ref qa1), (4, .int 0), (3, .int x), (2, .ref qa1), (0, .ref h0), (1, .int x)]) hx hb dX9_pick_48 hl (by decide) rfl (fun ls hl => ?_)
  refine lv_iload_n hx hb dX9_pick_50 rfl (lv_at hl 5 rfl) ?_
  refine lv_aload_n hx hb dX9_pick_51 rfl (lv_at hl 7 rfl) ?_
  refine xr_get hf hK hw 0 0 rfl rfl in_X9 2 (by decide) q1253 (fun _ h => h) rfl dX9_pick_52 ?_
  refine lv_iload hx hb dX9_pick_55 (lv_at hl 0 rfl) ?_
  refine xr_iald hf hK hw 0 1 rfl 2 (by decide) (by decide) (Nat.le_of_ble_eq_true rfl) rfl dX9_pick_57 ?_
  refine va_mmin hx hb (by rw [hf.2.2.1]; exact hl.1.symm) hf.2.2.2.1 (hts _ q1280) (hts _ q193) (hts _ q50) (hts _ q194) (Nat.le_of_ble_eq_true rfl) (Nat.le_of_ble_eq_true rfl) (Nat.le_of_ble_eq_true rfl) (Nat.le_of_ble_eq_true rfl) dX9_pick_58 ?_
  refine lv_as (y := imin x (v 4)) rfl ?_
  refine lv_istore (lv' := [(9, .int (imin x (v 4))), (8, .int 2), (7, .int 0), (6, .int 4), (5, .ref qa1), (4, .int 0), (3, .int x), (2, .ref qa1), (0, .ref h0), (1, .int x)]) hx hb dX9_pick_61 hl (by decide) rfl (fun ls hl => ?_)
  refine lv_aload_n hx hb dX9_pick_63 rfl (lv_at hl 8 rfl) ?_
  refine xr_get hf hK hw 0 0 rfl rfl in_X9 2 (by decide) q1253 (fun _ h => h) rfl dX9_pick_64 ?_
  refine lv_iload hx hb dX9_pick_67 (lv_at hl 1 rfl) ?_
  refine lv_dup2_11 hx hb dX9_pick_69 rfl rfl ?_
  refine xr_iald hf hK hw 0 1 rfl 2 (by decide) (by decide) (Nat.le_of_ble_eq_true rfl) rfl dX9_pick_70 ?_
  refine lv_iload hx hb dX9_pick_71 (lv_at hl 0 rfl) ?_
  refine lv_isub hx hb dX9_pick_73 ?_
  refine xr_iast (LL' := [[ob h0 8 [.int (v 0), .int (v 1), .ref h1], (h1, aI dT [v 2, v 3, (v 4 - (imin x (v 4))), v 5])], [(qa1, aI dT [2, 1, 3, 0])]]) hf hK hw 0 1 rfl 2 (by decide) (by decide) (Nat.le_of_ble_eq_true rfl) rfl dX9_pick_74 (fun H locs hw => ?_)
  refine lv_iload_n hx hb dX9_pick_75 rfl (lv_at hl 6 rfl) ?_
  refine lv_iload hx hb dX9_pick_76 (lv_at hl 0 rfl) ?_
  refine lv_isub hx hb dX9_pick_78 ?_
  refine lv_istore_n (lv' := [(3, .int (x - (imin x (v 4)))), (9, .int (imin x (v 4))), (8, .int 2), (7, .int 0), (6, .int 4), (5, .ref qa1), (4, .int 0), (2, .ref qa1), (0, .ref h0), (1, .int x)]) hx hb dX9_pick_79 rfl hl (by decide) rfl (fun ls hl => ?_)
  refine lv_iload hx hb dX9_pick_80 (lv_at hl 6 rfl) ?_
  refine lv_iload hx hb dX9_pick_82 (lv_at hl 2 rfl) ?_
  refine lv_iconst (v := 1) hx hb dX9_pick_84 (by decide) ?_
  refine lv_icmp_eq (tgt := 94) hx hb dX9_pick_85 (by decide) (fun c9 => absurd c9 (by decide)) (fun _ => ?_)
  refine lv_iload hx hb dX9_pick_88 (lv_at hl 2 rfl) ?_
  refine lv_iconst (v := 2) hx hb dX9_pick_90 (by decide) ?_
  refine lv_icmp_ne (tgt := 101) hx hb dX9_pick_91 (by decide) (fun c9 => absurd c9 (by decide)) (fun _ => ?_)
  refine lv_iconst (v := 2) hx hb dX9_pick_94 (by decide) ?_
  refine lv_iload hx hb dX9_pick_95 (lv_at hl 1 rfl) ?_
  refine lv_imul hx hb dX9_pick_97 ?_
  refine lv_goto (tgt := 103) hx hb dX9_pick_98 (by decide) ?_
  refine lv_iadd hx hb dX9_pick_103 ?_
  refine lv_istore (lv' := [(4, .int (0 + (2 * (imin x (v 4))))), (3, .int (x - (imin x (v 4)))), (9, .int (imin x (v 4))), (8, .int 2), (7, .int 0), (6, .int 4), (5, .ref qa1), (2, .ref qa1), (0, .ref h0), (1, .int x)]) hx hb dX9_pick_104 hl (by decide) rfl (fun ls hl => ?_)
  refine lv_iinc (v := 1) (lv' := [(7, .int 1), (4, .int (0 + (2 * (imin x (v 4))))), (3, .int (x - (imin x (v 4)))), (9, .int (imin x (v 4))), (8, .int 2), (6, .int 4), (5, .ref qa1), (2, .ref qa1), (0, .ref h0), (1, .int x)]) hx hb dX9_pick_106 hl (k := 4) rfl (by decide) (by decide) rfl (fun ls hl => ?_)
  refine lv_goto (tgt := 36) hx hb dX9_pick_109 (by decide) ?_
  refine lv_iload hx hb dX9_pick_36 (lv_at hl 0 rfl) ?_
  refine lv_iload hx hb dX9_pick_38 (lv_at hl 5 rfl) ?_
  refine lv_icmp_ge (tgt := 112) hx hb dX9_pick_40 (by decide) (fun c9 => absurd c9 (by decide)) (fun _ => ?_)
  refine lv_aload hx hb dX9_pick_43 (lv_at hl 6 rfl) ?_
  refine lv_iload hx hb dX9_pick_45 (lv_at hl 0 rfl) ?_
  refine xr_iald hf hK hw 1 0 rfl 1 (by decide) (by decide) (Nat.le_of_ble_eq_true rfl) rfl dX9_pick_47 ?_
  refine lv_istore (lv' := [(8, .int 1), (7, .int 1), (4, .int (0 + (2 * (imin x (v 4))))), (3, .int (x - (imin x (v 4)))), (9, .int (imin x (v 4))), (6, .int 4), (5, .ref qa1), (2, .ref qa1), (0, .ref h0), (1, .int x)]) hx hb dX9_pick_48 hl (by decide) rfl (fun ls hl => ?_)
  refine lv_iload_n hx hb dX9_pick_50 rfl (lv_at hl 3 rfl) ?_
  refine lv_aload_n hx hb dX9_pick_51 rfl (lv_at hl 8 rfl) ?_
  refine xr_get hf hK hw 0 0 rfl rfl in_X9 2 (by decide) q1253 (fun _ h => h) rfl dX9_pick_52 ?_
  refine lv_iload hx hb dX9_pick_55 (lv_at hl 0 rfl) ?_
  refine xr_iald hf hK hw 0 1 rfl 1 (by decide) (by decide) (Nat.le_of_ble_eq_true rfl) rfl dX9_pick_57 ?_
  refine va_mmin hx hb (by rw [hf.2.2.1]; exact hl.1.symm) hf.2.2.2.1 (hts _ q1280) (hts _ q193) (hts _ q50) (hts _ q194) (Nat.le_of_ble_eq_true rfl) (Nat.le_of_ble_eq_true rfl) (Nat.le_of_ble_eq_true rfl) (Nat.le_of_ble_eq_true rfl) dX9_pick_58 ?_
  refine lv_as (y := imin (x - (imin x (v 4))) (v 3)) rfl ?_
  refine lv_istore (lv' := [(9, .int (imin (x - (imin x (v 4))) (v 3))), (8, .int 1), (7, .int 1), (4, .int (0 + (2 * (imin x (v 4))))), (3, .int (x - (imin x (v 4)))), (6, .int 4), (5, .ref qa1), (2, .ref qa1), (0, .ref h0), (1, .int x)]) hx hb dX9_pick_61 hl (by decide) rfl (fun ls hl => ?_)
  refine lv_aload_n hx hb dX9_pick_63 rfl (lv_at hl 8 rfl) ?_
  refine xr_get hf hK hw 0 0 rfl rfl in_X9 2 (by decide) q1253 (fun _ h => h) rfl dX9_pick_64 ?_
  refine lv_iload hx hb dX9_pick_67 (lv_at hl 1 rfl) ?_
  refine lv_dup2_11 hx hb dX9_pick_69 rfl rfl ?_
  refine xr_iald hf hK hw 0 1 rfl 1 (by decide) (by decide) (Nat.le_of_ble_eq_true rfl) rfl dX9_pick_70 ?_
  refine lv_iload hx hb dX9_pick_71 (lv_at hl 0 rfl) ?_
  refine lv_isub hx hb dX9_pick_73 ?_
  refine xr_iast (LL' := [[ob h0 8 [.int (v 0), .int (v 1), .ref h1], (h1, aI dT [v 2, (v 3 - (imin (x - (imin x (v 4))) (v 3))), (v 4 - (imin x (v 4))), v 5])], [(qa1, aI dT [2, 1, 3, 0])]]) hf hK hw 0 1 rfl 1 (by decide) (by decide) (Nat.le_of_ble_eq_true rfl) rfl dX9_pick_74 (fun H locs hw => ?_)
  refine lv_iload_n hx hb dX9_pick_75 rfl (lv_at hl 4 rfl) ?_
  refine lv_iload hx hb dX9_pick_76 (lv_at hl 0 rfl) ?_
  refine lv_isub hx hb dX9_pick_78 ?_
  refine lv_istore_n (lv' := [(3, .int ((x - (imin x (v 4))) - (imin (x - (imin x (v 4))) (v 3)))), (9, .int (imin (x - (imin x (v 4))) (v 3))), (8, .int 1), (7, .int 1), (4, .int (0 + (2 * (imin x (v 4))))), (6, .int 4), (5, .ref qa1), (2, .ref qa1), (0, .ref h0), (1, .int x)]) hx hb dX9_pick_79 rfl hl (by decide) rfl (fun ls hl => ?_)
  refine lv_iload hx hb dX9_pick_80 (lv_at hl 4 rfl) ?_
  refine lv_iload hx hb dX9_pick_82 (lv_at hl 2 rfl) ?_
  refine lv_iconst (v := 1) hx hb dX9_pick_84 (by decide) ?_
  refine lv_icmp_eq (tgt := 94) hx hb dX9_pick_85 (by decide) (fun _ => ?_) (fun c9 => absurd c9 (by decide))
  refine lv_iconst (v := 2) hx hb dX9_pick_94 (by decide) ?_
  refine lv_iload hx hb dX9_pick_95 (lv_at hl 1 rfl) ?_
  refine lv_imul hx hb dX9_pick_97 ?_
  refine lv_goto (tgt := 103) hx hb dX9_pick_98 (by decide) ?_
  refine lv_iadd hx hb dX9_pick_103 ?_
  refine lv_istore (lv' := [(4, .int ((0 + (2 * (imin x (v 4)))) + (2 * (imin (x - (imin x (v 4))) (v 3))))), (3, .int ((x - (imin x (v 4))) - (imin (x - (imin x (v 4))) (v 3)))), (9, .int (imin (x - (imin x (v 4))) (v 3))), (8, .int 1), (7, .int 1), (6, .int 4), (5, .ref qa1), (2, .ref qa1), (0, .ref h0), (1, .int x)]) hx hb dX9_pick_104 hl (by decide) rfl (fun ls hl => ?_)
  refine lv_iinc (v := 2) (lv' := [(7, .int 2), (4, .int ((0 + (2 * (imin x (v 4)))) + (2 * (imin (x - (imin x (v 4))) (v 3))))), (3, .int ((x - (imin x (v 4))) - (imin (x - (imin x (v 4))) (v 3)))), (9, .int (imin (x - (imin x (v 4))) (v 3))), (8, .int 1), (6, .int 4), (5, .ref qa1), (2, .ref qa1), (0, .ref h0), (1, .int x)]) hx hb dX9_pick_106 hl (k := 4) rfl (by decide) (by decide) rfl (fun ls hl => ?_)
  refine lv_goto (tgt := 36) hx hb dX9_pick_109 (by decide) ?_
  refine lv_iload hx hb dX9_pick_36 (lv_at hl 0 rfl) ?_
  refine lv_iload hx hb dX9_pick_38 (lv_at hl 5 rfl) ?_
  refine lv_icmp_ge (tgt := 112) hx hb dX9_pick_40 (by decide) (fun c9 => absurd c9 (by decide)) (fun _ => ?_)
  refine lv_aload hx hb dX9_pick_43 (lv_at hl 6 rfl) ?_
  refine lv_iload hx hb dX9_pick_45 (lv_at hl 0 rfl) ?_
  refine xr_iald hf hK hw 1 0 rfl 2 (by decide) (by decide) (Nat.le_of_ble_eq_true rfl) rfl dX9_pick_47 ?_
  refine lv_istore (lv' := [(8, .int 3), (7, .int 2), (4, .int ((0 + (2 * (imin x (v 4)))) + (2 * (imin (x - (imin x (v 4))) (v 3))))), (3, .int ((x - (imin x (v 4))) - (imin (x - (imin x (v 4))) (v 3)))), (9, .int (imin (x - (imin x (v 4))) (v 3))), (6, .int 4), (5, .ref qa1), (2, .ref qa1), (0, .ref h0), (1, .int x)]) hx hb dX9_pick_48 hl (by decide) rfl (fun ls hl => ?_)
  refine lv_iload_n hx hb dX9_pick_50 rfl (lv_at hl 3 rfl) ?_
  refine lv_aload_n hx hb dX9_pick_51 rfl (lv_at hl 8 rfl) ?_
  refine xr_get hf hK hw 0 0 rfl rfl in_X9 2 (by decide) q1253 (fun _ h => h) rfl dX9_pick_52 ?_
  refine lv_iload hx hb dX9_pick_55 (lv_at hl 0 rfl) ?_
  refine xr_iald hf hK hw 0 1 rfl 3 (by decide) (by decide) (Nat.le_of_ble_eq_true rfl) rfl dX9_pick_57 ?_
  refine va_mmin hx hb (by rw [hf.2.2.1]; exact hl.1.symm) hf.2.2.2.1 (hts _ q1280) (hts _ q193) (hts _ q50) (hts _ q194) (Nat.le_of_ble_eq_true rfl) (Nat.le_of_ble_eq_true rfl) (Nat.le_of_ble_eq_true rfl) (Nat.le_of_ble_eq_true rfl) dX9_pick_58 ?_
  refine lv_as (y := imin ((x - (imin x (v 4))) - (imin (x - (imin x (v 4))) (v 3))) (v 5)) rfl ?_
  refine lv_istore (lv' := [(9, .int (imin ((x - (imin x (v 4))) - (imin (x - (imin x (v 4))) (v 3))) (v 5))), (8, .int 3), (7, .int 2), (4, .int ((0 + (2 * (imin x (v 4)))) + (2 * (imin (x - (imin x (v 4))) (v 3))))), (3, .int ((x - (imin x (v 4))) - (imin (x - (imin x (v 4))) (v 3)))), (6, .int 4), (5, .ref qa1), (2, .ref qa1), (0, .ref h0), (1, .int x)]) hx hb dX9_pick_61 hl (by decide) rfl (fun ls hl => ?_)
  refine lv_aload_n hx hb dX9_pick_63 rfl (lv_at hl 8 rfl) ?_
  refine xr_get hf hK hw 0 0 rfl rfl in_X9 2 (by decide) q1253 (fun _ h => h) rfl dX9_pick_64 ?_
  refine lv_iload hx hb dX9_pick_67 (lv_at hl 1 rfl) ?_
  refine lv_dup2_11 hx hb dX9_pick_69 rfl rfl ?_
  refine xr_iald hf hK hw 0 1 rfl 3 (by decide) (by decide) (Nat.le_of_ble_eq_true rfl) rfl dX9_pick_70 ?_
  refine lv_iload hx hb dX9_pick_71 (lv_at hl 0 rfl) ?_
  refine lv_isub hx hb dX9_pick_73 ?_
  refine xr_iast (LL' := [[ob h0 8 [.int (v 0), .int (v 1), .ref h1], (h1, aI dT [v 2, (v 3 - (imin (x - (imin x (v 4))) (v 3))), (v 4 - (imin x (v 4))), (v 5 - (imin ((x - (imin x (v 4))) - (imin (x - (imin x (v 4))) (v 3))) (v 5)))])], [(qa1, aI dT [2, 1, 3, 0])]]) hf hK hw 0 1 rfl 3 (by decide) (by decide) (Nat.le_of_ble_eq_true rfl) rfl dX9_pick_74 (fun H locs hw => ?_)
  refine lv_iload_n hx hb dX9_pick_75 rfl (lv_at hl 4 rfl) ?_
  refine lv_iload hx hb dX9_pick_76 (lv_at hl 0 rfl) ?_
  refine lv_isub hx hb dX9_pick_78 ?_
  refine lv_istore_n (lv' := [(3, .int (((x - (imin x (v 4))) - (imin (x - (imin x (v 4))) (v 3))) - (imin ((x - (imin x (v 4))) - (imin (x - (imin x (v 4))) (v 3))) (v 5)))), (9, .int (imin ((x - (imin x (v 4))) - (imin (x - (imin x (v 4))) (v 3))) (v 5))), (8, .int 3), (7, .int 2), (4, .int ((0 + (2 * (imin x (v 4)))) + (2 * (imin (x - (imin x (v 4))) (v 3))))), (6, .int 4), (5, .ref qa1), (2, .ref qa1), (0, .ref h0), (1, .int x)]) hx hb dX9_pick_79 rfl hl (by decide) rfl (fun ls hl => ?_)
  refine lv_iload hx hb dX9_pick_80 (lv_at hl 4 rfl) ?_
  refine lv_iload hx hb dX9_pick_82 (lv_at hl 2 rfl) ?_
  refine lv_iconst (v := 1) hx hb dX9_pick_84 (by decide) ?_
  refine lv_icmp_eq (tgt := 94) hx hb dX9_pick_85 (by decide) (fun c9 => absurd c9 (by decide)) (fun _ => ?_)
  refine lv_iload hx hb dX9_pick_88 (lv_at hl 2 rfl) ?_
  refine lv_iconst (v := 2) hx hb dX9_pick_90 (by decide) ?_
  refine lv_icmp_ne (tgt := 101) hx hb dX9_pick_91 (by decide) (fun _ => ?_) (fun c9 => absurd c9 (by decide))
  refine lv_iload hx hb dX9_pick_101 (lv_at hl 1 rfl) ?_
  refine lv_iadd hx hb dX9_pick_103 ?_
  refine lv_istore (lv' := [(4, .int (((0 + (2 * (imin x (v 4)))) + (2 * (imin (x - (imin x (v 4))) (v 3)))) + (imin ((x - (imin x (v 4))) - (imin (x - (imin x (v 4))) (v 3))) (v 5)))), (3, .int (((x - (imin x (v 4))) - (imin (x - (imin x (v 4))) (v 3))) - (imin ((x - (imin x (v 4))) - (imin (x - (imin x (v 4))) (v 3))) (v 5)))), (9, .int (imin ((x - (imin x (v 4))) - (imin (x - (imin x (v 4))) (v 3))) (v 5))), (8, .int 3), (7, .int 2), (6, .int 4), (5, .ref qa1), (2, .ref qa1), (0, .ref h0), (1, .int x)]) hx hb dX9_pick_104 hl (by decide) rfl (fun ls hl => ?_)
  refine lv_iinc (v := 3) (lv' := [(7, .int 3), (4, .int (((0 + (2 * (imin x (v 4)))) + (2 * (imin (x - (imin x (v 4))) (v 3)))) + (imin ((x - (imin x (v 4))) - (imin (x - (imin x (v 4))) (v 3))) (v 5)))), (3, .int (((x - (imin x (v 4))) - (imin (x - (imin x (v 4))) (v 3))) - (imin ((x - (imin x (v 4))) - (imin (x - (imin x (v 4))) (v 3))) (v 5)))), (9, .int (imin ((x - (imin x (v 4))) - (imin (x - (imin x (v 4))) (v 3))) (v 5))), (8, .int 3), (6, .int 4), (5, .ref qa1), (2, .ref qa1), (0, .ref h0), (1, .int x)]) hx hb dX9_pick_106 hl (k := 4) rfl (by decide) (by decide) rfl (fun ls hl => ?_)
  refine lv_goto (tgt := 36) hx hb dX9_pick_109 (by decide) ?_
  refine lv_iload hx hb dX9_pick_36 (lv_at hl 0 rfl) ?_
  refine lv_iload hx hb dX9_pick_38 (lv_at hl 5 rfl) ?_
  refine lv_icmp_ge (tgt := 112) hx hb dX9_pick_40 (by decide) (fun c9 => absurd c9 (by decide)) (fun _ => ?_)
  refine lv_aload hx hb dX9_pick_43 (lv_at hl 6 rfl) ?_
  refine lv_iload hx hb dX9_pick_45 (lv_at hl 0 rfl) ?_
  refine xr_iald hf hK hw 1 0 rfl 3 (by decide) (by decide) (Nat.le_of_ble_eq_true rfl) rfl dX9_pick_47 ?_
  refine lv_istore (lv' := [(8, .int 0), (7, .int 3), (4, .int (((0 + (2 * (imin x (v 4)))) + (2 * (imin (x - (imin x (v 4))) (v 3)))) + (imin ((x - (imin x (v 4))) - (imin (x - (imin x (v 4))) (v 3))) (v 5)))), (3, .int (((x - (imin x (v 4))) - (imin (x - (imin x (v 4))) (v 3))) - (imin ((x - (imin x (v 4))) - (imin (x - (imin x (v 4))) (v 3))) (v 5)))), (9, .int (imin ((x - (imin x (v 4))) - (imin (x - (imin x (v 4))) (v 3))) (v 5))), (6, .int 4), (5, .ref qa1), (2, .ref qa1), (0, .ref h0), (1, .int x)]) hx hb dX9_pick_48 hl (by decide) rfl (fun ls hl => ?_)
  refine lv_iload_n hx hb dX9_pick_50 rfl (lv_at hl 3 rfl) ?_
  refine lv_aload_n hx hb dX9_pick_51 rfl (lv_at hl 8 rfl) ?_
  refine xr_get hf hK hw 0 0 rfl rfl in_X9 2 (by decide) q1253 (fun _ h => h) rfl dX9_pick_52 ?_
  refine lv_iload hx hb dX9_pick_55 (lv_at hl 0 rfl) ?_
  refine xr_iald hf hK hw 0 1 rfl 0 (by decide) (by decide) (Nat.le_of_ble_eq_true rfl) rfl dX9_pick_57 ?_
  refine va_mmin hx hb (by rw [hf.2.2.1]; exact hl.1.symm) hf.2.2.2.1 (hts _ q1280) (hts _ q193) (hts _ q50) (hts _ q194) (Nat.le_of_ble_eq_true rfl) (Nat.le_of_ble_eq_true rfl) (Nat.le_of_ble_eq_true rfl) (Nat.le_of_ble_eq_true rfl) dX9_pick_58 ?_
  refine lv_as (y := imin (((x - (imin x (v 4))) - (imin (x - (imin x (v 4))) (v 3))) - (imin ((x - (imin x (v 4))) - (imin (x - (imin x (v 4))) (v 3))) (v 5))) (v 2)) rfl ?_
  refine lv_istore (lv' := [(9, .int (imin (((x - (imin x (v 4))) - (imin (x - (imin x (v 4))) (v 3))) - (imin ((x - (imin x (v 4))) - (imin (x - (imin x (v 4))) (v 3))) (v 5))) (v 2))), (8, .int 0), (7, .int 3), (4, .int (((0 + (2 * (imin x (v 4)))) + (2 * (imin (x - (imin x (v 4))) (v 3)))) + (imin ((x - (imin x (v 4))) - (imin (x - (imin x (v 4))) (v 3))) (v 5)))), (3, .int (((x - (imin x (v 4))) - (imin (x - (imin x (v 4))) (v 3))) - (imin ((x - (imin x (v 4))) - (imin (x - (imin x (v 4))) (v 3))) (v 5)))), (6, .int 4), (5, .ref qa1), (2, .ref qa1), (0, .ref h0), (1, .int x)]) hx hb dX9_pick_61 hl (by decide) rfl (fun ls hl => ?_)
  refine lv_aload_n hx hb dX9_pick_63 rfl (lv_at hl 8 rfl) ?_
  refine xr_get hf hK hw 0 0 rfl rfl in_X9 2 (by decide) q1253 (fun _ h => h) rfl dX9_pick_64 ?_
  refine lv_iload hx hb dX9_pick_67 (lv_at hl 1 rfl) ?_
  refine lv_dup2_11 hx hb dX9_pick_69 rfl rfl ?_
  refine xr_iald hf hK hw 0 1 rfl 0 (by decide) (by decide) (Nat.le_of_ble_eq_true rfl) rfl dX9_pick_70 ?_
  refine lv_iload hx hb dX9_pick_71 (lv_at hl 0 rfl) ?_
  refine lv_isub hx hb dX9_pick_73 ?_
  refine xr_iast (LL' := [[ob h0 8 [.int (v 0), .int (v 1), .ref h1], (h1, aI dT [(v 2 - (imin (((x - (imin x (v 4))) - (imin (x - (imin x (v 4))) (v 3))) - (imin ((x - (imin x (v 4))) - (imin (x - (imin x (v 4))) (v 3))) (v 5))) (v 2))), (v 3 - (imin (x - (imin x (v 4))) (v 3))), (v 4 - (imin x (v 4))), (v 5 - (imin ((x - (imin x (v 4))) - (imin (x - (imin x (v 4))) (v 3))) (v 5)))])], [(qa1, aI dT [2, 1, 3, 0])]]) hf hK hw 0 1 rfl 0 (by decide) (by decide) (Nat.le_of_ble_eq_true rfl) rfl dX9_pick_74 (fun H locs hw => ?_)
  refine lv_iload_n hx hb dX9_pick_75 rfl (lv_at hl 4 rfl) ?_
  refine lv_iload hx hb dX9_pick_76 (lv_at hl 0 rfl) ?_
  refine lv_isub hx hb dX9_pick_78 ?_
  refine lv_istore_n (lv' := [(3, .int ((((x - (imin x (v 4))) - (imin (x - (imin x (v 4))) (v 3))) - (imin ((x - (imin x (v 4))) - (imin (x - (imin x (v 4))) (v 3))) (v 5))) - (imin (((x - (imin x (v 4))) - (imin (x - (imin x (v 4))) (v 3))) - (imin ((x - (imin x (v 4))) - (imin (x - (imin x (v 4))) (v 3))) (v 5))) (v 2)))), (9, .int (imin (((x - (imin x (v 4))) - (imin (x - (imin x (v 4))) (v 3))) - (imin ((x - (imin x (v 4))) - (imin (x - (imin x (v 4))) (v 3))) (v 5))) (v 2))), (8, .int 0), (7, .int 3), (4, .int (((0 + (2 * (imin x (v 4)))) + (2 * (imin (x - (imin x (v 4))) (v 3)))) + (imin ((x - (imin x (v 4))) - (imin (x - (imin x (v 4))) (v 3))) (v 5)))), (6, .int 4), (5, .ref qa1), (2, .ref qa1), (0, .ref h0), (1, .int x)]) hx hb dX9_pick_79 rfl hl (by decide) rfl (fun ls hl => ?_)
  refine lv_iload hx hb dX9_pick_80 (lv_at hl 4 rfl) ?_
  refine lv_iload hx hb dX9_pick_82 (lv_at hl 2 rfl) ?_
  refine lv_iconst (v := 1) hx hb dX9_pick_84 (by decide) ?_
  refine lv_icmp_eq (tgt := 94) hx hb dX9_pick_85 (by decide) (fun c9 => absurd c9 (by decide)) (fun _ => ?_)
  refine lv_iload hx hb dX9_pick_88 (lv_at hl 2 rfl) ?_
  refine lv_iconst (v := 2) hx hb dX9_pick_90 (by decide) ?_
  refine lv_icmp_ne (tgt := 101) hx hb dX9_pick_91 (by decide) (fun _ => ?_) (fun c9 => absurd c9 (by decide))
  refine lv_iload hx hb dX9_pick_101 (lv_at hl 1 rfl) ?_
  refine lv_iadd hx hb dX9_pick_103 ?_
  refine lv_istore (lv' := [(4, .int ((((0 + (2 * (imin x (v 4)))) + (2 * (imin (x - (imin x (v 4))) (v 3)))) + (imin ((x - (imin x (v 4))) - (imin (x - (imin x (v 4))) (v 3))) (v 5))) + (imin (((x - (imin x (v 4))) - (imin (x - (imin x (v 4))) (v 3))) - (imin ((x - (imin x (v 4))) - (imin (x - (imin x (v 4))) (v 3))) (v 5))) (v 2)))), (3, .int ((((x - (imin x (v 4))) - (imin (x - (imin x (v 4))) (v 3))) - (imin ((x - (imin x (v 4))) - (imin (x - (imin x (v 4))) (v 3))) (v 5))) - (imin (((x - (imin x (v 4))) - (imin (x - (imin x (v 4))) (v 3))) - (imin ((x - (imin x (v 4))) - (imin (x - (imin x (v 4))) (v 3))) (v 5))) (v 2)))), (9, .int (imin (((x - (imin x (v 4))) - (imin (x - (imin x (v 4))) (v 3))) - (imin ((x - (imin x (v 4))) - (imin (x - (imin x (v 4))) (v 3))) (v 5))) (v 2))), (8, .int 0), (7, .int 3), (6, .int 4), (5, .ref qa1), (2, .ref qa1), (0, .ref h0), (1, .int x)]) hx hb dX9_pick_104 hl (by decide) rfl (fun ls hl => ?_)
  refine lv_iinc (v := 4) (lv' := [(7, .int 4), (4, .int ((((0 + (2 * (imin x (v 4)))) + (2 * (imin (x - (imin x (v 4))) (v 3)))) + (imin ((x - (imin x (v 4))) - (imin (x - (imin x (v 4))) (v 3))) (v 5))) + (imin (((x - (imin x (v 4))) - (imin (x - (imin x (v 4))) (v 3))) - (imin ((x - (imin x (v 4))) - (imin (x - (imin x (v 4))) (v 3))) (v 5))) (v 2)))), (3, .int ((((x - (imin x (v 4))) - (imin (x - (imin x (v 4))) (v 3))) - (imin ((x - (imin x (v 4))) - (imin (x - (imin x (v 4))) (v 3))) (v 5))) - (imin (((x - (imin x (v 4))) - (imin (x - (imin x (v 4))) (v 3))) - (imin ((x - (imin x (v 4))) - (imin (x - (imin x (v 4))) (v 3))) (v 5))) (v 2)))), (9, .int (imin (((x - (imin x (v 4))) - (imin (x - (imin x (v 4))) (v 3))) - (imin ((x - (imin x (v 4))) - (imin (x - (imin x (v 4))) (v 3))) (v 5))) (v 2))), (8, .int 0), (6, .int 4), (5, .ref qa1), (2, .ref qa1), (0, .ref h0), (1, .int x)]) hx hb dX9_pick_106 hl (k := 4) rfl (by decide) (by decide) rfl (fun ls hl => ?_)
  refine lv_goto (tgt := 36) hx hb dX9_pick_109 (by decide) ?_
  refine lv_iload hx hb dX9_pick_36 (lv_at hl 0 rfl) ?_
  refine lv_iload hx hb dX9_pick_38 (lv_at hl 5 rfl) ?_
  refine lv_icmp_ge (tgt := 112) hx hb dX9_pick_40 (by decide) (fun _ => ?_) (fun c9 => absurd c9 (by decide))
  refine lv_iload hx hb dX9_pick_112 (lv_at hl 1 rfl) ?_
  have hw := Wd.take (L2 := [[ob h0 8 [.int (v 0), .int (v 1), .ref h1], (h1, aI dT [(v 2 - (imin (((x - (imin x (v 4))) - (imin (x - (imin x (v 4))) (v 3))) - (imin ((x - (imin x (v 4))) - (imin (x - (imin x (v 4))) (v 3))) (v 5))) (v 2))), (v 3 - (imin (x - (imin x (v 4))) (v 3))), (v 4 - (imin x (v 4))), (v 5 - (imin ((x - (imin x (v 4))) - (imin (x - (imin x (v 4))) (v 3))) (v 5)))])]]) hw [0] rfl rfl
  have e9 : f_X9_pick v x = (((((0 + (2 * (imin x (v 4)))) + (2 * (imin (x - (imin x (v 4))) (v 3)))) + (imin ((x - (imin x (v 4))) - (imin (x - (imin x (v 4))) (v 3))) (v 5))) + (imin (((x - (imin x (v 4))) - (imin (x - (imin x (v 4))) (v 3))) - (imin ((x - (imin x (v 4))) - (imin (x - (imin x (v 4))) (v 3))) (v 5))) (v 2))), (vec [v 0, v 1, (v 2 - (imin (((x - (imin x (v 4))) - (imin (x - (imin x (v 4))) (v 3))) - (imin ((x - (imin x (v 4))) - (imin (x - (imin x (v 4))) (v 3))) (v 5))) (v 2))), (v 3 - (imin (x - (imin x (v 4))) (v 3))), (v 4 - (imin x (v 4))), (v 5 - (imin ((x - (imin x (v 4))) - (imin (x - (imin x (v 4))) (v 3))) (v 5)))])) := by
    unfold f_X9_pick
    try rfl
  have p0 := congrArg (fun z : Int32 × (Nat → Int32) => some (Value.int z.1)) e9.symm
  have p1 := congrArg (fun z : Int32 × (Nat → Int32) => [mpS dT h0 h1 z.2]) e9.symm
  exact xr_iret hf hr hlocks hw (Nat.le_of_ble_eq_true rfl) (Nat.le_of_ble_eq_true rfl) ⟨p0, p1⟩ dX9_pick_114

def f_X9_prune (v : Nat → Int32)  : Int32 × (Nat → Int32) :=
  (((((0 + v 2) + v 3) + v 4) + v 5), (vec [v 0, 4, 0, 0, 0, 0]))
set_option maxHeartbeats 4000000 in
theorem k_X9_prune (l : Launch) (D : va_G) (dT g : Nat → Nat) (z0 : Nat) (h0 : Nat) (h1 : Nat) (v : Nat → Int32)  : Con l D dT g z0 yX9_prune (ws_ yX9_prune cX9_prune 3 (some .int)) ({ frames := 1, cells := 0, slots := 0, locals := 40 }) [.ref h0] [mpS dT h0 h1 v] (fun r LL => r = some (.int (f_X9_prune v).1) ∧ LL = [mpS dT h0 h1 (f_X9_prune v).2]) noX 0 0 := by
  refine Con.of (maxL := 3) (ret := (some .int)) (by first | exact plainFor_of_name (by decide) | decide +kernel) (Nat.le_of_ble_eq_true rfl) ?_
  intro p e s m args below meth c A ls hf hr hlocks hnm hno hK hA hAz hw hl hst
  have hf : CallFix p m c cX9_prune 3 s args lw_all "SilkRowModel$Plot" := hf
  have hnm : meth.name = "prune" := hnm
  have hx := hf.1
  have hb := hf.2.1
  have hts := hf.2.2.2.2
  have hl : lv_has ls 3 [(0, .ref h0)] := hl
  have hw : Wd D A s.heap s.heap [] [[ob h0 8 [.int (v 0), .int (v 1), .ref h1], (h1, aI dT [v 2, v 3, v 4, v 5])]] := hw
  refine lv_iconst (v := 0) hx hb dX9_prune_0 (by decide) ?_
  refine lv_istore_n (lv' := [(1, .int 0), (0, .ref h0)]) hx hb dX9_prune_1 rfl hl (by decide) rfl (fun ls hl => ?_)
  refine lv_iconst (v := 0) hx hb dX9_prune_2 (by decide) ?_
  refine lv_istore_n (lv' := [(2, .int 0), (1, .int 0), (0, .ref h0)]) hx hb dX9_prune_3 rfl hl (by decide) rfl (fun ls hl => ?_)
  refine lv_iload_n hx hb dX9_prune_4 rfl (lv_at hl 0 rfl) ?_
  refine lv_iconst (v := 4) hx hb dX9_prune_5 (by decide) ?_
  refine lv_icmp_ge (tgt := 31) hx hb dX9_prune_6 (by decide) (fun c9 => absurd c9 (by decide)) (fun _ => ?_)
  refine lv_iload_n hx hb dX9_prune_9 rfl (lv_at hl 1 rfl) ?_
  refine lv_aload_n hx hb dX9_prune_10 rfl (lv_at hl 2 rfl) ?_
  refine xr_get hf hK hw 0 0 rfl rfl in_X9 2 (by decide) q1253 (fun _ h => h) rfl dX9_prune_11 ?_
  refine lv_iload_n hx hb dX9_prune_14 rfl (lv_at hl 0 rfl) ?_
  refine xr_iald hf hK hw 0 1 rfl 0 (by decide) (by decide) (Nat.le_of_ble_eq_true rfl) rfl dX9_prune_15 ?_
  refine lv_iadd hx hb dX9_prune_16 ?_
  refine lv_istore_n (lv' := [(1, .int (0 + v 2)), (2, .int 0), (0, .ref h0)]) hx hb dX9_prune_17 rfl hl (by decide) rfl (fun ls hl => ?_)
  refine lv_aload_n hx hb dX9_prune_18 rfl (lv_at hl 2 rfl) ?_
  refine xr_get hf hK hw 0 0 rfl rfl in_X9 2 (by decide) q1253 (fun _ h => h) rfl dX9_prune_19 ?_
  refine lv_iload_n hx hb dX9_prune_22 rfl (lv_at hl 1 rfl) ?_
  refine lv_iconst (v := 0) hx hb dX9_prune_23 (by decide) ?_
  refine xr_iast (LL' := [[ob h0 8 [.int (v 0), .int (v 1), .ref h1], (h1, aI dT [0, v 3, v 4, v 5])]]) hf hK hw 0 1 rfl 0 (by decide) (by decide) (Nat.le_of_ble_eq_true rfl) rfl dX9_prune_24 (fun H locs hw => ?_)
  refine lv_iinc (v := 1) (lv' := [(2, .int 1), (1, .int (0 + v 2)), (0, .ref h0)]) hx hb dX9_prune_25 hl (k := 1) rfl (by decide) (by decide) rfl (fun ls hl => ?_)
  refine lv_goto (tgt := 4) hx hb dX9_prune_28 (by decide) ?_
  refine lv_iload_n hx hb dX9_prune_4 rfl (lv_at hl 0 rfl) ?_
  refine lv_iconst (v := 4) hx hb dX9_prune_5 (by decide) ?_
  refine lv_icmp_ge (tgt := 31) hx hb dX9_prune_6 (by decide) (fun c9 => absurd c9 (by decide)) (fun _ => ?_)
  refine lv_iload_n hx hb dX9_prune_9 rfl (lv_at hl 1 rfl) ?_
  refine lv_aload_n hx hb dX9_prune_10 rfl (lv_at hl 2 rfl) ?_
  refine xr_get hf hK hw 0 0 rfl rfl in_X9 2 (by decide) q1253 (fun _ h => h) rfl dX9_prune_11 ?_
  refine lv_iload_n hx hb dX9_prune_14 rfl (lv_at hl 0 rfl) ?_
  refine xr_iald hf hK hw 0 1 rfl 1 (by decide) (by decide) (Nat.le_of_ble_eq_true rfl) rfl dX9_prune_15 ?_
  refine lv_iadd hx hb dX9_prune_16 ?_
  refine lv_istore_n (lv' := [(1, .int ((0 + v 2) + v 3)), (2, .int 1), (0, .ref h0)]) hx hb dX9_prune_17 rfl hl (by decide) rfl (fun ls hl => ?_)
  refine lv_aload_n hx hb dX9_prune_18 rfl (lv_at hl 2 rfl) ?_
  refine xr_get hf hK hw 0 0 rfl rfl in_X9 2 (by decide) q1253 (fun _ h => h) rfl dX9_prune_19 ?_
  refine lv_iload_n hx hb dX9_prune_22 rfl (lv_at hl 1 rfl) ?_
  refine lv_iconst (v := 0) hx hb dX9_prune_23 (by decide) ?_
  refine xr_iast (LL' := [[ob h0 8 [.int (v 0), .int (v 1), .ref h1], (h1, aI dT [0, 0, v 4, v 5])]]) hf hK hw 0 1 rfl 1 (by decide) (by decide) (Nat.le_of_ble_eq_true rfl) rfl dX9_prune_24 (fun H locs hw => ?_)
  refine lv_iinc (v := 2) (lv' := [(2, .int 2), (1, .int ((0 + v 2) + v 3)), (0, .ref h0)]) hx hb dX9_prune_25 hl (k := 1) rfl (by decide) (by decide) rfl (fun ls hl => ?_)
  refine lv_goto (tgt := 4) hx hb dX9_prune_28 (by decide) ?_
  refine lv_iload_n hx hb dX9_prune_4 rfl (lv_at hl 0 rfl) ?_
  refine lv_iconst (v := 4) hx hb dX9_prune_5 (by decide) ?_
  refine lv_icmp_ge (tgt := 31) hx hb dX9_prune_6 (by decide) (fun c9 => absurd c9 (by decide)) (fun _ => ?_)
  refine lv_iload_n hx hb dX9_prune_9 rfl (lv_at hl 1 rfl) ?_
  refine lv_aload_n hx hb dX9_prune_10 rfl (lv_at hl 2 rfl) ?_
  refine xr_get hf hK hw 0 0 rfl rfl in_X9 2 (by decide) q1253 (fun _ h => h) rfl dX9_prune_11 ?_
  refine lv_iload_n hx hb dX9_prune_14 rfl (lv_at hl 0 rfl) ?_
  refine xr_iald hf hK hw 0 1 rfl 2 (by decide) (by decide) (Nat.le_of_ble_eq_true rfl) rfl dX9_prune_15 ?_
  refine lv_iadd hx hb dX9_prune_16 ?_
  refine lv_istore_n (lv' := [(1, .int (((0 + v 2) + v 3) + v 4)), (2, .int 2), (0, .ref h0)]) hx hb dX9_prune_17 rfl hl (by decide) rfl (fun ls hl => ?_)
  refine lv_aload_n hx hb dX9_prune_18 rfl (lv_at hl 2 rfl) ?_
  refine xr_get hf hK hw 0 0 rfl rfl in_X9 2 (by decide) q1253 (fun _ h => h) rfl dX9_prune_19 ?_
  refine lv_iload_n hx hb dX9_prune_22 rfl (lv_at hl 1 rfl) ?_
  refine lv_iconst (v := 0) hx hb dX9_prune_23 (by decide) ?_
  refine xr_iast (LL' := [[ob h0 8 [.int (v 0), .int (v 1), .ref h1], (h1, aI dT [0, 0, 0, v 5])]]) hf hK hw 0 1 rfl 2 (by decide) (by decide) (Nat.le_of_ble_eq_true rfl) rfl dX9_prune_24 (fun H locs hw => ?_)
  refine lv_iinc (v := 3) (lv' := [(2, .int 3), (1, .int (((0 + v 2) + v 3) + v 4)), (0, .ref h0)]) hx hb dX9_prune_25 hl (k := 1) rfl (by decide) (by decide) rfl (fun ls hl => ?_)
  refine lv_goto (tgt := 4) hx hb dX9_prune_28 (by decide) ?_
  refine lv_iload_n hx hb dX9_prune_4 rfl (lv_at hl 0 rfl) ?_
  refine lv_iconst (v := 4) hx hb dX9_prune_5 (by decide) ?_
  refine lv_icmp_ge (tgt := 31) hx hb dX9_prune_6 (by decide) (fun c9 => absurd c9 (by decide)) (fun _ => ?_)
  refine lv_iload_n hx hb dX9_prune_9 rfl (lv_at hl 1 rfl) ?_
  refine lv_aload_n hx hb dX9_prune_10 rfl (lv_at hl 2 rfl) ?_
  refine xr_get hf hK hw 0 0 rfl rfl in_X9 2 (by decide) q1253 (fun _ h => h) rfl dX9_prune_11 ?_
  refine lv_iload_n hx hb dX9_prune_14 rfl (lv_at hl 0 rfl) ?_
  refine xr_iald hf hK hw 0 1 rfl 3 (by decide) (by decide) (Nat.le_of_ble_eq_true rfl) rfl dX9_prune_15 ?_
  refine lv_iadd hx hb dX9_prune_16 ?_
  refine lv_istore_n (lv' := [(1, .int ((((0 + v 2) + v 3) + v 4) + v 5)), (2, .int 3), (0, .ref h0)]) hx hb dX9_prune_17 rfl hl (by decide) rfl (fun ls hl => ?_)
  refine lv_aload_n hx hb dX9_prune_18 rfl (lv_at hl 2 rfl) ?_
  refine xr_get hf hK hw 0 0 rfl rfl in_X9 2 (by decide) q1253 (fun _ h => h) rfl dX9_prune_19 ?_
  refine lv_iload_n hx hb dX9_prune_22 rfl (lv_at hl 1 rfl) ?_
  refine lv_iconst (v := 0) hx hb dX9_prune_23 (by decide) ?_
  refine xr_iast (LL' := [[ob h0 8 [.int (v 0), .int (v 1), .ref h1], (h1, aI dT [0, 0, 0, 0])]]) hf hK hw 0 1 rfl 3 (by decide) (by decide) (Nat.le_of_ble_eq_true rfl) rfl dX9_prune_24 (fun H locs hw => ?_)
  refine lv_iinc (v := 4) (lv' := [(2, .int 4), (1, .int ((((0 + v 2) + v 3) + v 4) + v 5)), (0, .ref h0)]) hx hb dX9_prune_25 hl (k := 1) rfl (by decide) (by decide) rfl (fun ls hl => ?_)
  refine lv_goto (tgt := 4) hx hb dX9_prune_28 (by decide) ?_
  refine lv_iload_n hx hb dX9_prune_4 rfl (lv_at hl 0 rfl) ?_
  refine lv_iconst (v := 4) hx hb dX9_prune_5 (by decide) ?_
  refine lv_icmp_ge (tgt := 31) hx hb dX9_prune_6 (by decide) (fun _ => ?_) (fun c9 => absurd c9 (by decide))
  refine lv_aload_n hx hb dX9_prune_31 rfl (lv_at hl 2 rfl) ?_
  refine lv_iconst (v := 4) hx hb dX9_prune_32 (by decide) ?_
  refine xr_put (LL' := [[ob h0 8 [.int (v 0), .int 4, .ref h1], (h1, aI dT [0, 0, 0, 0])]]) hf hK hw 0 0 rfl rfl in_X9 tyX9_ok nmX9 1 (by decide) q1251 (fun _ h => h) rfl rfl rfl (Nat.le_of_ble_eq_true rfl) rfl dX9_prune_33 (fun H locs hw => ?_)
  refine lv_iload_n hx hb dX9_prune_36 rfl (lv_at hl 1 rfl) ?_
  have e9 : f_X9_prune v = (((((0 + v 2) + v 3) + v 4) + v 5), (vec [v 0, 4, 0, 0, 0, 0])) := by
    unfold f_X9_prune
    try rfl
  have p0 := congrArg (fun z : Int32 × (Nat → Int32) => some (Value.int z.1)) e9.symm
  have p1 := congrArg (fun z : Int32 × (Nat → Int32) => [mpS dT h0 h1 z.2]) e9.symm
  exact xr_iret hf hr hlocks hw (Nat.le_of_ble_eq_true rfl) (Nat.le_of_ble_eq_true rfl) ⟨p0, p1⟩ dX9_prune_37

def f_X2_init (v : Nat → Int32)  : (Nat → Int32) :=
  (vec [4, 3, v 2])
set_option maxHeartbeats 4000000 in
theorem k_X2_init (l : Launch) (D : va_G) (dT g : Nat → Nat) (z0 : Nat) (h0 : Nat) (v : Nat → Int32)  : Con l D dT g z0 yX2_init (ws_ yX2_init cX2_init 1 none) ({ frames := 1, cells := 0, slots := 0, locals := 40 }) [.ref h0] [lnS h0 v] (fun r LL => r = none ∧ LL = [lnS h0 (f_X2_init v)]) noX 0 0 := by
  refine Con.of (maxL := 1) (ret := none) (by first | exact plainFor_of_name (by decide) | decide +kernel) (Nat.le_of_ble_eq_true rfl) ?_
  intro p e s m args below meth c A ls hf hr hlocks hnm hno hK hA hAz hw hl hst
  have hf : CallFix p m c cX2_init 1 s args lw_all "SilkRow$Line" := hf
  have hnm : meth.name = "<init>" := hnm
  have hx := hf.1
  have hb := hf.2.1
  have hts := hf.2.2.2.2
  have hl : lv_has ls 1 [(0, .ref h0)] := hl
  have hw : Wd D A s.heap s.heap [] [[ob h0 1 [.int (v 0), .int (v 1), .int (v 2)]]] := hw
  refine lv_aload_n hx hb dX2_init_0 rfl (lv_at hl 0 rfl) ?_
  refine W.objInit hx hb hf.2.2.2.1 (hts _ q119) (hts _ q83) (hts _ q84) rfl (by rw [hf.2.2.1]; exact hl.1) rfl dX2_init_1 (Nat.le_of_ble_eq_true rfl) (Nat.le_of_ble_eq_true rfl) ?_
  refine W.eq (g2 := F0 m 4 ls []) rfl ?_
  refine lv_aload_n hx hb dX2_init_4 rfl (lv_at hl 0 rfl) ?_
  refine lv_iconst (v := 4) hx hb dX2_init_5 (by decide) ?_
  refine xr_put (LL' := [[ob h0 1 [.int 4, .int (v 1), .int (v 2)]]]) hf hK hw 0 0 rfl rfl in_X2 tyX2_ok nmX2 0 (by decide) q120 (fun _ h => h) rfl rfl rfl (Nat.le_of_ble_eq_true rfl) rfl dX2_init_6 (fun H locs hw => ?_)
  refine lv_aload_n hx hb dX2_init_9 rfl (lv_at hl 0 rfl) ?_
  refine lv_iconst (v := 3) hx hb dX2_init_10 (by decide) ?_
  refine xr_put (LL' := [[ob h0 1 [.int 4, .int 3, .int (v 2)]]]) hf hK hw 0 0 rfl rfl in_X2 tyX2_ok nmX2 1 (by decide) q122 (fun _ h => h) rfl rfl rfl (Nat.le_of_ble_eq_true rfl) rfl dX2_init_11 (fun H locs hw => ?_)
  have e9 : f_X2_init v = (vec [4, 3, v 2]) := by
    unfold f_X2_init
    try rfl
  have p1 := congrArg (fun z : (Nat → Int32) => [lnS h0 z]) e9.symm
  exact xr_vret hf hr hlocks hw (Nat.le_of_ble_eq_true rfl) (Nat.le_of_ble_eq_true rfl) ⟨rfl, p1⟩ dX2_init_14

def f_X6_init (v : Nat → Int32)  : (Nat → Int32) :=
  (vec [4, 3, v 2])
set_option maxHeartbeats 4000000 in
theorem k_X6_init (l : Launch) (D : va_G) (dT g : Nat → Nat) (z0 : Nat) (h0 : Nat) (v : Nat → Int32)  : Con l D dT g z0 yX6_init (ws_ yX6_init cX6_init 1 none) ({ frames := 1, cells := 0, slots := 0, locals := 40 }) [.ref h0] [mlS h0 v] (fun r LL => r = none ∧ LL = [mlS h0 (f_X6_init v)]) noX 0 0 := by
  refine Con.of (maxL := 1) (ret := none) (by first | exact plainFor_of_name (by decide) | decide +kernel) (Nat.le_of_ble_eq_true rfl) ?_
  intro p e s m args below meth c A ls hf hr hlocks hnm hno hK hA hAz hw hl hst
  have hf : CallFix p m c cX6_init 1 s args lw_all "SilkRowModel$Line" := hf
  have hnm : meth.name = "<init>" := hnm
  have hx := hf.1
  have hb := hf.2.1
  have hts := hf.2.2.2.2
  have hl : lv_has ls 1 [(0, .ref h0)] := hl
  have hw : Wd D A s.heap s.heap [] [[ob h0 5 [.int (v 0), .int (v 1), .int (v 2)]]] := hw
  refine lv_aload_n hx hb dX6_init_0 rfl (lv_at hl 0 rfl) ?_
  refine W.objInit hx hb hf.2.2.2.1 (hts _ q1117) (hts _ q83) (hts _ q84) rfl (by rw [hf.2.2.1]; exact hl.1) rfl dX6_init_1 (Nat.le_of_ble_eq_true rfl) (Nat.le_of_ble_eq_true rfl) ?_
  refine W.eq (g2 := F0 m 4 ls []) rfl ?_
  refine lv_aload_n hx hb dX6_init_4 rfl (lv_at hl 0 rfl) ?_
  refine lv_iconst (v := 4) hx hb dX6_init_5 (by decide) ?_
  refine xr_put (LL' := [[ob h0 5 [.int 4, .int (v 1), .int (v 2)]]]) hf hK hw 0 0 rfl rfl in_X6 tyX6_ok nmX6 0 (by decide) q1118 (fun _ h => h) rfl rfl rfl (Nat.le_of_ble_eq_true rfl) rfl dX6_init_6 (fun H locs hw => ?_)
  refine lv_aload_n hx hb dX6_init_9 rfl (lv_at hl 0 rfl) ?_
  refine lv_iconst (v := 3) hx hb dX6_init_10 (by decide) ?_
  refine xr_put (LL' := [[ob h0 5 [.int 4, .int 3, .int (v 2)]]]) hf hK hw 0 0 rfl rfl in_X6 tyX6_ok nmX6 1 (by decide) q1120 (fun _ h => h) rfl rfl rfl (Nat.le_of_ble_eq_true rfl) rfl dX6_init_11 (fun H locs hw => ?_)
  have e9 : f_X6_init v = (vec [4, 3, v 2]) := by
    unfold f_X6_init
    try rfl
  have p1 := congrArg (fun z : (Nat → Int32) => [mlS h0 z]) e9.symm
  exact xr_vret hf hr hlocks hw (Nat.le_of_ble_eq_true rfl) (Nat.le_of_ble_eq_true rfl) ⟨rfl, p1⟩ dX6_init_14

def f_X12_init   : (Nat → Int32) :=
  (vec [0, 0, 0, 0, 0, 0, 0, 0, 0])
set_option maxHeartbeats 4000000 in
theorem k_X12_init (l : Launch) (D : va_G) (dT g : Nat → Nat) (z0 : Nat) (h0 : Nat)   : Con l D dT g z0 yX12_init (ws_ yX12_init cX12_init 1 none) ({ frames := 1, cells := 1, slots := 4, locals := 40 }) [.ref h0] [[ob h0 11 [.int 0, .int 0, .int 0, .int 0, .int 0, .null]]] (fun r LL => ∃ a1 : Nat, r = none ∧ LL = [skS dT h0 a1 (f_X12_init)]) noX 1 4 := by
  refine Con.of (maxL := 1) (ret := none) (by first | exact plainFor_of_name (by decide) | decide +kernel) (Nat.le_of_ble_eq_true rfl) ?_
  intro p e s m args below meth c A ls hf hr hlocks hnm hno hK hA hAz hw hl hst
  have hf : CallFix p m c cX12_init 1 s args lw_all "SilkRow$Skein" := hf
  have hnm : meth.name = "<init>" := hnm
  have hx := hf.1
  have hb := hf.2.1
  have hts := hf.2.2.2.2
  have hl : lv_has ls 1 [(0, .ref h0)] := hl
  have hw : Wd D A s.heap s.heap [] [[ob h0 11 [.int 0, .int 0, .int 0, .int 0, .int 0, .null]]] := hw
  refine lv_aload_n hx hb dX12_init_0 rfl (lv_at hl 0 rfl) ?_
  refine W.objInit hx hb hf.2.2.2.1 (hts _ q511) (hts _ q83) (hts _ q84) rfl (by rw [hf.2.2.1]; exact hl.1) rfl dX12_init_1 (Nat.le_of_ble_eq_true rfl) (Nat.le_of_ble_eq_true rfl) ?_
  refine W.eq (g2 := F0 m 4 ls []) rfl ?_
  refine lv_aload_n hx hb dX12_init_4 rfl (lv_at hl 0 rfl) ?_
  refine lv_iconst (v := 4) hx hb dX12_init_5 (by decide) ?_
  refine xr_newi hf hK hw hA q463 (N := 4) (by decide) (by decide) (Nat.le_of_ble_eq_true rfl) (Nat.le_of_ble_eq_true rfl) (Nat.le_of_ble_eq_true rfl) dX12_init_6 (fun qa1 H hw => ?_)
  have hw : Wd D A s.heap _ _ [[ob h0 11 [.int 0, .int 0, .int 0, .int 0, .int 0, .null]], [(qa1, aI dT [0, 0, 0, 0])]] := hw
  refine xr_putF (LL' := [[ob h0 11 [.int 0, .int 0, .int 0, .int 0, .int 0, .ref qa1]], [(qa1, aI dT [0, 0, 0, 0])]]) hf hK hw 0 0 rfl rfl in_X12 tyX12_ok nmX12 5 (by decide) q521 (fun _ h => h) rfl hnm rfl rfl rfl (Nat.le_of_ble_eq_true rfl) rfl dX12_init_8 (fun H locs hw => ?_)
  have hw := Wd.take (L2 := [[ob h0 11 [.int 0, .int 0, .int 0, .int 0, .int 0, .ref qa1]], [(qa1, aI dT [0, 0, 0, 0])]]) hw [0, 0] rfl rfl
  have e9 : f_X12_init = (vec [0, 0, 0, 0, 0, 0, 0, 0, 0]) := by
    unfold f_X12_init
    try rfl
  have hw : Wd D A s.heap _ _ [[ob h0 11 [.int 0, .int 0, .int 0, .int 0, .int 0, .ref qa1], (qa1, aI dT [0, 0, 0, 0])]] := hw.eq rfl
  have p1 := congrArg (fun z : (Nat → Int32) => [skS dT h0 qa1 z]) e9.symm
  exact xr_vret hf hr hlocks hw (Nat.le_of_ble_eq_true rfl) (Nat.le_of_ble_eq_true rfl) ⟨qa1, rfl, p1⟩ dX12_init_11

def f_X12_add (v : Nat → Int32) (x : Int32) : (Nat → Int32) :=
  if v 0 = 0 then
    (vec [(v 0 + 1), x, (imax (v 2) x), (v 3 + x), v 4, v 5, v 6, v 7, v 8])
  else
    (vec [(v 0 + 1), (imin (v 1) x), (imax (v 2) x), (v 3 + x), v 4, v 5, v 6, v 7, v 8])
set_option maxHeartbeats 4000000 in
theorem k_X12_add (l : Launch) (D : va_G) (dT g : Nat → Nat) (z0 : Nat) (h0 : Nat) (h1 : Nat) (v : Nat → Int32) (x : Int32) : Con l D dT g z0 yX12_add (ws_ yX12_add cX12_add 2 none) ({ frames := 1, cells := 0, slots := 0, locals := 40 }) [.ref h0, .int x] [skS dT h0 h1 v] (fun r LL => r = none ∧ LL = [skS dT h0 h1 (f_X12_add v x)]) noX 0 0 := by
  refine Con.of (maxL := 2) (ret := none) (by first | exact plainFor_of_name (by decide) | decide +kernel) (Nat.le_of_ble_eq_true rfl) ?_
  intro p e s m args below meth c A ls hf hr hlocks hnm hno hK hA hAz hw hl hst
  have hf : CallFix p m c cX12_add 2 s args lw_all "SilkRow$Skein" := hf
  have hnm : meth.name = "add" := hnm
  have hx := hf.1
  have hb := hf.2.1
  have hts := hf.2.2.2.2
  have hl : lv_has ls 2 [(0, .ref h0), (1, .int x)] := hl
  have hw : Wd D A s.heap s.heap [] [[ob h0 11 [.int (v 0), .int (v 1), .int (v 2), .int (v 3), .int (bz (v 4)), .ref h1], (h1, aI dT [v 5, v 6, v 7, v 8])]] := hw
  refine lv_aload_n hx hb dX12_add_0 rfl (lv_at hl 0 rfl) ?_
  refine lv_aload_n hx hb dX12_add_1 rfl (lv_at hl 0 rfl) ?_
  refine xr_get hf hK hw 0 0 rfl rfl in_X12 0 (by decide) q512 (fun _ h => h) rfl dX12_add_2 ?_
  refine lv_if_ne (tgt := 12) hx hb dX12_add_5 (by decide) (fun c_5 => ?_) (fun c_5 => ?_)
  · refine lv_aload_n hx hb dX12_add_12 rfl (lv_at hl 0 rfl) ?_
    refine xr_get hf hK hw 0 0 rfl rfl in_X12 1 (by decide) q514 (fun _ h => h) rfl dX12_add_13 ?_
    refine lv_iload_n hx hb dX12_add_16 rfl (lv_at hl 1 rfl) ?_
    refine va_mmin hx hb (by rw [hf.2.2.1]; exact hl.1.symm) hf.2.2.2.1 (hts _ q582) (hts _ q193) (hts _ q50) (hts _ q194) (Nat.le_of_ble_eq_true rfl) (Nat.le_of_ble_eq_true rfl) (Nat.le_of_ble_eq_true rfl) (Nat.le_of_ble_eq_true rfl) dX12_add_17 ?_
    refine lv_as (y := imin (v 1) x) rfl ?_
    refine xr_put (LL' := [[ob h0 11 [.int (v 0), .int (imin (v 1) x), .int (v 2), .int (v 3), .int (bz (v 4)), .ref h1], (h1, aI dT [v 5, v 6, v 7, v 8])]]) hf hK hw 0 0 rfl rfl in_X12 tyX12_ok nmX12 1 (by decide) q514 (fun _ h => h) rfl rfl rfl (Nat.le_of_ble_eq_true rfl) rfl dX12_add_20 (fun H locs hw => ?_)
    refine lv_aload_n hx hb dX12_add_23 rfl (lv_at hl 0 rfl) ?_
    refine lv_aload_n hx hb dX12_add_24 rfl (lv_at hl 0 rfl) ?_
    refine xr_get hf hK hw 0 0 rfl rfl in_X12 2 (by decide) q516 (fun _ h => h) rfl dX12_add_25 ?_
    refine lv_iload_n hx hb dX12_add_28 rfl (lv_at hl 1 rfl) ?_
    refine va_mmax hx hb (by rw [hf.2.2.1]; exact hl.1.symm) hf.2.2.2.1 (hts _ q583) (hts _ q152) (hts _ q50) (hts _ q153) (Nat.le_of_ble_eq_true rfl) (Nat.le_of_ble_eq_true rfl) (Nat.le_of_ble_eq_true rfl) (Nat.le_of_ble_eq_true rfl) dX12_add_29 ?_
    refine lv_as (y := imax (v 2) x) rfl ?_
    refine xr_put (LL' := [[ob h0 11 [.int (v 0), .int (imin (v 1) x), .int (imax (v 2) x), .int (v 3), .int (bz (v 4)), .ref h1], (h1, aI dT [v 5, v 6, v 7, v 8])]]) hf hK hw 0 0 rfl rfl in_X12 tyX12_ok nmX12 2 (by decide) q516 (fun _ h => h) rfl rfl rfl (Nat.le_of_ble_eq_true rfl) rfl dX12_add_32 (fun H locs hw => ?_)
    refine lv_aload_n hx hb dX12_add_35 rfl (lv_at hl 0 rfl) ?_
    refine lv_dup hx hb dX12_add_36 rfl ?_
    refine xr_get hf hK hw 0 0 rfl rfl in_X12 3 (by decide) q518 (fun _ h => h) rfl dX12_add_37 ?_
    refine lv_iload_n hx hb dX12_add_40 rfl (lv_at hl 1 rfl) ?_
    refine lv_iadd hx hb dX12_add_41 ?_
    refine xr_put (LL' := [[ob h0 11 [.int (v 0), .int (imin (v 1) x), .int (imax (v 2) x), .int (v 3 + x), .int (bz (v 4)), .ref h1], (h1, aI dT [v 5, v 6, v 7, v 8])]]) hf hK hw 0 0 rfl rfl in_X12 tyX12_ok nmX12 3 (by decide) q518 (fun _ h => h) rfl rfl rfl (Nat.le_of_ble_eq_true rfl) rfl dX12_add_42 (fun H locs hw => ?_)
    refine lv_aload_n hx hb dX12_add_45 rfl (lv_at hl 0 rfl) ?_
    refine lv_dup hx hb dX12_add_46 rfl ?_
    refine xr_get hf hK hw 0 0 rfl rfl in_X12 0 (by decide) q512 (fun _ h => h) rfl dX12_add_47 ?_
    refine lv_iconst (v := 1) hx hb dX12_add_50 (by decide) ?_
    refine lv_iadd hx hb dX12_add_51 ?_
    refine xr_put (LL' := [[ob h0 11 [.int (v 0 + 1), .int (imin (v 1) x), .int (imax (v 2) x), .int (v 3 + x), .int (bz (v 4)), .ref h1], (h1, aI dT [v 5, v 6, v 7, v 8])]]) hf hK hw 0 0 rfl rfl in_X12 tyX12_ok nmX12 0 (by decide) q512 (fun _ h => h) rfl rfl rfl (Nat.le_of_ble_eq_true rfl) rfl dX12_add_52 (fun H locs hw => ?_)
    have e9 : f_X12_add v x = (vec [(v 0 + 1), (imin (v 1) x), (imax (v 2) x), (v 3 + x), v 4, v 5, v 6, v 7, v 8]) := by
      unfold f_X12_add
      rw [if_neg c_5]
      try rfl
    have p1 := congrArg (fun z : (Nat → Int32) => [skS dT h0 h1 z]) e9.symm
    exact xr_vret hf hr hlocks hw (Nat.le_of_ble_eq_true rfl) (Nat.le_of_ble_eq_true rfl) ⟨rfl, p1⟩ dX12_add_55
  · refine lv_iload_n hx hb dX12_add_8 rfl (lv_at hl 1 rfl) ?_
    refine lv_goto (tgt := 20) hx hb dX12_add_9 (by decide) ?_
    refine xr_put (LL' := [[ob h0 11 [.int (v 0), .int x, .int (v 2), .int (v 3), .int (bz (v 4)), .ref h1], (h1, aI dT [v 5, v 6, v 7, v 8])]]) hf hK hw 0 0 rfl rfl in_X12 tyX12_ok nmX12 1 (by decide) q514 (fun _ h => h) rfl rfl rfl (Nat.le_of_ble_eq_true rfl) rfl dX12_add_20 (fun H locs hw => ?_)
    refine lv_aload_n hx hb dX12_add_23 rfl (lv_at hl 0 rfl) ?_
    refine lv_aload_n hx hb dX12_add_24 rfl (lv_at hl 0 rfl) ?_
    refine xr_get hf hK hw 0 0 rfl rfl in_X12 2 (by decide) q516 (fun _ h => h) rfl dX12_add_25 ?_
    refine lv_iload_n hx hb dX12_add_28 rfl (lv_at hl 1 rfl) ?_
    refine va_mmax hx hb (by rw [hf.2.2.1]; exact hl.1.symm) hf.2.2.2.1 (hts _ q583) (hts _ q152) (hts _ q50) (hts _ q153) (Nat.le_of_ble_eq_true rfl) (Nat.le_of_ble_eq_true rfl) (Nat.le_of_ble_eq_true rfl) (Nat.le_of_ble_eq_true rfl) dX12_add_29 ?_
    refine lv_as (y := imax (v 2) x) rfl ?_
    refine xr_put (LL' := [[ob h0 11 [.int (v 0), .int x, .int (imax (v 2) x), .int (v 3), .int (bz (v 4)), .ref h1], (h1, aI dT [v 5, v 6, v 7, v 8])]]) hf hK hw 0 0 rfl rfl in_X12 tyX12_ok nmX12 2 (by decide) q516 (fun _ h => h) rfl rfl rfl (Nat.le_of_ble_eq_true rfl) rfl dX12_add_32 (fun H locs hw => ?_)
    refine lv_aload_n hx hb dX12_add_35 rfl (lv_at hl 0 rfl) ?_
    refine lv_dup hx hb dX12_add_36 rfl ?_
    refine xr_get hf hK hw 0 0 rfl rfl in_X12 3 (by decide) q518 (fun _ h => h) rfl dX12_add_37 ?_
    refine lv_iload_n hx hb dX12_add_40 rfl (lv_at hl 1 rfl) ?_
    refine lv_iadd hx hb dX12_add_41 ?_
    refine xr_put (LL' := [[ob h0 11 [.int (v 0), .int x, .int (imax (v 2) x), .int (v 3 + x), .int (bz (v 4)), .ref h1], (h1, aI dT [v 5, v 6, v 7, v 8])]]) hf hK hw 0 0 rfl rfl in_X12 tyX12_ok nmX12 3 (by decide) q518 (fun _ h => h) rfl rfl rfl (Nat.le_of_ble_eq_true rfl) rfl dX12_add_42 (fun H locs hw => ?_)
    refine lv_aload_n hx hb dX12_add_45 rfl (lv_at hl 0 rfl) ?_
    refine lv_dup hx hb dX12_add_46 rfl ?_
    refine xr_get hf hK hw 0 0 rfl rfl in_X12 0 (by decide) q512 (fun _ h => h) rfl dX12_add_47 ?_
    refine lv_iconst (v := 1) hx hb dX12_add_50 (by decide) ?_
    refine lv_iadd hx hb dX12_add_51 ?_
    refine xr_put (LL' := [[ob h0 11 [.int (v 0 + 1), .int x, .int (imax (v 2) x), .int (v 3 + x), .int (bz (v 4)), .ref h1], (h1, aI dT [v 5, v 6, v 7, v 8])]]) hf hK hw 0 0 rfl rfl in_X12 tyX12_ok nmX12 0 (by decide) q512 (fun _ h => h) rfl rfl rfl (Nat.le_of_ble_eq_true rfl) rfl dX12_add_52 (fun H locs hw => ?_)
    have e9 : f_X12_add v x = (vec [(v 0 + 1), x, (imax (v 2) x), (v 3 + x), v 4, v 5, v 6, v 7, v 8]) := by
      unfold f_X12_add
      rw [if_pos c_5]
      try rfl
    have p1 := congrArg (fun z : (Nat → Int32) => [skS dT h0 h1 z]) e9.symm
    exact xr_vret hf hr hlocks hw (Nat.le_of_ble_eq_true rfl) (Nat.le_of_ble_eq_true rfl) ⟨rfl, p1⟩ dX12_add_55

def f_X12_grade (v : Nat → Int32)  : Int32 × (Nat → Int32) :=
  if 2 ≤ (v 2 - v 1) then
    if 4 ≤ (v 2 - v 1) then
      if 8 ≤ (v 2 - v 1) then
        (3, v)
      else
        (2, v)
    else
      (1, v)
  else
    (0, v)
set_option maxHeartbeats 4000000 in
theorem k_X12_grade (l : Launch) (D : va_G) (dT g : Nat → Nat) (z0 : Nat) (h0 : Nat) (h1 : Nat) (v : Nat → Int32)  : Con l D dT g z0 yX12_grade (ws_ yX12_grade cX12_grade 2 (some .int)) ({ frames := 1, cells := 0, slots := 0, locals := 40 }) [.ref h0] [skS dT h0 h1 v] (fun r LL => r = some (.int (f_X12_grade v).1) ∧ LL = [skS dT h0 h1 (f_X12_grade v).2]) noX 0 0 := by
  refine Con.of (maxL := 2) (ret := (some .int)) (by first | exact plainFor_of_name (by decide) | decide +kernel) (Nat.le_of_ble_eq_true rfl) ?_
  intro p e s m args below meth c A ls hf hr hlocks hnm hno hK hA hAz hw hl hst
  have hf : CallFix p m c cX12_grade 2 s args lw_all "SilkRow$Skein" := hf
  have hnm : meth.name = "grade" := hnm
  have hx := hf.1
  have hb := hf.2.1
  have hts := hf.2.2.2.2
  have hl : lv_has ls 2 [(0, .ref h0)] := hl
  have hw : Wd D A s.heap s.heap [] [[ob h0 11 [.int (v 0), .int (v 1), .int (v 2), .int (v 3), .int (bz (v 4)), .ref h1], (h1, aI dT [v 5, v 6, v 7, v 8])]] := hw
  refine lv_aload_n hx hb dX12_grade_0 rfl (lv_at hl 0 rfl) ?_
  refine xr_get hf hK hw 0 0 rfl rfl in_X12 2 (by decide) q516 (fun _ h => h) rfl dX12_grade_1 ?_
  refine lv_aload_n hx hb dX12_grade_4 rfl (lv_at hl 0 rfl) ?_
  refine xr_get hf hK hw 0 0 rfl rfl in_X12 1 (by decide) q514 (fun _ h => h) rfl dX12_grade_5 ?_
  refine lv_isub hx hb dX12_grade_8 ?_
  refine lv_istore_n (lv' := [(1, .int (v 2 - v 1)), (0, .ref h0)]) hx hb dX12_grade_9 rfl hl (by decide) rfl (fun ls hl => ?_)
  refine lv_iload_n hx hb dX12_grade_10 rfl (lv_at hl 0 rfl) ?_
  refine lv_iconst (v := 2) hx hb dX12_grade_11 (by decide) ?_
  refine lv_icmp_ge (tgt := 19) hx hb dX12_grade_12 (by decide) (fun c_12 => ?_) (fun c_12 => ?_)
  · refine lv_iload_n hx hb dX12_grade_19 rfl (lv_at hl 0 rfl) ?_
    refine lv_iconst (v := 4) hx hb dX12_grade_20 (by decide) ?_
    refine lv_icmp_ge (tgt := 28) hx hb dX12_grade_21 (by decide) (fun c_21 => ?_) (fun c_21 => ?_)
    · refine lv_iload_n hx hb dX12_grade_28 rfl (lv_at hl 0 rfl) ?_
      refine lv_bipush (v := 8) hx hb dX12_grade_29 (by decide) ?_
      refine lv_icmp_ge (tgt := 38) hx hb dX12_grade_31 (by decide) (fun c_31 => ?_) (fun c_31 => ?_)
      · refine lv_iconst (v := 3) hx hb dX12_grade_38 (by decide) ?_
        have e9 : f_X12_grade v = (3, v) := by
          unfold f_X12_grade
          rw [if_pos c_12]
          rw [if_pos c_21]
          rw [if_pos c_31]
          try rfl
        have p0 := congrArg (fun z : Int32 × (Nat → Int32) => some (Value.int z.1)) e9.symm
        have p1 := congrArg (fun z : Int32 × (Nat → Int32) => [skS dT h0 h1 z.2]) e9.symm
        exact xr_iret hf hr hlocks hw (Nat.le_of_ble_eq_true rfl) (Nat.le_of_ble_eq_true rfl) ⟨p0, p1⟩ dX12_grade_39
      · refine lv_iconst (v := 2) hx hb dX12_grade_34 (by decide) ?_
        refine lv_goto (tgt := 39) hx hb dX12_grade_35 (by decide) ?_
        have e9 : f_X12_grade v = (2, v) := by
          unfold f_X12_grade
          rw [if_pos c_12]
          rw [if_pos c_21]
          rw [if_neg c_31]
          try rfl
        have p0 := congrArg (fun z : Int32 × (Nat → Int32) => some (Value.int z.1)) e9.symm
        have p1 := congrArg (fun z : Int32 × (Nat → Int32) => [skS dT h0 h1 z.2]) e9.symm
        exact xr_iret hf hr hlocks hw (Nat.le_of_ble_eq_true rfl) (Nat.le_of_ble_eq_true rfl) ⟨p0, p1⟩ dX12_grade_39
    · refine lv_iconst (v := 1) hx hb dX12_grade_24 (by decide) ?_
      refine lv_goto (tgt := 39) hx hb dX12_grade_25 (by decide) ?_
      have e9 : f_X12_grade v = (1, v) := by
        unfold f_X12_grade
        rw [if_pos c_12]
        rw [if_neg c_21]
        try rfl
      have p0 := congrArg (fun z : Int32 × (Nat → Int32) => some (Value.int z.1)) e9.symm
      have p1 := congrArg (fun z : Int32 × (Nat → Int32) => [skS dT h0 h1 z.2]) e9.symm
      exact xr_iret hf hr hlocks hw (Nat.le_of_ble_eq_true rfl) (Nat.le_of_ble_eq_true rfl) ⟨p0, p1⟩ dX12_grade_39
  · refine lv_iconst (v := 0) hx hb dX12_grade_15 (by decide) ?_
    refine lv_goto (tgt := 39) hx hb dX12_grade_16 (by decide) ?_
    have e9 : f_X12_grade v = (0, v) := by
      unfold f_X12_grade
      rw [if_neg c_12]
      try rfl
    have p0 := congrArg (fun z : Int32 × (Nat → Int32) => some (Value.int z.1)) e9.symm
    have p1 := congrArg (fun z : Int32 × (Nat → Int32) => [skS dT h0 h1 z.2]) e9.symm
    exact xr_iret hf hr hlocks hw (Nat.le_of_ble_eq_true rfl) (Nat.le_of_ble_eq_true rfl) ⟨p0, p1⟩ dX12_grade_39
theorem fs_X12_grade (v : Nat → Int32) : (f_X12_grade v).2 = v := by
  unfold f_X12_grade
  repeat (first | rfl | split)

def f_X14_init   : (Nat → Int32) :=
  (vec [0, 0, 0, 0, 0, 0, 0, 0, 0])
set_option maxHeartbeats 4000000 in
theorem k_X14_init (l : Launch) (D : va_G) (dT g : Nat → Nat) (z0 : Nat) (h0 : Nat)   : Con l D dT g z0 yX14_init (ws_ yX14_init cX14_init 1 none) ({ frames := 1, cells := 1, slots := 4, locals := 40 }) [.ref h0] [[ob h0 13 [.int 0, .int 0, .int 0, .int 0, .null, .int 0]]] (fun r LL => ∃ a1 : Nat, r = none ∧ LL = [msS dT h0 a1 (f_X14_init)]) noX 1 4 := by
  refine Con.of (maxL := 1) (ret := none) (by first | exact plainFor_of_name (by decide) | decide +kernel) (Nat.le_of_ble_eq_true rfl) ?_
  intro p e s m args below meth c A ls hf hr hlocks hnm hno hK hA hAz hw hl hst
  have hf : CallFix p m c cX14_init 1 s args lw_all "SilkRowModel$Skein" := hf
  have hnm : meth.name = "<init>" := hnm
  have hx := hf.1
  have hb := hf.2.1
  have hts := hf.2.2.2.2
  have hl : lv_has ls 1 [(0, .ref h0)] := hl
  have hw : Wd D A s.heap s.heap [] [[ob h0 13 [.int 0, .int 0, .int 0, .int 0, .null, .int 0]]] := hw
  refine lv_aload_n hx hb dX14_init_0 rfl (lv_at hl 0 rfl) ?_
  refine W.objInit hx hb hf.2.2.2.1 (hts _ q1454) (hts _ q83) (hts _ q84) rfl (by rw [hf.2.2.1]; exact hl.1) rfl dX14_init_1 (Nat.le_of_ble_eq_true rfl) (Nat.le_of_ble_eq_true rfl) ?_
  refine W.eq (g2 := F0 m 4 ls []) rfl ?_
  refine lv_aload_n hx hb dX14_init_4 rfl (lv_at hl 0 rfl) ?_
  refine lv_iconst (v := 4) hx hb dX14_init_5 (by decide) ?_
  refine xr_newi hf hK hw hA q463 (N := 4) (by decide) (by decide) (Nat.le_of_ble_eq_true rfl) (Nat.le_of_ble_eq_true rfl) (Nat.le_of_ble_eq_true rfl) dX14_init_6 (fun qa1 H hw => ?_)
  have hw : Wd D A s.heap _ _ [[ob h0 13 [.int 0, .int 0, .int 0, .int 0, .null, .int 0]], [(qa1, aI dT [0, 0, 0, 0])]] := hw
  refine xr_putF (LL' := [[ob h0 13 [.int 0, .int 0, .int 0, .int 0, .ref qa1, .int 0]], [(qa1, aI dT [0, 0, 0, 0])]]) hf hK hw 0 0 rfl rfl in_X14 tyX14_ok nmX14 4 (by decide) q1463 (fun _ h => h) rfl hnm rfl rfl rfl (Nat.le_of_ble_eq_true rfl) rfl dX14_init_8 (fun H locs hw => ?_)
  have hw := Wd.take (L2 := [[ob h0 13 [.int 0, .int 0, .int 0, .int 0, .ref qa1, .int 0]], [(qa1, aI dT [0, 0, 0, 0])]]) hw [0, 0] rfl rfl
  have e9 : f_X14_init = (vec [0, 0, 0, 0, 0, 0, 0, 0, 0]) := by
    unfold f_X14_init
    try rfl
  have hw : Wd D A s.heap _ _ [[ob h0 13 [.int 0, .int 0, .int 0, .int 0, .ref qa1, .int 0], (qa1, aI dT [0, 0, 0, 0])]] := hw.eq rfl
  have p1 := congrArg (fun z : (Nat → Int32) => [msS dT h0 qa1 z]) e9.symm
  exact xr_vret hf hr hlocks hw (Nat.le_of_ble_eq_true rfl) (Nat.le_of_ble_eq_true rfl) ⟨qa1, rfl, p1⟩ dX14_init_11

def f_X14_add (v : Nat → Int32) (x : Int32) : (Nat → Int32) :=
  if v 0 = 0 then
    (vec [(v 0 + 1), x, (imax (v 2) x), (v 3 + x), v 4, v 5, v 6, v 7, v 8])
  else
    (vec [(v 0 + 1), (imin (v 1) x), (imax (v 2) x), (v 3 + x), v 4, v 5, v 6, v 7, v 8])
set_option maxHeartbeats 4000000 in
theorem k_X14_add (l : Launch) (D : va_G) (dT g : Nat → Nat) (z0 : Nat) (h0 : Nat) (h1 : Nat) (v : Nat → Int32) (x : Int32) : Con l D dT g z0 yX14_add (ws_ yX14_add cX14_add 2 none) ({ frames := 1, cells := 0, slots := 0, locals := 40 }) [.ref h0, .int x] [msS dT h0 h1 v] (fun r LL => r = none ∧ LL = [msS dT h0 h1 (f_X14_add v x)]) noX 0 0 := by
  refine Con.of (maxL := 2) (ret := none) (by first | exact plainFor_of_name (by decide) | decide +kernel) (Nat.le_of_ble_eq_true rfl) ?_
  intro p e s m args below meth c A ls hf hr hlocks hnm hno hK hA hAz hw hl hst
  have hf : CallFix p m c cX14_add 2 s args lw_all "SilkRowModel$Skein" := hf
  have hnm : meth.name = "add" := hnm
  have hx := hf.1
  have hb := hf.2.1
  have hts := hf.2.2.2.2
  have hl : lv_has ls 2 [(0, .ref h0), (1, .int x)] := hl
  have hw : Wd D A s.heap s.heap [] [[ob h0 13 [.int (v 0), .int (v 1), .int (v 2), .int (v 3), .ref h1, .int (bz (v 4))], (h1, aI dT [v 5, v 6, v 7, v 8])]] := hw
  refine lv_aload_n hx hb dX14_add_0 rfl (lv_at hl 0 rfl) ?_
  refine lv_aload_n hx hb dX14_add_1 rfl (lv_at hl 0 rfl) ?_
  refine xr_get hf hK hw 0 0 rfl rfl in_X14 0 (by decide) q1455 (fun _ h => h) rfl dX14_add_2 ?_
  refine lv_if_ne (tgt := 12) hx hb dX14_add_5 (by decide) (fun c_5 => ?_) (fun c_5 => ?_)
  · refine lv_aload_n hx hb dX14_add_12 rfl (lv_at hl 0 rfl) ?_
    refine xr_get hf hK hw 0 0 rfl rfl in_X14 1 (by decide) q1457 (fun _ h => h) rfl dX14_add_13 ?_
    refine lv_iload_n hx hb dX14_add_16 rfl (lv_at hl 1 rfl) ?_
    refine va_mmin hx hb (by rw [hf.2.2.1]; exact hl.1.symm) hf.2.2.2.1 (hts _ q1506) (hts _ q193) (hts _ q50) (hts _ q194) (Nat.le_of_ble_eq_true rfl) (Nat.le_of_ble_eq_true rfl) (Nat.le_of_ble_eq_true rfl) (Nat.le_of_ble_eq_true rfl) dX14_add_17 ?_
    refine lv_as (y := imin (v 1) x) rfl ?_
    refine xr_put (LL' := [[ob h0 13 [.int (v 0), .int (imin (v 1) x), .int (v 2), .int (v 3), .ref h1, .int (bz (v 4))], (h1, aI dT [v 5, v 6, v 7, v 8])]]) hf hK hw 0 0 rfl rfl in_X14 tyX14_ok nmX14 1 (by decide) q1457 (fun _ h => h) rfl rfl rfl (Nat.le_of_ble_eq_true rfl) rfl dX14_add_20 (fun H locs hw => ?_)
    refine lv_aload_n hx hb dX14_add_23 rfl (lv_at hl 0 rfl) ?_
    refine lv_aload_n hx hb dX14_add_24 rfl (lv_at hl 0 rfl) ?_
    refine xr_get hf hK hw 0 0 rfl rfl in_X14 2 (by decide) q1459 (fun _ h => h) rfl dX14_add_25 ?_
    refine lv_iload_n hx hb dX14_add_28 rfl (lv_at hl 1 rfl) ?_
    refine va_mmax hx hb (by rw [hf.2.2.1]; exact hl.1.symm) hf.2.2.2.1 (hts _ q1507) (hts _ q152) (hts _ q50) (hts _ q153) (Nat.le_of_ble_eq_true rfl) (Nat.le_of_ble_eq_true rfl) (Nat.le_of_ble_eq_true rfl) (Nat.le_of_ble_eq_true rfl) dX14_add_29 ?_
    refine lv_as (y := imax (v 2) x) rfl ?_
    refine xr_put (LL' := [[ob h0 13 [.int (v 0), .int (imin (v 1) x), .int (imax (v 2) x), .int (v 3), .ref h1, .int (bz (v 4))], (h1, aI dT [v 5, v 6, v 7, v 8])]]) hf hK hw 0 0 rfl rfl in_X14 tyX14_ok nmX14 2 (by decide) q1459 (fun _ h => h) rfl rfl rfl (Nat.le_of_ble_eq_true rfl) rfl dX14_add_32 (fun H locs hw => ?_)
    refine lv_aload_n hx hb dX14_add_35 rfl (lv_at hl 0 rfl) ?_
    refine lv_dup hx hb dX14_add_36 rfl ?_
    refine xr_get hf hK hw 0 0 rfl rfl in_X14 3 (by decide) q1461 (fun _ h => h) rfl dX14_add_37 ?_
    refine lv_iload_n hx hb dX14_add_40 rfl (lv_at hl 1 rfl) ?_
    refine lv_iadd hx hb dX14_add_41 ?_
    refine xr_put (LL' := [[ob h0 13 [.int (v 0), .int (imin (v 1) x), .int (imax (v 2) x), .int (v 3 + x), .ref h1, .int (bz (v 4))], (h1, aI dT [v 5, v 6, v 7, v 8])]]) hf hK hw 0 0 rfl rfl in_X14 tyX14_ok nmX14 3 (by decide) q1461 (fun _ h => h) rfl rfl rfl (Nat.le_of_ble_eq_true rfl) rfl dX14_add_42 (fun H locs hw => ?_)
    refine lv_aload_n hx hb dX14_add_45 rfl (lv_at hl 0 rfl) ?_
    refine lv_dup hx hb dX14_add_46 rfl ?_
    refine xr_get hf hK hw 0 0 rfl rfl in_X14 0 (by decide) q1455 (fun _ h => h) rfl dX14_add_47 ?_
    refine lv_iconst (v := 1) hx hb dX14_add_50 (by decide) ?_
    refine lv_iadd hx hb dX14_add_51 ?_
    refine xr_put (LL' := [[ob h0 13 [.int (v 0 + 1), .int (imin (v 1) x), .int (imax (v 2) x), .int (v 3 + x), .ref h1, .int (bz (v 4))], (h1, aI dT [v 5, v 6, v 7, v 8])]]) hf hK hw 0 0 rfl rfl in_X14 tyX14_ok nmX14 0 (by decide) q1455 (fun _ h => h) rfl rfl rfl (Nat.le_of_ble_eq_true rfl) rfl dX14_add_52 (fun H locs hw => ?_)
    have e9 : f_X14_add v x = (vec [(v 0 + 1), (imin (v 1) x), (imax (v 2) x), (v 3 + x), v 4, v 5, v 6, v 7, v 8]) := by
      unfold f_X14_add
      rw [if_neg c_5]
      try rfl
    have p1 := congrArg (fun z : (Nat → Int32) => [msS dT h0 h1 z]) e9.symm
    exact xr_vret hf hr hlocks hw (Nat.le_of_ble_eq_true rfl) (Nat.le_of_ble_eq_true rfl) ⟨rfl, p1⟩ dX14_add_55
  · refine lv_iload_n hx hb dX14_add_8 rfl (lv_at hl 1 rfl) ?_
    refine lv_goto (tgt := 20) hx hb dX14_add_9 (by decide) ?_
    refine xr_put (LL' := [[ob h0 13 [.int (v 0), .int x, .int (v 2), .int (v 3), .ref h1, .int (bz (v 4))], (h1, aI dT [v 5, v 6, v 7, v 8])]]) hf hK hw 0 0 rfl rfl in_X14 tyX14_ok nmX14 1 (by decide) q1457 (fun _ h => h) rfl rfl rfl (Nat.le_of_ble_eq_true rfl) rfl dX14_add_20 (fun H locs hw => ?_)
    refine lv_aload_n hx hb dX14_add_23 rfl (lv_at hl 0 rfl) ?_
    refine lv_aload_n hx hb dX14_add_24 rfl (lv_at hl 0 rfl) ?_
    refine xr_get hf hK hw 0 0 rfl rfl in_X14 2 (by decide) q1459 (fun _ h => h) rfl dX14_add_25 ?_
    refine lv_iload_n hx hb dX14_add_28 rfl (lv_at hl 1 rfl) ?_
    refine va_mmax hx hb (by rw [hf.2.2.1]; exact hl.1.symm) hf.2.2.2.1 (hts _ q1507) (hts _ q152) (hts _ q50) (hts _ q153) (Nat.le_of_ble_eq_true rfl) (Nat.le_of_ble_eq_true rfl) (Nat.le_of_ble_eq_true rfl) (Nat.le_of_ble_eq_true rfl) dX14_add_29 ?_
    refine lv_as (y := imax (v 2) x) rfl ?_
    refine xr_put (LL' := [[ob h0 13 [.int (v 0), .int x, .int (imax (v 2) x), .int (v 3), .ref h1, .int (bz (v 4))], (h1, aI dT [v 5, v 6, v 7, v 8])]]) hf hK hw 0 0 rfl rfl in_X14 tyX14_ok nmX14 2 (by decide) q1459 (fun _ h => h) rfl rfl rfl (Nat.le_of_ble_eq_true rfl) rfl dX14_add_32 (fun H locs hw => ?_)
    refine lv_aload_n hx hb dX14_add_35 rfl (lv_at hl 0 rfl) ?_
    refine lv_dup hx hb dX14_add_36 rfl ?_
    refine xr_get hf hK hw 0 0 rfl rfl in_X14 3 (by decide) q1461 (fun _ h => h) rfl dX14_add_37 ?_
    refine lv_iload_n hx hb dX14_add_40 rfl (lv_at hl 1 rfl) ?_
    refine lv_iadd hx hb dX14_add_41 ?_
    refine xr_put (LL' := [[ob h0 13 [.int (v 0), .int x, .int (imax (v 2) x), .int (v 3 + x), .ref h1, .int (bz (v 4))], (h1, aI dT [v 5, v 6, v 7, v 8])]]) hf hK hw 0 0 rfl rfl in_X14 tyX14_ok nmX14 3 (by decide) q1461 (fun _ h => h) rfl rfl rfl (Nat.le_of_ble_eq_true rfl) rfl dX14_add_42 (fun H locs hw => ?_)
    refine lv_aload_n hx hb dX14_add_45 rfl (lv_at hl 0 rfl) ?_
    refine lv_dup hx hb dX14_add_46 rfl ?_
    refine xr_get hf hK hw 0 0 rfl rfl in_X14 0 (by decide) q1455 (fun _ h => h) rfl dX14_add_47 ?_
    refine lv_iconst (v := 1) hx hb dX14_add_50 (by decide) ?_
    refine lv_iadd hx hb dX14_add_51 ?_
    refine xr_put (LL' := [[ob h0 13 [.int (v 0 + 1), .int x, .int (imax (v 2) x), .int (v 3 + x), .ref h1, .int (bz (v 4))], (h1, aI dT [v 5, v 6, v 7, v 8])]]) hf hK hw 0 0 rfl rfl in_X14 tyX14_ok nmX14 0 (by decide) q1455 (fun _ h => h) rfl rfl rfl (Nat.le_of_ble_eq_true rfl) rfl dX14_add_52 (fun H locs hw => ?_)
    have e9 : f_X14_add v x = (vec [(v 0 + 1), x, (imax (v 2) x), (v 3 + x), v 4, v 5, v 6, v 7, v 8]) := by
      unfold f_X14_add
      rw [if_pos c_5]
      try rfl
    have p1 := congrArg (fun z : (Nat → Int32) => [msS dT h0 h1 z]) e9.symm
    exact xr_vret hf hr hlocks hw (Nat.le_of_ble_eq_true rfl) (Nat.le_of_ble_eq_true rfl) ⟨rfl, p1⟩ dX14_add_55

def f_X14_grade (v : Nat → Int32)  : Int32 × (Nat → Int32) :=
  if 2 ≤ (v 2 - v 1) then
    if 4 ≤ (v 2 - v 1) then
      if 8 ≤ (v 2 - v 1) then
        (3, v)
      else
        (2, v)
    else
      (1, v)
  else
    (0, v)
set_option maxHeartbeats 4000000 in
theorem k_X14_grade (l : Launch) (D : va_G) (dT g : Nat → Nat) (z0 : Nat) (h0 : Nat) (h1 : Nat) (v : Nat → Int32)  : Con l D dT g z0 yX14_grade (ws_ yX14_grade cX14_grade 2 (some .int)) ({ frames := 1, cells := 0, slots := 0, locals := 40 }) [.ref h0] [msS dT h0 h1 v] (fun r LL => r = some (.int (f_X14_grade v).1) ∧ LL = [msS dT h0 h1 (f_X14_grade v).2]) noX 0 0 := by
  refine Con.of (maxL := 2) (ret := (some .int)) (by first | exact plainFor_of_name (by decide) | decide +kernel) (Nat.le_of_ble_eq_true rfl) ?_
  intro p e s m args below meth c A ls hf hr hlocks hnm hno hK hA hAz hw hl hst
  have hf : CallFix p m c cX14_grade 2 s args lw_all "SilkRowModel$Skein" := hf
  have hnm : meth.name = "grade" := hnm
  have hx := hf.1
  have hb := hf.2.1
  have hts := hf.2.2.2.2
  have hl : lv_has ls 2 [(0, .ref h0)] := hl
  have hw : Wd D A s.heap s.heap [] [[ob h0 13 [.int (v 0), .int (v 1), .int (v 2), .int (v 3), .ref h1, .int (bz (v 4))], (h1, aI dT [v 5, v 6, v 7, v 8])]] := hw
  refine lv_aload_n hx hb dX14_grade_0 rfl (lv_at hl 0 rfl) ?_
  refine xr_get hf hK hw 0 0 rfl rfl in_X14 2 (by decide) q1459 (fun _ h => h) rfl dX14_grade_1 ?_
  refine lv_aload_n hx hb dX14_grade_4 rfl (lv_at hl 0 rfl) ?_
  refine xr_get hf hK hw 0 0 rfl rfl in_X14 1 (by decide) q1457 (fun _ h => h) rfl dX14_grade_5 ?_
  refine lv_isub hx hb dX14_grade_8 ?_
  refine lv_istore_n (lv' := [(1, .int (v 2 - v 1)), (0, .ref h0)]) hx hb dX14_grade_9 rfl hl (by decide) rfl (fun ls hl => ?_)
  refine lv_iload_n hx hb dX14_grade_10 rfl (lv_at hl 0 rfl) ?_
  refine lv_iconst (v := 2) hx hb dX14_grade_11 (by decide) ?_
  refine lv_icmp_ge (tgt := 19) hx hb dX14_grade_12 (by decide) (fun c_12 => ?_) (fun c_12 => ?_)
  · refine lv_iload_n hx hb dX14_grade_19 rfl (lv_at hl 0 rfl) ?_
    refine lv_iconst (v := 4) hx hb dX14_grade_20 (by decide) ?_
    refine lv_icmp_ge (tgt := 28) hx hb dX14_grade_21 (by decide) (fun c_21 => ?_) (fun c_21 => ?_)
    · refine lv_iload_n hx hb dX14_grade_28 rfl (lv_at hl 0 rfl) ?_
      refine lv_bipush (v := 8) hx hb dX14_grade_29 (by decide) ?_
      refine lv_icmp_ge (tgt := 38) hx hb dX14_grade_31 (by decide) (fun c_31 => ?_) (fun c_31 => ?_)
      · refine lv_iconst (v := 3) hx hb dX14_grade_38 (by decide) ?_
        have e9 : f_X14_grade v = (3, v) := by
          unfold f_X14_grade
          rw [if_pos c_12]
          rw [if_pos c_21]
          rw [if_pos c_31]
          try rfl
        have p0 := congrArg (fun z : Int32 × (Nat → Int32) => some (Value.int z.1)) e9.symm
        have p1 := congrArg (fun z : Int32 × (Nat → Int32) => [msS dT h0 h1 z.2]) e9.symm
        exact xr_iret hf hr hlocks hw (Nat.le_of_ble_eq_true rfl) (Nat.le_of_ble_eq_true rfl) ⟨p0, p1⟩ dX14_grade_39
      · refine lv_iconst (v := 2) hx hb dX14_grade_34 (by decide) ?_
        refine lv_goto (tgt := 39) hx hb dX14_grade_35 (by decide) ?_
        have e9 : f_X14_grade v = (2, v) := by
          unfold f_X14_grade
          rw [if_pos c_12]
          rw [if_pos c_21]
          rw [if_neg c_31]
          try rfl
        have p0 := congrArg (fun z : Int32 × (Nat → Int32) => some (Value.int z.1)) e9.symm
        have p1 := congrArg (fun z : Int32 × (Nat → Int32) => [msS dT h0 h1 z.2]) e9.symm
        exact xr_iret hf hr hlocks hw (Nat.le_of_ble_eq_true rfl) (Nat.le_of_ble_eq_true rfl) ⟨p0, p1⟩ dX14_grade_39
    · refine lv_iconst (v := 1) hx hb dX14_grade_24 (by decide) ?_
      refine lv_goto (tgt := 39) hx hb dX14_grade_25 (by decide) ?_
      have e9 : f_X14_grade v = (1, v) := by
        unfold f_X14_grade
        rw [if_pos c_12]
        rw [if_neg c_21]
        try rfl
      have p0 := congrArg (fun z : Int32 × (Nat → Int32) => some (Value.int z.1)) e9.symm
      have p1 := congrArg (fun z : Int32 × (Nat → Int32) => [msS dT h0 h1 z.2]) e9.symm
      exact xr_iret hf hr hlocks hw (Nat.le_of_ble_eq_true rfl) (Nat.le_of_ble_eq_true rfl) ⟨p0, p1⟩ dX14_grade_39
  · refine lv_iconst (v := 0) hx hb dX14_grade_15 (by decide) ?_
    refine lv_goto (tgt := 39) hx hb dX14_grade_16 (by decide) ?_
    have e9 : f_X14_grade v = (0, v) := by
      unfold f_X14_grade
      rw [if_neg c_12]
      try rfl
    have p0 := congrArg (fun z : Int32 × (Nat → Int32) => some (Value.int z.1)) e9.symm
    have p1 := congrArg (fun z : Int32 × (Nat → Int32) => [msS dT h0 h1 z.2]) e9.symm
    exact xr_iret hf hr hlocks hw (Nat.le_of_ble_eq_true rfl) (Nat.le_of_ble_eq_true rfl) ⟨p0, p1⟩ dX14_grade_39
theorem fs_X14_grade (v : Nat → Int32) : (f_X14_grade v).2 = v := by
  unfold f_X14_grade
  repeat (first | rfl | split)

