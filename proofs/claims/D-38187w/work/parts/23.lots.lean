/-! LEAVES: 23.lots (printed by gen/leaves.py) -/
set_option maxRecDepth 100000
def f_X10_init  (x : Int32) (y : Int32) (z : Int32) : (Nat → Int32) :=
  (vec [x, y, z, 0, 0, 0, 0, 0, 0, 0, 0])
set_option maxHeartbeats 4000000 in
theorem k_X10_init (l : Launch) (D : va_G) (dT g : Nat → Nat) (z0 : Nat) (h0 : Nat)  (x : Int32) (y : Int32) (z : Int32) : Con l D dT g z0 yX10_init (ws_ yX10_init cX10_init 4 none) ({ frames := 1, cells := 2, slots := 6, locals := 40 }) [.ref h0, .int x, .int y, .int z] [[ob h0 9 [.int 0, .int 0, .int 0, .null, .null, .int 0, .int 0]]] (fun r LL => ∃ a1 a2 : Nat, r = none ∧ LL = [loS dT h0 a1 a2 (f_X10_init x y z)]) noX 2 6 := by
  refine Con.of (maxL := 4) (ret := none) (by first | exact plainFor_of_name (by decide) | decide +kernel) (Nat.le_of_ble_eq_true rfl) ?_
  intro p e s m args below meth c A ls hf hr hlocks hnm hno hK hA hAz hw hl hst
  have hf : CallFix p m c cX10_init 4 s args lw_all "SilkRow$Lot" := hf
  have hnm : meth.name = "<init>" := hnm
  have hx := hf.1
  have hb := hf.2.1
  have hts := hf.2.2.2.2
  have hl : lv_has ls 4 [(0, .ref h0), (1, .int x), (2, .int y), (3, .int z)] := hl
  have hw : Wd D A s.heap s.heap [] [[ob h0 9 [.int 0, .int 0, .int 0, .null, .null, .int 0, .int 0]]] := hw
  refine lv_aload_n hx hb dX10_init_0 rfl (lv_at hl 0 rfl) ?_
  refine W.objInit hx hb hf.2.2.2.1 (hts _ q473) (hts _ q83) (hts _ q84) rfl (by rw [hf.2.2.1]; exact hl.1) rfl dX10_init_1 (Nat.le_of_ble_eq_true rfl) (Nat.le_of_ble_eq_true rfl) ?_
  refine W.eq (g2 := F0 m 4 ls []) rfl ?_
  refine lv_aload_n hx hb dX10_init_4 rfl (lv_at hl 0 rfl) ?_
  refine lv_iconst (v := 3) hx hb dX10_init_5 (by decide) ?_
  refine xr_newi hf hK hw hA q463 (N := 3) (by decide) (by decide) (Nat.le_of_ble_eq_true rfl) (Nat.le_of_ble_eq_true rfl) (Nat.le_of_ble_eq_true rfl) dX10_init_6 (fun qa1 H hw => ?_)
  have hw : Wd D A s.heap _ _ [[ob h0 9 [.int 0, .int 0, .int 0, .null, .null, .int 0, .int 0]], [(qa1, aI dT [0, 0, 0])]] := hw
  refine xr_putF (LL' := [[ob h0 9 [.int 0, .int 0, .int 0, .ref qa1, .null, .int 0, .int 0]], [(qa1, aI dT [0, 0, 0])]]) hf hK hw 0 0 rfl rfl in_X10 tyX10_ok nmX10 3 (by decide) q480 (fun _ h => h) rfl hnm rfl rfl rfl (Nat.le_of_ble_eq_true rfl) rfl dX10_init_8 (fun H locs hw => ?_)
  refine lv_aload_n hx hb dX10_init_11 rfl (lv_at hl 0 rfl) ?_
  refine lv_iconst (v := 3) hx hb dX10_init_12 (by decide) ?_
  refine xr_newi hf hK hw hA q463 (N := 3) (by decide) (by decide) (Nat.le_of_ble_eq_true rfl) (Nat.le_of_ble_eq_true rfl) (Nat.le_of_ble_eq_true rfl) dX10_init_13 (fun qa2 H hw => ?_)
  have hw : Wd D A s.heap _ _ [[ob h0 9 [.int 0, .int 0, .int 0, .ref qa1, .null, .int 0, .int 0]], [(qa1, aI dT [0, 0, 0])], [(qa2, aI dT [0, 0, 0])]] := hw
  refine xr_putF (LL' := [[ob h0 9 [.int 0, .int 0, .int 0, .ref qa1, .ref qa2, .int 0, .int 0]], [(qa1, aI dT [0, 0, 0])], [(qa2, aI dT [0, 0, 0])]]) hf hK hw 0 0 rfl rfl in_X10 tyX10_ok nmX10 4 (by decide) q482 (fun _ h => h) rfl hnm rfl rfl rfl (Nat.le_of_ble_eq_true rfl) rfl dX10_init_15 (fun H locs hw => ?_)
  refine lv_aload_n hx hb dX10_init_18 rfl (lv_at hl 0 rfl) ?_
  refine lv_iload_n hx hb dX10_init_19 rfl (lv_at hl 1 rfl) ?_
  refine xr_putF (LL' := [[ob h0 9 [.int x, .int 0, .int 0, .ref qa1, .ref qa2, .int 0, .int 0]], [(qa1, aI dT [0, 0, 0])], [(qa2, aI dT [0, 0, 0])]]) hf hK hw 0 0 rfl rfl in_X10 tyX10_ok nmX10 0 (by decide) q474 (fun _ h => h) rfl hnm rfl rfl rfl (Nat.le_of_ble_eq_true rfl) rfl dX10_init_20 (fun H locs hw => ?_)
  refine lv_aload_n hx hb dX10_init_23 rfl (lv_at hl 0 rfl) ?_
  refine lv_iload_n hx hb dX10_init_24 rfl (lv_at hl 2 rfl) ?_
  refine xr_putF (LL' := [[ob h0 9 [.int x, .int y, .int 0, .ref qa1, .ref qa2, .int 0, .int 0]], [(qa1, aI dT [0, 0, 0])], [(qa2, aI dT [0, 0, 0])]]) hf hK hw 0 0 rfl rfl in_X10 tyX10_ok nmX10 1 (by decide) q476 (fun _ h => h) rfl hnm rfl rfl rfl (Nat.le_of_ble_eq_true rfl) rfl dX10_init_25 (fun H locs hw => ?_)
  refine lv_aload_n hx hb dX10_init_28 rfl (lv_at hl 0 rfl) ?_
  refine lv_iload_n hx hb dX10_init_29 rfl (lv_at hl 3 rfl) ?_
  refine xr_putF (LL' := [[ob h0 9 [.int x, .int y, .int z, .ref qa1, .ref qa2, .int 0, .int 0]], [(qa1, aI dT [0, 0, 0])], [(qa2, aI dT [0, 0, 0])]]) hf hK hw 0 0 rfl rfl in_X10 tyX10_ok nmX10 2 (by decide) q478 (fun _ h => h) rfl hnm rfl rfl rfl (Nat.le_of_ble_eq_true rfl) rfl dX10_init_30 (fun H locs hw => ?_)
  have hw := Wd.take (L2 := [[ob h0 9 [.int x, .int y, .int z, .ref qa1, .ref qa2, .int 0, .int 0]], [(qa1, aI dT [0, 0, 0])], [(qa2, aI dT [0, 0, 0])]]) hw [0, 0, 0] rfl rfl
  have e9 : f_X10_init x y z = (vec [x, y, z, 0, 0, 0, 0, 0, 0, 0, 0]) := by
    unfold f_X10_init
    try rfl
  have hw : Wd D A s.heap _ _ [[ob h0 9 [.int x, .int y, .int z, .ref qa1, .ref qa2, .int 0, .int 0], (qa1, aI dT [0, 0, 0]), (qa2, aI dT [0, 0, 0])]] := hw.eq rfl
  have p1 := congrArg (fun z : (Nat → Int32) => [loS dT h0 qa1 qa2 z]) e9.symm
  exact xr_vret hf hr hlocks hw (Nat.le_of_ble_eq_true rfl) (Nat.le_of_ble_eq_true rfl) ⟨qa1, qa2, rfl, p1⟩ dX10_init_33

def f_X10_all (v : Nat → Int32)  : Int32 × (Nat → Int32) :=
  (((v 3 + v 4) + v 5), v)
set_option maxHeartbeats 4000000 in
theorem k_X10_all (l : Launch) (D : va_G) (dT g : Nat → Nat) (z0 : Nat) (h0 : Nat) (h1 : Nat) (h2 : Nat) (v : Nat → Int32)  : Con l D dT g z0 yX10_all (ws_ yX10_all cX10_all 1 (some .int)) ({ frames := 1, cells := 0, slots := 0, locals := 40 }) [.ref h0] [loS dT h0 h1 h2 v] (fun r LL => r = some (.int (f_X10_all v).1) ∧ LL = [loS dT h0 h1 h2 (f_X10_all v).2]) noX 0 0 := by
  refine Con.of (maxL := 1) (ret := (some .int)) (by first | exact plainFor_of_name (by decide) | decide +kernel) (Nat.le_of_ble_eq_true rfl) ?_
  intro p e s m args below meth c A ls hf hr hlocks hnm hno hK hA hAz hw hl hst
  have hf : CallFix p m c cX10_all 1 s args lw_all "SilkRow$Lot" := hf
  have hnm : meth.name = "all" := hnm
  have hx := hf.1
  have hb := hf.2.1
  have hts := hf.2.2.2.2
  have hl : lv_has ls 1 [(0, .ref h0)] := hl
  have hw : Wd D A s.heap s.heap [] [[ob h0 9 [.int (v 0), .int (v 1), .int (v 2), .ref h1, .ref h2, .int (v 9), .int (v 10)], (h1, aI dT [v 3, v 4, v 5]), (h2, aI dT [v 6, v 7, v 8])]] := hw
  refine lv_aload_n hx hb dX10_all_0 rfl (lv_at hl 0 rfl) ?_
  refine xr_get hf hK hw 0 0 rfl rfl in_X10 3 (by decide) q480 (fun _ h => h) rfl dX10_all_1 ?_
  refine lv_iconst (v := 0) hx hb dX10_all_4 (by decide) ?_
  refine xr_iald hf hK hw 0 1 rfl 0 (by decide) (by decide) (Nat.le_of_ble_eq_true rfl) rfl dX10_all_5 ?_
  refine lv_aload_n hx hb dX10_all_6 rfl (lv_at hl 0 rfl) ?_
  refine xr_get hf hK hw 0 0 rfl rfl in_X10 3 (by decide) q480 (fun _ h => h) rfl dX10_all_7 ?_
  refine lv_iconst (v := 1) hx hb dX10_all_10 (by decide) ?_
  refine xr_iald hf hK hw 0 1 rfl 1 (by decide) (by decide) (Nat.le_of_ble_eq_true rfl) rfl dX10_all_11 ?_
  refine lv_iadd hx hb dX10_all_12 ?_
  refine lv_aload_n hx hb dX10_all_13 rfl (lv_at hl 0 rfl) ?_
  refine xr_get hf hK hw 0 0 rfl rfl in_X10 3 (by decide) q480 (fun _ h => h) rfl dX10_all_14 ?_
  refine lv_iconst (v := 2) hx hb dX10_all_17 (by decide) ?_
  refine xr_iald hf hK hw 0 1 rfl 2 (by decide) (by decide) (Nat.le_of_ble_eq_true rfl) rfl dX10_all_18 ?_
  refine lv_iadd hx hb dX10_all_19 ?_
  have e9 : f_X10_all v = (((v 3 + v 4) + v 5), v) := by
    unfold f_X10_all
    try rfl
  have p0 := congrArg (fun z : Int32 × (Nat → Int32) => some (Value.int z.1)) e9.symm
  have p1 := congrArg (fun z : Int32 × (Nat → Int32) => [loS dT h0 h1 h2 z.2]) e9.symm
  exact xr_iret hf hr hlocks hw (Nat.le_of_ble_eq_true rfl) (Nat.le_of_ble_eq_true rfl) ⟨p0, p1⟩ dX10_all_20
theorem fs_X10_all (v : Nat → Int32) : (f_X10_all v).2 = v := by
  unfold f_X10_all
  repeat (first | rfl | split)

def f_X10_pass (v : Nat → Int32)  : (Nat → Int32) :=
  if v 9 = 0 then
    if 5 ≤ (v 10 + 1) then
      (vec [v 0, v 1, v 2, v 3, v 4, v 5, 0, 0, 0, 2, (v 10 + 1)])
    else
      (vec [v 0, v 1, v 2, v 3, v 4, v 5, v 6, v 7, v 8, v 9, (v 10 + 1)])
  else
    v
set_option maxHeartbeats 4000000 in
theorem k_X10_pass (l : Launch) (D : va_G) (dT g : Nat → Nat) (z0 : Nat) (h0 : Nat) (h1 : Nat) (h2 : Nat) (v : Nat → Int32)  : Con l D dT g z0 yX10_pass (ws_ yX10_pass cX10_pass 2 none) ({ frames := 1, cells := 0, slots := 0, locals := 40 }) [.ref h0] [loS dT h0 h1 h2 v] (fun r LL => r = none ∧ LL = [loS dT h0 h1 h2 (f_X10_pass v)]) noX 0 0 := by
  refine Con.of (maxL := 2) (ret := none) (by first | exact plainFor_of_name (by decide) | decide +kernel) (Nat.le_of_ble_eq_true rfl) ?_
  intro p e s m args below meth c A ls hf hr hlocks hnm hno hK hA hAz hw hl hst
  have hf : CallFix p m c cX10_pass 2 s args lw_all "SilkRow$Lot" := hf
  have hnm : meth.name = "pass" := hnm
  have hx := hf.1
  have hb := hf.2.1
  have hts := hf.2.2.2.2
  have hl : lv_has ls 2 [(0, .ref h0)] := hl
  have hw : Wd D A s.heap s.heap [] [[ob h0 9 [.int (v 0), .int (v 1), .int (v 2), .ref h1, .ref h2, .int (v 9), .int (v 10)], (h1, aI dT [v 3, v 4, v 5]), (h2, aI dT [v 6, v 7, v 8])]] := hw
  refine lv_aload_n hx hb dX10_pass_0 rfl (lv_at hl 0 rfl) ?_
  refine xr_get hf hK hw 0 0 rfl rfl in_X10 5 (by decide) q484 (fun _ h => h) rfl dX10_pass_1 ?_
  refine lv_if_eq (tgt := 8) hx hb dX10_pass_4 (by decide) (fun c_4 => ?_) (fun c_4 => ?_)
  · refine lv_aload_n hx hb dX10_pass_8 rfl (lv_at hl 0 rfl) ?_
    refine lv_dup hx hb dX10_pass_9 rfl ?_
    refine xr_get hf hK hw 0 0 rfl rfl in_X10 6 (by decide) q486 (fun _ h => h) rfl dX10_pass_10 ?_
    refine lv_iconst (v := 1) hx hb dX10_pass_13 (by decide) ?_
    refine lv_iadd hx hb dX10_pass_14 ?_
    refine xr_put (LL' := [[ob h0 9 [.int (v 0), .int (v 1), .int (v 2), .ref h1, .ref h2, .int (v 9), .int (v 10 + 1)], (h1, aI dT [v 3, v 4, v 5]), (h2, aI dT [v 6, v 7, v 8])]]) hf hK hw 0 0 rfl rfl in_X10 tyX10_ok nmX10 6 (by decide) q486 (fun _ h => h) rfl rfl rfl (Nat.le_of_ble_eq_true rfl) rfl dX10_pass_15 (fun H locs hw => ?_)
    refine lv_aload_n hx hb dX10_pass_18 rfl (lv_at hl 0 rfl) ?_
    refine xr_get hf hK hw 0 0 rfl rfl in_X10 6 (by decide) q486 (fun _ h => h) rfl dX10_pass_19 ?_
    refine lv_iconst (v := 5) hx hb dX10_pass_22 (by decide) ?_
    refine lv_icmp_ge (tgt := 27) hx hb dX10_pass_23 (by decide) (fun c_23 => ?_) (fun c_23 => ?_)
    · refine lv_aload_n hx hb dX10_pass_27 rfl (lv_at hl 0 rfl) ?_
      refine lv_iconst (v := 2) hx hb dX10_pass_28 (by decide) ?_
      refine xr_put (LL' := [[ob h0 9 [.int (v 0), .int (v 1), .int (v 2), .ref h1, .ref h2, .int 2, .int (v 10 + 1)], (h1, aI dT [v 3, v 4, v 5]), (h2, aI dT [v 6, v 7, v 8])]]) hf hK hw 0 0 rfl rfl in_X10 tyX10_ok nmX10 5 (by decide) q484 (fun _ h => h) rfl rfl rfl (Nat.le_of_ble_eq_true rfl) rfl dX10_pass_29 (fun H locs hw => ?_)
      refine lv_iconst (v := 0) hx hb dX10_pass_32 (by decide) ?_
      refine lv_istore_n (lv' := [(1, .int 0), (0, .ref h0)]) hx hb dX10_pass_33 rfl hl (by decide) rfl (fun ls hl => ?_)
      refine lv_iload_n hx hb dX10_pass_34 rfl (lv_at hl 0 rfl) ?_
      refine lv_iconst (v := 3) hx hb dX10_pass_35 (by decide) ?_
      refine lv_icmp_ge (tgt := 52) hx hb dX10_pass_36 (by decide) (fun c9 => absurd c9 (by decide)) (fun _ => ?_)
      refine lv_aload_n hx hb dX10_pass_39 rfl (lv_at hl 1 rfl) ?_
      refine xr_get hf hK hw 0 0 rfl rfl in_X10 4 (by decide) q482 (fun _ h => h) rfl dX10_pass_40 ?_
      refine lv_iload_n hx hb dX10_pass_43 rfl (lv_at hl 0 rfl) ?_
      refine lv_iconst (v := 0) hx hb dX10_pass_44 (by decide) ?_
      refine xr_iast (LL' := [[ob h0 9 [.int (v 0), .int (v 1), .int (v 2), .ref h1, .ref h2, .int 2, .int (v 10 + 1)], (h1, aI dT [v 3, v 4, v 5]), (h2, aI dT [0, v 7, v 8])]]) hf hK hw 0 2 rfl 0 (by decide) (by decide) (Nat.le_of_ble_eq_true rfl) rfl dX10_pass_45 (fun H locs hw => ?_)
      refine lv_iinc (v := 1) (lv' := [(1, .int 1), (0, .ref h0)]) hx hb dX10_pass_46 hl (k := 0) rfl (by decide) (by decide) rfl (fun ls hl => ?_)
      refine lv_goto (tgt := 34) hx hb dX10_pass_49 (by decide) ?_
      refine lv_iload_n hx hb dX10_pass_34 rfl (lv_at hl 0 rfl) ?_
      refine lv_iconst (v := 3) hx hb dX10_pass_35 (by decide) ?_
      refine lv_icmp_ge (tgt := 52) hx hb dX10_pass_36 (by decide) (fun c9 => absurd c9 (by decide)) (fun _ => ?_)
      refine lv_aload_n hx hb dX10_pass_39 rfl (lv_at hl 1 rfl) ?_
      refine xr_get hf hK hw 0 0 rfl rfl in_X10 4 (by decide) q482 (fun _ h => h) rfl dX10_pass_40 ?_
      refine lv_iload_n hx hb dX10_pass_43 rfl (lv_at hl 0 rfl) ?_
      refine lv_iconst (v := 0) hx hb dX10_pass_44 (by decide) ?_
      refine xr_iast (LL' := [[ob h0 9 [.int (v 0), .int (v 1), .int (v 2), .ref h1, .ref h2, .int 2, .int (v 10 + 1)], (h1, aI dT [v 3, v 4, v 5]), (h2, aI dT [0, 0, v 8])]]) hf hK hw 0 2 rfl 1 (by decide) (by decide) (Nat.le_of_ble_eq_true rfl) rfl dX10_pass_45 (fun H locs hw => ?_)
      refine lv_iinc (v := 2) (lv' := [(1, .int 2), (0, .ref h0)]) hx hb dX10_pass_46 hl (k := 0) rfl (by decide) (by decide) rfl (fun ls hl => ?_)
      refine lv_goto (tgt := 34) hx hb dX10_pass_49 (by decide) ?_
      refine lv_iload_n hx hb dX10_pass_34 rfl (lv_at hl 0 rfl) ?_
      refine lv_iconst (v := 3) hx hb dX10_pass_35 (by decide) ?_
      refine lv_icmp_ge (tgt := 52) hx hb dX10_pass_36 (by decide) (fun c9 => absurd c9 (by decide)) (fun _ => ?_)
      refine lv_aload_n hx hb dX10_pass_39 rfl (lv_at hl 1 rfl) ?_
      refine xr_get hf hK hw 0 0 rfl rfl in_X10 4 (by decide) q482 (fun _ h => h) rfl dX10_pass_40 ?_
      refine lv_iload_n hx hb dX10_pass_43 rfl (lv_at hl 0 rfl) ?_
      refine lv_iconst (v := 0) hx hb dX10_pass_44 (by decide) ?_
      refine xr_iast (LL' := [[ob h0 9 [.int (v 0), .int (v 1), .int (v 2), .ref h1, .ref h2, .int 2, .int (v 10 + 1)], (h1, aI dT [v 3, v 4, v 5]), (h2, aI dT [0, 0, 0])]]) hf hK hw 0 2 rfl 2 (by decide) (by decide) (Nat.le_of_ble_eq_true rfl) rfl dX10_pass_45 (fun H locs hw => ?_)
      refine lv_iinc (v := 3) (lv' := [(1, .int 3), (0, .ref h0)]) hx hb dX10_pass_46 hl (k := 0) rfl (by decide) (by decide) rfl (fun ls hl => ?_)
      refine lv_goto (tgt := 34) hx hb dX10_pass_49 (by decide) ?_
      refine lv_iload_n hx hb dX10_pass_34 rfl (lv_at hl 0 rfl) ?_
      refine lv_iconst (v := 3) hx hb dX10_pass_35 (by decide) ?_
      refine lv_icmp_ge (tgt := 52) hx hb dX10_pass_36 (by decide) (fun _ => ?_) (fun c9 => absurd c9 (by decide))
      have e9 : f_X10_pass v = (vec [v 0, v 1, v 2, v 3, v 4, v 5, 0, 0, 0, 2, (v 10 + 1)]) := by
        unfold f_X10_pass
        rw [if_pos c_4]
        rw [if_pos c_23]
        try rfl
      have p1 := congrArg (fun z : (Nat → Int32) => [loS dT h0 h1 h2 z]) e9.symm
      exact xr_vret hf hr hlocks hw (Nat.le_of_ble_eq_true rfl) (Nat.le_of_ble_eq_true rfl) ⟨rfl, p1⟩ dX10_pass_52
    · have e9 : f_X10_pass v = (vec [v 0, v 1, v 2, v 3, v 4, v 5, v 6, v 7, v 8, v 9, (v 10 + 1)]) := by
        unfold f_X10_pass
        rw [if_pos c_4]
        rw [if_neg c_23]
        try rfl
      have p1 := congrArg (fun z : (Nat → Int32) => [loS dT h0 h1 h2 z]) e9.symm
      exact xr_vret hf hr hlocks hw (Nat.le_of_ble_eq_true rfl) (Nat.le_of_ble_eq_true rfl) ⟨rfl, p1⟩ dX10_pass_26
  · have e9 : f_X10_pass v = v := by
      unfold f_X10_pass
      rw [if_neg c_4]
      try rfl
    have p1 := congrArg (fun z : (Nat → Int32) => [loS dT h0 h1 h2 z]) e9.symm
    exact xr_vret hf hr hlocks hw (Nat.le_of_ble_eq_true rfl) (Nat.le_of_ble_eq_true rfl) ⟨rfl, p1⟩ dX10_pass_7

def f_X10_fill (v : Nat → Int32) (x : Int32) (y : Int32) : (Nat → Int32) :=
  (vec [v 0, v 1, v 2, ((x - y) - (2 * (((x - y) / 10) / 2))), (((x - y) / 10) / 2), (y / 2), ((x - y) - (2 * (((x - y) / 10) / 2))), (((x - y) / 10) / 2), (y / 2), v 9, v 10])
set_option maxHeartbeats 4000000 in
theorem k_X10_fill (l : Launch) (D : va_G) (dT g : Nat → Nat) (z0 : Nat) (h0 : Nat) (h1 : Nat) (h2 : Nat) (v : Nat → Int32) (x : Int32) (y : Int32) : Con l D dT g z0 yX10_fill (ws_ yX10_fill cX10_fill 4 none) ({ frames := 1, cells := 0, slots := 0, locals := 40 }) [.ref h0, .int x, .int y] [loS dT h0 h1 h2 v] (fun r LL => r = none ∧ LL = [loS dT h0 h1 h2 (f_X10_fill v x y)]) noX 0 0 := by
  refine Con.of (maxL := 4) (ret := none) (by first | exact plainFor_of_name (by decide) | decide +kernel) (Nat.le_of_ble_eq_true rfl) ?_
  intro p e s m args below meth c A ls hf hr hlocks hnm hno hK hA hAz hw hl hst
  have hf : CallFix p m c cX10_fill 4 s args lw_all "SilkRow$Lot" := hf
  have hnm : meth.name = "fill" := hnm
  have hx := hf.1
  have hb := hf.2.1
  have hts := hf.2.2.2.2
  have hl : lv_has ls 4 [(0, .ref h0), (1, .int x), (2, .int y)] := hl
  have hw : Wd D A s.heap s.heap [] [[ob h0 9 [.int (v 0), .int (v 1), .int (v 2), .ref h1, .ref h2, .int (v 9), .int (v 10)], (h1, aI dT [v 3, v 4, v 5]), (h2, aI dT [v 6, v 7, v 8])]] := hw
  refine lv_iload_n hx hb dX10_fill_0 rfl (lv_at hl 1 rfl) ?_
  refine lv_iload_n hx hb dX10_fill_1 rfl (lv_at hl 2 rfl) ?_
  refine lv_isub hx hb dX10_fill_2 ?_
  refine lv_istore_n (lv' := [(3, .int (x - y)), (0, .ref h0), (1, .int x), (2, .int y)]) hx hb dX10_fill_3 rfl hl (by decide) rfl (fun ls hl => ?_)
  refine lv_aload_n hx hb dX10_fill_4 rfl (lv_at hl 1 rfl) ?_
  refine xr_get hf hK hw 0 0 rfl rfl in_X10 3 (by decide) q480 (fun _ h => h) rfl dX10_fill_5 ?_
  refine lv_iconst (v := 1) hx hb dX10_fill_8 (by decide) ?_
  refine lv_iload_n hx hb dX10_fill_9 rfl (lv_at hl 0 rfl) ?_
  refine lv_bipush (v := 10) hx hb dX10_fill_10 (by decide) ?_
  refine lv_idiv hx hb dX10_fill_12 (by decide) ?_
  refine lv_iconst (v := 2) hx hb dX10_fill_13 (by decide) ?_
  refine lv_idiv hx hb dX10_fill_14 (by decide) ?_
  refine xr_iast (LL' := [[ob h0 9 [.int (v 0), .int (v 1), .int (v 2), .ref h1, .ref h2, .int (v 9), .int (v 10)], (h1, aI dT [v 3, (((x - y) / 10) / 2), v 5]), (h2, aI dT [v 6, v 7, v 8])]]) hf hK hw 0 1 rfl 1 (by decide) (by decide) (Nat.le_of_ble_eq_true rfl) rfl dX10_fill_15 (fun H locs hw => ?_)
  refine lv_aload_n hx hb dX10_fill_16 rfl (lv_at hl 1 rfl) ?_
  refine xr_get hf hK hw 0 0 rfl rfl in_X10 3 (by decide) q480 (fun _ h => h) rfl dX10_fill_17 ?_
  refine lv_iconst (v := 0) hx hb dX10_fill_20 (by decide) ?_
  refine lv_iload_n hx hb dX10_fill_21 rfl (lv_at hl 0 rfl) ?_
  refine lv_iconst (v := 2) hx hb dX10_fill_22 (by decide) ?_
  refine lv_aload_n hx hb dX10_fill_23 rfl (lv_at hl 1 rfl) ?_
  refine xr_get hf hK hw 0 0 rfl rfl in_X10 3 (by decide) q480 (fun _ h => h) rfl dX10_fill_24 ?_
  refine lv_iconst (v := 1) hx hb dX10_fill_27 (by decide) ?_
  refine xr_iald hf hK hw 0 1 rfl 1 (by decide) (by decide) (Nat.le_of_ble_eq_true rfl) rfl dX10_fill_28 ?_
  refine lv_imul hx hb dX10_fill_29 ?_
  refine lv_isub hx hb dX10_fill_30 ?_
  refine xr_iast (LL' := [[ob h0 9 [.int (v 0), .int (v 1), .int (v 2), .ref h1, .ref h2, .int (v 9), .int (v 10)], (h1, aI dT [((x - y) - (2 * (((x - y) / 10) / 2))), (((x - y) / 10) / 2), v 5]), (h2, aI dT [v 6, v 7, v 8])]]) hf hK hw 0 1 rfl 0 (by decide) (by decide) (Nat.le_of_ble_eq_true rfl) rfl dX10_fill_31 (fun H locs hw => ?_)
  refine lv_aload_n hx hb dX10_fill_32 rfl (lv_at hl 1 rfl) ?_
  refine xr_get hf hK hw 0 0 rfl rfl in_X10 3 (by decide) q480 (fun _ h => h) rfl dX10_fill_33 ?_
  refine lv_iconst (v := 2) hx hb dX10_fill_36 (by decide) ?_
  refine lv_iload_n hx hb dX10_fill_37 rfl (lv_at hl 3 rfl) ?_
  refine lv_iconst (v := 2) hx hb dX10_fill_38 (by decide) ?_
  refine lv_idiv hx hb dX10_fill_39 (by decide) ?_
  refine xr_iast (LL' := [[ob h0 9 [.int (v 0), .int (v 1), .int (v 2), .ref h1, .ref h2, .int (v 9), .int (v 10)], (h1, aI dT [((x - y) - (2 * (((x - y) / 10) / 2))), (((x - y) / 10) / 2), (y / 2)]), (h2, aI dT [v 6, v 7, v 8])]]) hf hK hw 0 1 rfl 2 (by decide) (by decide) (Nat.le_of_ble_eq_true rfl) rfl dX10_fill_40 (fun H locs hw => ?_)
  refine lv_aload_n hx hb dX10_fill_41 rfl (lv_at hl 1 rfl) ?_
  refine xr_get hf hK hw 0 0 rfl rfl in_X10 3 (by decide) q480 (fun _ h => h) rfl dX10_fill_42 ?_
  refine lv_iconst (v := 0) hx hb dX10_fill_45 (by decide) ?_
  refine lv_aload_n hx hb dX10_fill_46 rfl (lv_at hl 1 rfl) ?_
  refine xr_get hf hK hw 0 0 rfl rfl in_X10 4 (by decide) q482 (fun _ h => h) rfl dX10_fill_47 ?_
  refine lv_iconst (v := 0) hx hb dX10_fill_50 (by decide) ?_
  refine lv_iconst (v := 3) hx hb dX10_fill_51 (by decide) ?_
  refine xr_copy3 (LL' := [[ob h0 9 [.int (v 0), .int (v 1), .int (v 2), .ref h1, .ref h2, .int (v 9), .int (v 10)], (h1, aI dT [((x - y) - (2 * (((x - y) / 10) / 2))), (((x - y) / 10) / 2), (y / 2)]), (h2, aI dT [((x - y) - (2 * (((x - y) / 10) / 2))), (((x - y) / 10) / 2), (y / 2)])]]) hf hl.1 hK hw 0 1 0 2 rfl rfl q503 q197 q196 q52 (Nat.le_of_ble_eq_true rfl) (Nat.le_of_ble_eq_true rfl) rfl dX10_fill_52 (fun H locs hw => ?_)
  have e9 : f_X10_fill v x y = (vec [v 0, v 1, v 2, ((x - y) - (2 * (((x - y) / 10) / 2))), (((x - y) / 10) / 2), (y / 2), ((x - y) - (2 * (((x - y) / 10) / 2))), (((x - y) / 10) / 2), (y / 2), v 9, v 10]) := by
    unfold f_X10_fill
    try rfl
  have p1 := congrArg (fun z : (Nat → Int32) => [loS dT h0 h1 h2 z]) e9.symm
  exact xr_vret hf hr hlocks hw (Nat.le_of_ble_eq_true rfl) (Nat.le_of_ble_eq_true rfl) ⟨rfl, p1⟩ dX10_fill_55

def f_X10_copy (v : Nat → Int32)  : (Nat → Int32) × (Nat → Int32) :=
  (fun r2 : (Nat → Int32) =>
    (v, (vec [r2 0, r2 1, r2 2, v 3, v 4, v 5, v 6, v 7, v 8, v 9, r2 10]))) (f_X10_init (v 0) (v 1) (v 2))
set_option maxHeartbeats 4000000 in
theorem k_X10_copy (l : Launch) (D : va_G) (dT g : Nat → Nat) (z0 : Nat) (h0 : Nat) (h1 : Nat) (h2 : Nat) (v : Nat → Int32)  : Con l D dT g z0 yX10_copy (ws_ yX10_copy cX10_copy 2 (some (.object "SilkRow$Lot"))) ({ frames := 2, cells := 3, slots := 13, locals := 63 }) [.ref h0] [loS dT h0 h1 h2 v] (fun r LL => ∃ a0 a1 a2 : Nat, r = some (.ref a0) ∧ LL = [loS dT h0 h1 h2 (f_X10_copy v).1, loS dT a0 a1 a2 (f_X10_copy v).2]) noX 3 13 := by
  refine Con.of (maxL := 2) (ret := (some (.object "SilkRow$Lot"))) (by first | exact plainFor_of_name (by decide) | decide +kernel) (Nat.le_of_ble_eq_true rfl) ?_
  intro p e s m args below meth c A ls hf hr hlocks hnm hno hK hA hAz hw hl hst
  have hf : CallFix p m c cX10_copy 2 s args lw_all "SilkRow$Lot" := hf
  have hnm : meth.name = "copy" := hnm
  have hx := hf.1
  have hb := hf.2.1
  have hts := hf.2.2.2.2
  have hl : lv_has ls 2 [(0, .ref h0)] := hl
  have hw : Wd D A s.heap s.heap [] [[ob h0 9 [.int (v 0), .int (v 1), .int (v 2), .ref h1, .ref h2, .int (v 9), .int (v 10)], (h1, aI dT [v 3, v 4, v 5]), (h2, aI dT [v 6, v 7, v 8])]] := hw
  refine xr_new (LL' := [[ob h0 9 [.int (v 0), .int (v 1), .int (v 2), .ref h1, .ref h2, .int (v 9), .int (v 10)], (h1, aI dT [v 3, v 4, v 5]), (h2, aI dT [v 6, v 7, v 8])]]) (fs := [.int 0, .int 0, .int 0, .null, .null, .int 0, .int 0]) hf hK hw hA 9 rfl in_X10 tyX10_ok q468 q469 q71 rfl (Nat.le_of_ble_eq_true rfl) (Nat.le_of_ble_eq_true rfl) (fun _ => rfl) dX10_copy_0 (fun qa1 H hw => ?_)
  have hw : Wd D A s.heap _ _ [[ob h0 9 [.int (v 0), .int (v 1), .int (v 2), .ref h1, .ref h2, .int (v 9), .int (v 10)], (h1, aI dT [v 3, v 4, v 5]), (h2, aI dT [v 6, v 7, v 8])], [ob qa1 9 [.int 0, .int 0, .int 0, .null, .null, .int 0, .int 0]]] := hw
  refine lv_dup hx hb dX10_copy_3 rfl ?_
  refine lv_aload_n hx hb dX10_copy_4 rfl (lv_at hl 0 rfl) ?_
  refine xr_get hf hK hw 0 0 rfl rfl in_X10 0 (by decide) q474 (fun _ h => h) rfl dX10_copy_5 ?_
  refine lv_aload_n hx hb dX10_copy_8 rfl (lv_at hl 0 rfl) ?_
  refine xr_get hf hK hw 0 0 rfl rfl in_X10 1 (by decide) q476 (fun _ h => h) rfl dX10_copy_9 ?_
  refine lv_aload_n hx hb dX10_copy_12 rfl (lv_at hl 0 rfl) ?_
  refine xr_get hf hK hw 0 0 rfl rfl in_X10 2 (by decide) q478 (fun _ h => h) rfl dX10_copy_13 ?_
  refine xc_I (rest := [.ref qa1]) (As := [.int (v 0), .int (v 1), .int (v 2)]) hf hK hA hAz hst (hw.pick [1] rfl rfl rfl) (k_X10_init l D dT g z0 qa1 (v 0) (v 1) (v 2)) (cwI 3 hts (lw_meth q472) rfl rfl rfl (hts _ q71) (hts _ q470) (hts _ q471) rfl (by decide +kernel) ⟨Nat.le_of_ble_eq_true rfl, Nat.le_of_ble_eq_true rfl⟩) rfl hl.1 rfl (Nat.le_of_ble_eq_true rfl) dX10_copy_16 ⟨(Nat.le_of_ble_eq_true rfl), (Nat.le_of_ble_eq_true rfl)⟩ (fun _ _ _ _ _ _ h => h.elim) (fun v9 LL1 H locs hp hw => ?_)
  obtain ⟨r2, hr2⟩ : ∃ z, z = f_X10_init (v 0) (v 1) (v 2) := ⟨_, rfl⟩
  rw [← hr2] at hp
  obtain ⟨r2a1, r2a2, rfl, rfl⟩ := hp
  have hw : Wd D A s.heap _ _ [[ob qa1 9 [.int (r2 0), .int (r2 1), .int (r2 2), .ref r2a1, .ref r2a2, .int (r2 9), .int (r2 10)], (r2a1, aI dT [r2 3, r2 4, r2 5]), (r2a2, aI dT [r2 6, r2 7, r2 8])], [ob h0 9 [.int (v 0), .int (v 1), .int (v 2), .ref h1, .ref h2, .int (v 9), .int (v 10)], (h1, aI dT [v 3, v 4, v 5]), (h2, aI dT [v 6, v 7, v 8])]] := hw
  refine W.eq (g2 := F0 m 19 ls [.ref qa1]) rfl ?_
  refine lv_astore_n (lv' := [(1, .ref qa1), (0, .ref h0)]) hx hb dX10_copy_19 rfl hl (by decide) rfl (fun ls hl => ?_)
  refine lv_aload_n hx hb dX10_copy_20 rfl (lv_at hl 1 rfl) ?_
  refine xr_get hf hK hw 1 0 rfl rfl in_X10 3 (by decide) q480 (fun _ h => h) rfl dX10_copy_21 ?_
  refine lv_iconst (v := 0) hx hb dX10_copy_24 (by decide) ?_
  refine lv_aload_n hx hb dX10_copy_25 rfl (lv_at hl 0 rfl) ?_
  refine xr_get hf hK hw 0 0 rfl rfl in_X10 3 (by decide) q480 (fun _ h => h) rfl dX10_copy_26 ?_
  refine lv_iconst (v := 0) hx hb dX10_copy_29 (by decide) ?_
  refine lv_iconst (v := 3) hx hb dX10_copy_30 (by decide) ?_
  refine xr_copy3 (LL' := [[ob qa1 9 [.int (r2 0), .int (r2 1), .int (r2 2), .ref r2a1, .ref r2a2, .int (r2 9), .int (r2 10)], (r2a1, aI dT [v 3, v 4, v 5]), (r2a2, aI dT [r2 6, r2 7, r2 8])], [ob h0 9 [.int (v 0), .int (v 1), .int (v 2), .ref h1, .ref h2, .int (v 9), .int (v 10)], (h1, aI dT [v 3, v 4, v 5]), (h2, aI dT [v 6, v 7, v 8])]]) hf hl.1 hK hw 1 1 0 1 rfl rfl q503 q197 q196 q52 (Nat.le_of_ble_eq_true rfl) (Nat.le_of_ble_eq_true rfl) rfl dX10_copy_31 (fun H locs hw => ?_)
  refine lv_aload_n hx hb dX10_copy_34 rfl (lv_at hl 1 rfl) ?_
  refine xr_get hf hK hw 1 0 rfl rfl in_X10 4 (by decide) q482 (fun _ h => h) rfl dX10_copy_35 ?_
  refine lv_iconst (v := 0) hx hb dX10_copy_38 (by decide) ?_
  refine lv_aload_n hx hb dX10_copy_39 rfl (lv_at hl 0 rfl) ?_
  refine xr_get hf hK hw 0 0 rfl rfl in_X10 4 (by decide) q482 (fun _ h => h) rfl dX10_copy_40 ?_
  refine lv_iconst (v := 0) hx hb dX10_copy_43 (by decide) ?_
  refine lv_iconst (v := 3) hx hb dX10_copy_44 (by decide) ?_
  refine xr_copy3 (LL' := [[ob qa1 9 [.int (r2 0), .int (r2 1), .int (r2 2), .ref r2a1, .ref r2a2, .int (r2 9), .int (r2 10)], (r2a1, aI dT [v 3, v 4, v 5]), (r2a2, aI dT [v 6, v 7, v 8])], [ob h0 9 [.int (v 0), .int (v 1), .int (v 2), .ref h1, .ref h2, .int (v 9), .int (v 10)], (h1, aI dT [v 3, v 4, v 5]), (h2, aI dT [v 6, v 7, v 8])]]) hf hl.1 hK hw 1 2 0 2 rfl rfl q503 q197 q196 q52 (Nat.le_of_ble_eq_true rfl) (Nat.le_of_ble_eq_true rfl) rfl dX10_copy_45 (fun H locs hw => ?_)
  refine lv_aload_n hx hb dX10_copy_48 rfl (lv_at hl 0 rfl) ?_
  refine lv_aload_n hx hb dX10_copy_49 rfl (lv_at hl 1 rfl) ?_
  refine xr_get hf hK hw 1 0 rfl rfl in_X10 5 (by decide) q484 (fun _ h => h) rfl dX10_copy_50 ?_
  refine xr_put (LL' := [[ob qa1 9 [.int (r2 0), .int (r2 1), .int (r2 2), .ref r2a1, .ref r2a2, .int (v 9), .int (r2 10)], (r2a1, aI dT [v 3, v 4, v 5]), (r2a2, aI dT [v 6, v 7, v 8])], [ob h0 9 [.int (v 0), .int (v 1), .int (v 2), .ref h1, .ref h2, .int (v 9), .int (v 10)], (h1, aI dT [v 3, v 4, v 5]), (h2, aI dT [v 6, v 7, v 8])]]) hf hK hw 0 0 rfl rfl in_X10 tyX10_ok nmX10 5 (by decide) q484 (fun _ h => h) rfl rfl rfl (Nat.le_of_ble_eq_true rfl) rfl dX10_copy_53 (fun H locs hw => ?_)
  refine lv_aload_n hx hb dX10_copy_56 rfl (lv_at hl 0 rfl) ?_
  have hw := Wd.take (L2 := [[ob h0 9 [.int (v 0), .int (v 1), .int (v 2), .ref h1, .ref h2, .int (v 9), .int (v 10)], (h1, aI dT [v 3, v 4, v 5]), (h2, aI dT [v 6, v 7, v 8])], [ob qa1 9 [.int (r2 0), .int (r2 1), .int (r2 2), .ref r2a1, .ref r2a2, .int (v 9), .int (r2 10)], (r2a1, aI dT [v 3, v 4, v 5]), (r2a2, aI dT [v 6, v 7, v 8])]]) hw [1, 0] rfl rfl
  have e9 : f_X10_copy v = (v, (vec [r2 0, r2 1, r2 2, v 3, v 4, v 5, v 6, v 7, v 8, v 9, r2 10])) := by
    unfold f_X10_copy
    rw [← hr2]; try dsimp only
    try rfl
  have hw : Wd D A s.heap _ _ [[ob h0 9 [.int (v 0), .int (v 1), .int (v 2), .ref h1, .ref h2, .int (v 9), .int (v 10)], (h1, aI dT [v 3, v 4, v 5]), (h2, aI dT [v 6, v 7, v 8])], [ob qa1 9 [.int (r2 0), .int (r2 1), .int (r2 2), .ref r2a1, .ref r2a2, .int (v 9), .int (r2 10)], (r2a1, aI dT [v 3, v 4, v 5]), (r2a2, aI dT [v 6, v 7, v 8])]] := hw.eq rfl
  have p1 := congrArg (fun z : (Nat → Int32) × (Nat → Int32) => [loS dT h0 h1 h2 z.1, loS dT qa1 r2a1 r2a2 z.2]) e9.symm
  exact xr_aret hf hr (by first | exact Or.inl ⟨_, rfl⟩ | exact Or.inr ⟨_, rfl⟩) (Or.inr ⟨_, rfl⟩) hlocks hw (Nat.le_of_ble_eq_true rfl) (Nat.le_of_ble_eq_true rfl) ⟨qa1, r2a1, r2a2, rfl, p1⟩ dX10_copy_57

def f_X11_init  (x : Int32) (y : Int32) (z : Int32) : (Nat → Int32) :=
  (vec [x, y, z, 0, 0, 0, 0, 0, 0, 0, 0])
set_option maxHeartbeats 4000000 in
theorem k_X11_init (l : Launch) (D : va_G) (dT g : Nat → Nat) (z0 : Nat) (h0 : Nat)  (x : Int32) (y : Int32) (z : Int32) : Con l D dT g z0 yX11_init (ws_ yX11_init cX11_init 4 none) ({ frames := 1, cells := 2, slots := 6, locals := 40 }) [.ref h0, .int x, .int y, .int z] [[ob h0 10 [.int 0, .int 0, .int 0, .null, .null, .int 0, .int 0]]] (fun r LL => ∃ a1 a2 : Nat, r = none ∧ LL = [moS dT h0 a1 a2 (f_X11_init x y z)]) noX 2 6 := by
  refine Con.of (maxL := 4) (ret := none) (by first | exact plainFor_of_name (by decide) | decide +kernel) (Nat.le_of_ble_eq_true rfl) ?_
  intro p e s m args below meth c A ls hf hr hlocks hnm hno hK hA hAz hw hl hst
  have hf : CallFix p m c cX11_init 4 s args lw_all "SilkRowModel$Lot" := hf
  have hnm : meth.name = "<init>" := hnm
  have hx := hf.1
  have hb := hf.2.1
  have hts := hf.2.2.2.2
  have hl : lv_has ls 4 [(0, .ref h0), (1, .int x), (2, .int y), (3, .int z)] := hl
  have hw : Wd D A s.heap s.heap [] [[ob h0 10 [.int 0, .int 0, .int 0, .null, .null, .int 0, .int 0]]] := hw
  refine lv_aload_n hx hb dX11_init_0 rfl (lv_at hl 0 rfl) ?_
  refine W.objInit hx hb hf.2.2.2.1 (hts _ q1387) (hts _ q83) (hts _ q84) rfl (by rw [hf.2.2.1]; exact hl.1) rfl dX11_init_1 (Nat.le_of_ble_eq_true rfl) (Nat.le_of_ble_eq_true rfl) ?_
  refine W.eq (g2 := F0 m 4 ls []) rfl ?_
  refine lv_aload_n hx hb dX11_init_4 rfl (lv_at hl 0 rfl) ?_
  refine lv_iconst (v := 3) hx hb dX11_init_5 (by decide) ?_
  refine xr_newi hf hK hw hA q463 (N := 3) (by decide) (by decide) (Nat.le_of_ble_eq_true rfl) (Nat.le_of_ble_eq_true rfl) (Nat.le_of_ble_eq_true rfl) dX11_init_6 (fun qa1 H hw => ?_)
  have hw : Wd D A s.heap _ _ [[ob h0 10 [.int 0, .int 0, .int 0, .null, .null, .int 0, .int 0]], [(qa1, aI dT [0, 0, 0])]] := hw
  refine xr_putF (LL' := [[ob h0 10 [.int 0, .int 0, .int 0, .ref qa1, .null, .int 0, .int 0]], [(qa1, aI dT [0, 0, 0])]]) hf hK hw 0 0 rfl rfl in_X11 tyX11_ok nmX11 3 (by decide) q1397 (fun _ h => h) rfl hnm rfl rfl rfl (Nat.le_of_ble_eq_true rfl) rfl dX11_init_8 (fun H locs hw => ?_)
  refine lv_aload_n hx hb dX11_init_11 rfl (lv_at hl 0 rfl) ?_
  refine lv_iconst (v := 3) hx hb dX11_init_12 (by decide) ?_
  refine xr_newi hf hK hw hA q463 (N := 3) (by decide) (by decide) (Nat.le_of_ble_eq_true rfl) (Nat.le_of_ble_eq_true rfl) (Nat.le_of_ble_eq_true rfl) dX11_init_13 (fun qa2 H hw => ?_)
  have hw : Wd D A s.heap _ _ [[ob h0 10 [.int 0, .int 0, .int 0, .ref qa1, .null, .int 0, .int 0]], [(qa1, aI dT [0, 0, 0])], [(qa2, aI dT [0, 0, 0])]] := hw
  refine xr_putF (LL' := [[ob h0 10 [.int 0, .int 0, .int 0, .ref qa1, .ref qa2, .int 0, .int 0]], [(qa1, aI dT [0, 0, 0])], [(qa2, aI dT [0, 0, 0])]]) hf hK hw 0 0 rfl rfl in_X11 tyX11_ok nmX11 4 (by decide) q1399 (fun _ h => h) rfl hnm rfl rfl rfl (Nat.le_of_ble_eq_true rfl) rfl dX11_init_15 (fun H locs hw => ?_)
  refine lv_aload_n hx hb dX11_init_18 rfl (lv_at hl 0 rfl) ?_
  refine lv_iconst (v := 0) hx hb dX11_init_19 (by decide) ?_
  refine xr_put (LL' := [[ob h0 10 [.int 0, .int 0, .int 0, .ref qa1, .ref qa2, .int 0, .int 0]], [(qa1, aI dT [0, 0, 0])], [(qa2, aI dT [0, 0, 0])]]) hf hK hw 0 0 rfl rfl in_X11 tyX11_ok nmX11 5 (by decide) q1402 (fun _ h => h) rfl rfl rfl (Nat.le_of_ble_eq_true rfl) rfl dX11_init_20 (fun H locs hw => ?_)
  refine lv_aload_n hx hb dX11_init_23 rfl (lv_at hl 0 rfl) ?_
  refine lv_iload_n hx hb dX11_init_24 rfl (lv_at hl 1 rfl) ?_
  refine xr_putF (LL' := [[ob h0 10 [.int x, .int 0, .int 0, .ref qa1, .ref qa2, .int 0, .int 0]], [(qa1, aI dT [0, 0, 0])], [(qa2, aI dT [0, 0, 0])]]) hf hK hw 0 0 rfl rfl in_X11 tyX11_ok nmX11 0 (by decide) q1388 (fun _ h => h) rfl hnm rfl rfl rfl (Nat.le_of_ble_eq_true rfl) rfl dX11_init_25 (fun H locs hw => ?_)
  refine lv_aload_n hx hb dX11_init_28 rfl (lv_at hl 0 rfl) ?_
  refine lv_iload_n hx hb dX11_init_29 rfl (lv_at hl 2 rfl) ?_
  refine xr_putF (LL' := [[ob h0 10 [.int x, .int y, .int 0, .ref qa1, .ref qa2, .int 0, .int 0]], [(qa1, aI dT [0, 0, 0])], [(qa2, aI dT [0, 0, 0])]]) hf hK hw 0 0 rfl rfl in_X11 tyX11_ok nmX11 1 (by decide) q1391 (fun _ h => h) rfl hnm rfl rfl rfl (Nat.le_of_ble_eq_true rfl) rfl dX11_init_30 (fun H locs hw => ?_)
  refine lv_aload_n hx hb dX11_init_33 rfl (lv_at hl 0 rfl) ?_
  refine lv_iload_n hx hb dX11_init_34 rfl (lv_at hl 3 rfl) ?_
  refine xr_putF (LL' := [[ob h0 10 [.int x, .int y, .int z, .ref qa1, .ref qa2, .int 0, .int 0]], [(qa1, aI dT [0, 0, 0])], [(qa2, aI dT [0, 0, 0])]]) hf hK hw 0 0 rfl rfl in_X11 tyX11_ok nmX11 2 (by decide) q1395 (fun _ h => h) rfl hnm rfl rfl rfl (Nat.le_of_ble_eq_true rfl) rfl dX11_init_35 (fun H locs hw => ?_)
  have hw := Wd.take (L2 := [[ob h0 10 [.int x, .int y, .int z, .ref qa1, .ref qa2, .int 0, .int 0]], [(qa1, aI dT [0, 0, 0])], [(qa2, aI dT [0, 0, 0])]]) hw [0, 0, 0] rfl rfl
  have e9 : f_X11_init x y z = (vec [x, y, z, 0, 0, 0, 0, 0, 0, 0, 0]) := by
    unfold f_X11_init
    try rfl
  have hw : Wd D A s.heap _ _ [[ob h0 10 [.int x, .int y, .int z, .ref qa1, .ref qa2, .int 0, .int 0], (qa1, aI dT [0, 0, 0]), (qa2, aI dT [0, 0, 0])]] := hw.eq rfl
  have p1 := congrArg (fun z : (Nat → Int32) => [moS dT h0 qa1 qa2 z]) e9.symm
  exact xr_vret hf hr hlocks hw (Nat.le_of_ble_eq_true rfl) (Nat.le_of_ble_eq_true rfl) ⟨qa1, qa2, rfl, p1⟩ dX11_init_38

def f_X11_cocoons (v : Nat → Int32)  : Int32 × (Nat → Int32) :=
  (((v 3 + v 4) + v 5), v)
set_option maxHeartbeats 4000000 in
theorem k_X11_cocoons (l : Launch) (D : va_G) (dT g : Nat → Nat) (z0 : Nat) (h0 : Nat) (h1 : Nat) (h2 : Nat) (v : Nat → Int32)  : Con l D dT g z0 yX11_cocoons (ws_ yX11_cocoons cX11_cocoons 1 (some .int)) ({ frames := 1, cells := 0, slots := 0, locals := 40 }) [.ref h0] [moS dT h0 h1 h2 v] (fun r LL => r = some (.int (f_X11_cocoons v).1) ∧ LL = [moS dT h0 h1 h2 (f_X11_cocoons v).2]) noX 0 0 := by
  refine Con.of (maxL := 1) (ret := (some .int)) (by first | exact plainFor_of_name (by decide) | decide +kernel) (Nat.le_of_ble_eq_true rfl) ?_
  intro p e s m args below meth c A ls hf hr hlocks hnm hno hK hA hAz hw hl hst
  have hf : CallFix p m c cX11_cocoons 1 s args lw_all "SilkRowModel$Lot" := hf
  have hnm : meth.name = "cocoons" := hnm
  have hx := hf.1
  have hb := hf.2.1
  have hts := hf.2.2.2.2
  have hl : lv_has ls 1 [(0, .ref h0)] := hl
  have hw : Wd D A s.heap s.heap [] [[ob h0 10 [.int (v 0), .int (v 1), .int (v 2), .ref h1, .ref h2, .int (v 9), .int (v 10)], (h1, aI dT [v 3, v 4, v 5]), (h2, aI dT [v 6, v 7, v 8])]] := hw
  refine lv_aload_n hx hb dX11_cocoons_0 rfl (lv_at hl 0 rfl) ?_
  refine xr_get hf hK hw 0 0 rfl rfl in_X11 3 (by decide) q1397 (fun _ h => h) rfl dX11_cocoons_1 ?_
  refine lv_iconst (v := 0) hx hb dX11_cocoons_4 (by decide) ?_
  refine xr_iald hf hK hw 0 1 rfl 0 (by decide) (by decide) (Nat.le_of_ble_eq_true rfl) rfl dX11_cocoons_5 ?_
  refine lv_aload_n hx hb dX11_cocoons_6 rfl (lv_at hl 0 rfl) ?_
  refine xr_get hf hK hw 0 0 rfl rfl in_X11 3 (by decide) q1397 (fun _ h => h) rfl dX11_cocoons_7 ?_
  refine lv_iconst (v := 1) hx hb dX11_cocoons_10 (by decide) ?_
  refine xr_iald hf hK hw 0 1 rfl 1 (by decide) (by decide) (Nat.le_of_ble_eq_true rfl) rfl dX11_cocoons_11 ?_
  refine lv_iadd hx hb dX11_cocoons_12 ?_
  refine lv_aload_n hx hb dX11_cocoons_13 rfl (lv_at hl 0 rfl) ?_
  refine xr_get hf hK hw 0 0 rfl rfl in_X11 3 (by decide) q1397 (fun _ h => h) rfl dX11_cocoons_14 ?_
  refine lv_iconst (v := 2) hx hb dX11_cocoons_17 (by decide) ?_
  refine xr_iald hf hK hw 0 1 rfl 2 (by decide) (by decide) (Nat.le_of_ble_eq_true rfl) rfl dX11_cocoons_18 ?_
  refine lv_iadd hx hb dX11_cocoons_19 ?_
  have e9 : f_X11_cocoons v = (((v 3 + v 4) + v 5), v) := by
    unfold f_X11_cocoons
    try rfl
  have p0 := congrArg (fun z : Int32 × (Nat → Int32) => some (Value.int z.1)) e9.symm
  have p1 := congrArg (fun z : Int32 × (Nat → Int32) => [moS dT h0 h1 h2 z.2]) e9.symm
  exact xr_iret hf hr hlocks hw (Nat.le_of_ble_eq_true rfl) (Nat.le_of_ble_eq_true rfl) ⟨p0, p1⟩ dX11_cocoons_20
theorem fs_X11_cocoons (v : Nat → Int32) : (f_X11_cocoons v).2 = v := by
  unfold f_X11_cocoons
  repeat (first | rfl | split)

def f_X11_day (v : Nat → Int32)  : (Nat → Int32) :=
  if v 9 = 0 then
    if 5 ≤ (v 10 + 1) then
      (vec [v 0, v 1, v 2, v 3, v 4, v 5, 0, 0, 0, 2, (v 10 + 1)])
    else
      (vec [v 0, v 1, v 2, v 3, v 4, v 5, v 6, v 7, v 8, v 9, (v 10 + 1)])
  else
    v
set_option maxHeartbeats 4000000 in
theorem k_X11_day (l : Launch) (D : va_G) (dT g : Nat → Nat) (z0 : Nat) (h0 : Nat) (h1 : Nat) (h2 : Nat) (v : Nat → Int32)  : Con l D dT g z0 yX11_day (ws_ yX11_day cX11_day 2 none) ({ frames := 1, cells := 0, slots := 0, locals := 40 }) [.ref h0] [moS dT h0 h1 h2 v] (fun r LL => r = none ∧ LL = [moS dT h0 h1 h2 (f_X11_day v)]) noX 0 0 := by
  refine Con.of (maxL := 2) (ret := none) (by first | exact plainFor_of_name (by decide) | decide +kernel) (Nat.le_of_ble_eq_true rfl) ?_
  intro p e s m args below meth c A ls hf hr hlocks hnm hno hK hA hAz hw hl hst
  have hf : CallFix p m c cX11_day 2 s args lw_all "SilkRowModel$Lot" := hf
  have hnm : meth.name = "day" := hnm
  have hx := hf.1
  have hb := hf.2.1
  have hts := hf.2.2.2.2
  have hl : lv_has ls 2 [(0, .ref h0)] := hl
  have hw : Wd D A s.heap s.heap [] [[ob h0 10 [.int (v 0), .int (v 1), .int (v 2), .ref h1, .ref h2, .int (v 9), .int (v 10)], (h1, aI dT [v 3, v 4, v 5]), (h2, aI dT [v 6, v 7, v 8])]] := hw
  refine lv_aload_n hx hb dX11_day_0 rfl (lv_at hl 0 rfl) ?_
  refine xr_get hf hK hw 0 0 rfl rfl in_X11 5 (by decide) q1402 (fun _ h => h) rfl dX11_day_1 ?_
  refine lv_if_eq (tgt := 8) hx hb dX11_day_4 (by decide) (fun c_4 => ?_) (fun c_4 => ?_)
  · refine lv_aload_n hx hb dX11_day_8 rfl (lv_at hl 0 rfl) ?_
    refine lv_dup hx hb dX11_day_9 rfl ?_
    refine xr_get hf hK hw 0 0 rfl rfl in_X11 6 (by decide) q1404 (fun _ h => h) rfl dX11_day_10 ?_
    refine lv_iconst (v := 1) hx hb dX11_day_13 (by decide) ?_
    refine lv_iadd hx hb dX11_day_14 ?_
    refine xr_put (LL' := [[ob h0 10 [.int (v 0), .int (v 1), .int (v 2), .ref h1, .ref h2, .int (v 9), .int (v 10 + 1)], (h1, aI dT [v 3, v 4, v 5]), (h2, aI dT [v 6, v 7, v 8])]]) hf hK hw 0 0 rfl rfl in_X11 tyX11_ok nmX11 6 (by decide) q1404 (fun _ h => h) rfl rfl rfl (Nat.le_of_ble_eq_true rfl) rfl dX11_day_15 (fun H locs hw => ?_)
    refine lv_aload_n hx hb dX11_day_18 rfl (lv_at hl 0 rfl) ?_
    refine xr_get hf hK hw 0 0 rfl rfl in_X11 6 (by decide) q1404 (fun _ h => h) rfl dX11_day_19 ?_
    refine lv_iconst (v := 5) hx hb dX11_day_22 (by decide) ?_
    refine lv_icmp_ge (tgt := 27) hx hb dX11_day_23 (by decide) (fun c_23 => ?_) (fun c_23 => ?_)
    · refine lv_aload_n hx hb dX11_day_27 rfl (lv_at hl 0 rfl) ?_
      refine lv_iconst (v := 2) hx hb dX11_day_28 (by decide) ?_
      refine xr_put (LL' := [[ob h0 10 [.int (v 0), .int (v 1), .int (v 2), .ref h1, .ref h2, .int 2, .int (v 10 + 1)], (h1, aI dT [v 3, v 4, v 5]), (h2, aI dT [v 6, v 7, v 8])]]) hf hK hw 0 0 rfl rfl in_X11 tyX11_ok nmX11 5 (by decide) q1402 (fun _ h => h) rfl rfl rfl (Nat.le_of_ble_eq_true rfl) rfl dX11_day_29 (fun H locs hw => ?_)
      refine lv_iconst (v := 0) hx hb dX11_day_32 (by decide) ?_
      refine lv_istore_n (lv' := [(1, .int 0), (0, .ref h0)]) hx hb dX11_day_33 rfl hl (by decide) rfl (fun ls hl => ?_)
      refine lv_iload_n hx hb dX11_day_34 rfl (lv_at hl 0 rfl) ?_
      refine lv_iconst (v := 3) hx hb dX11_day_35 (by decide) ?_
      refine lv_icmp_ge (tgt := 52) hx hb dX11_day_36 (by decide) (fun c9 => absurd c9 (by decide)) (fun _ => ?_)
      refine lv_aload_n hx hb dX11_day_39 rfl (lv_at hl 1 rfl) ?_
      refine xr_get hf hK hw 0 0 rfl rfl in_X11 4 (by decide) q1399 (fun _ h => h) rfl dX11_day_40 ?_
      refine lv_iload_n hx hb dX11_day_43 rfl (lv_at hl 0 rfl) ?_
      refine lv_iconst (v := 0) hx hb dX11_day_44 (by decide) ?_
      refine xr_iast (LL' := [[ob h0 10 [.int (v 0), .int (v 1), .int (v 2), .ref h1, .ref h2, .int 2, .int (v 10 + 1)], (h1, aI dT [v 3, v 4, v 5]), (h2, aI dT [0, v 7, v 8])]]) hf hK hw 0 2 rfl 0 (by decide) (by decide) (Nat.le_of_ble_eq_true rfl) rfl dX11_day_45 (fun H locs hw => ?_)
      refine lv_iinc (v := 1) (lv' := [(1, .int 1), (0, .ref h0)]) hx hb dX11_day_46 hl (k := 0) rfl (by decide) (by decide) rfl (fun ls hl => ?_)
      refine lv_goto (tgt := 34) hx hb dX11_day_49 (by decide) ?_
      refine lv_iload_n hx hb dX11_day_34 rfl (lv_at hl 0 rfl) ?_
      refine lv_iconst (v := 3) hx hb dX11_day_35 (by decide) ?_
      refine lv_icmp_ge (tgt := 52) hx hb dX11_day_36 (by decide) (fun c9 => absurd c9 (by decide)) (fun _ => ?_)
      refine lv_aload_n hx hb dX11_day_39 rfl (lv_at hl 1 rfl) ?_
      refine xr_get hf hK hw 0 0 rfl rfl in_X11 4 (by decide) q1399 (fun _ h => h) rfl dX11_day_40 ?_
      refine lv_iload_n hx hb dX11_day_43 rfl (lv_at hl 0 rfl) ?_
      refine lv_iconst (v := 0) hx hb dX11_day_44 (by decide) ?_
      refine xr_iast (LL' := [[ob h0 10 [.int (v 0), .int (v 1), .int (v 2), .ref h1, .ref h2, .int 2, .int (v 10 + 1)], (h1, aI dT [v 3, v 4, v 5]), (h2, aI dT [0, 0, v 8])]]) hf hK hw 0 2 rfl 1 (by decide) (by decide) (Nat.le_of_ble_eq_true rfl) rfl dX11_day_45 (fun H locs hw => ?_)
      refine lv_iinc (v := 2) (lv' := [(1, .int 2), (0, .ref h0)]) hx hb dX11_day_46 hl (k := 0) rfl (by decide) (by decide) rfl (fun ls hl => ?_)
      refine lv_goto (tgt := 34) hx hb dX11_day_49 (by decide) ?_
      refine lv_iload_n hx hb dX11_day_34 rfl (lv_at hl 0 rfl) ?_
      refine lv_iconst (v := 3) hx hb dX11_day_35 (by decide) ?_
      refine lv_icmp_ge (tgt := 52) hx hb dX11_day_36 (by decide) (fun c9 => absurd c9 (by decide)) (fun _ => ?_)
      refine lv_aload_n hx hb dX11_day_39 rfl (lv_at hl 1 rfl) ?_
      refine xr_get hf hK hw 0 0 rfl rfl in_X11 4 (by decide) q1399 (fun _ h => h) rfl dX11_day_40 ?_
      refine lv_iload_n hx hb dX11_day_43 rfl (lv_at hl 0 rfl) ?_
      refine lv_iconst (v := 0) hx hb dX11_day_44 (by decide) ?_
      refine xr_iast (LL' := [[ob h0 10 [.int (v 0), .int (v 1), .int (v 2), .ref h1, .ref h2, .int 2, .int (v 10 + 1)], (h1, aI dT [v 3, v 4, v 5]), (h2, aI dT [0, 0, 0])]]) hf hK hw 0 2 rfl 2 (by decide) (by decide) (Nat.le_of_ble_eq_true rfl) rfl dX11_day_45 (fun H locs hw => ?_)
      refine lv_iinc (v := 3) (lv' := [(1, .int 3), (0, .ref h0)]) hx hb dX11_day_46 hl (k := 0) rfl (by decide) (by decide) rfl (fun ls hl => ?_)
      refine lv_goto (tgt := 34) hx hb dX11_day_49 (by decide) ?_
      refine lv_iload_n hx hb dX11_day_34 rfl (lv_at hl 0 rfl) ?_
      refine lv_iconst (v := 3) hx hb dX11_day_35 (by decide) ?_
      refine lv_icmp_ge (tgt := 52) hx hb dX11_day_36 (by decide) (fun _ => ?_) (fun c9 => absurd c9 (by decide))
      have e9 : f_X11_day v = (vec [v 0, v 1, v 2, v 3, v 4, v 5, 0, 0, 0, 2, (v 10 + 1)]) := by
        unfold f_X11_day
        rw [if_pos c_4]
        rw [if_pos c_23]
        try rfl
      have p1 := congrArg (fun z : (Nat → Int32) => [moS dT h0 h1 h2 z]) e9.symm
      exact xr_vret hf hr hlocks hw (Nat.le_of_ble_eq_true rfl) (Nat.le_of_ble_eq_true rfl) ⟨rfl, p1⟩ dX11_day_52
    · have e9 : f_X11_day v = (vec [v 0, v 1, v 2, v 3, v 4, v 5, v 6, v 7, v 8, v 9, (v 10 + 1)]) := by
        unfold f_X11_day
        rw [if_pos c_4]
        rw [if_neg c_23]
        try rfl
      have p1 := congrArg (fun z : (Nat → Int32) => [moS dT h0 h1 h2 z]) e9.symm
      exact xr_vret hf hr hlocks hw (Nat.le_of_ble_eq_true rfl) (Nat.le_of_ble_eq_true rfl) ⟨rfl, p1⟩ dX11_day_26
  · have e9 : f_X11_day v = v := by
      unfold f_X11_day
      rw [if_neg c_4]
      try rfl
    have p1 := congrArg (fun z : (Nat → Int32) => [moS dT h0 h1 h2 z]) e9.symm
    exact xr_vret hf hr hlocks hw (Nat.le_of_ble_eq_true rfl) (Nat.le_of_ble_eq_true rfl) ⟨rfl, p1⟩ dX11_day_7

def f_X13_init  (x : Int32) : (Nat → Int32) :=
  (vec [x, 0])
set_option maxHeartbeats 4000000 in
theorem k_X13_init (l : Launch) (D : va_G) (dT g : Nat → Nat) (z0 : Nat) (h0 : Nat) (a1 : Nat)  (x : Int32) : Con l D dT g z0 yX13_init (ws_ yX13_init cX13_init 3 none) ({ frames := 1, cells := 0, slots := 0, locals := 40 }) [.ref h0, .int x, .ref a1] [[ob h0 12 [.int 0, .null, .int 0]]] (fun r LL => r = none ∧ LL = [fiS h0 a1 (f_X13_init x)]) noX 0 0 := by
  refine Con.of (maxL := 3) (ret := none) (by first | exact plainFor_of_name (by decide) | decide +kernel) (Nat.le_of_ble_eq_true rfl) ?_
  intro p e s m args below meth c A ls hf hr hlocks hnm hno hK hA hAz hw hl hst
  have hf : CallFix p m c cX13_init 3 s args lw_all "SilkRow$Filament" := hf
  have hnm : meth.name = "<init>" := hnm
  have hx := hf.1
  have hb := hf.2.1
  have hts := hf.2.2.2.2
  have hl : lv_has ls 3 [(0, .ref h0), (1, .int x), (2, .ref a1)] := hl
  have hw : Wd D A s.heap s.heap [] [[ob h0 12 [.int 0, .null, .int 0]]] := hw
  refine lv_aload_n hx hb dX13_init_0 rfl (lv_at hl 0 rfl) ?_
  refine W.objInit hx hb hf.2.2.2.1 (hts _ q449) (hts _ q83) (hts _ q84) rfl (by rw [hf.2.2.1]; exact hl.1) rfl dX13_init_1 (Nat.le_of_ble_eq_true rfl) (Nat.le_of_ble_eq_true rfl) ?_
  refine W.eq (g2 := F0 m 4 ls []) rfl ?_
  refine lv_aload_n hx hb dX13_init_4 rfl (lv_at hl 0 rfl) ?_
  refine lv_iload_n hx hb dX13_init_5 rfl (lv_at hl 1 rfl) ?_
  refine xr_putF (LL' := [[ob h0 12 [.int x, .null, .int 0]]]) hf hK hw 0 0 rfl rfl in_X13 tyX13_ok nmX13 0 (by decide) q450 (fun _ h => h) rfl hnm rfl rfl rfl (Nat.le_of_ble_eq_true rfl) rfl dX13_init_6 (fun H locs hw => ?_)
  refine lv_aload_n hx hb dX13_init_9 rfl (lv_at hl 0 rfl) ?_
  refine lv_aload_n hx hb dX13_init_10 rfl (lv_at hl 2 rfl) ?_
  refine xr_putF (LL' := [[ob h0 12 [.int x, .ref a1, .int 0]]]) hf hK hw 0 0 rfl rfl in_X13 tyX13_ok nmX13 1 (by decide) q452 (fun _ h => h) rfl hnm rfl rfl rfl (Nat.le_of_ble_eq_true rfl) rfl dX13_init_11 (fun H locs hw => ?_)
  have hw := Wd.take (L2 := [[ob h0 12 [.int x, .ref a1, .int 0]]]) hw [0] rfl rfl
  have e9 : f_X13_init x = (vec [x, 0]) := by
    unfold f_X13_init
    try rfl
  have hw : Wd D A s.heap _ _ [[ob h0 12 [.int x, .ref a1, .int 0]]] := hw.eq rfl
  have p1 := congrArg (fun z : (Nat → Int32) => [fiS h0 a1 z]) e9.symm
  exact xr_vret hf hr hlocks hw (Nat.le_of_ble_eq_true rfl) (Nat.le_of_ble_eq_true rfl) ⟨rfl, p1⟩ dX13_init_14

