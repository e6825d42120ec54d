/-! LEAVES: 20.trays (printed by gen/leaves.py) -/
set_option maxRecDepth 100000
def f_X1_up  (x : Int32) (y : Int32) : Int32 :=
  (((x + y) - 1) / y)
set_option maxHeartbeats 4000000 in
theorem k_X1_up (l : Launch) (D : va_G) (dT g : Nat → Nat) (z0 : Nat)   (x : Int32) (y : Int32) (hy : ¬ y = 0) : Con l D dT g z0 yX1_up (ws_ yX1_up cX1_up 2 (some .int)) ({ frames := 1, cells := 0, slots := 0, locals := 40 }) [.int x, .int y] [] (fun r LL => r = some (.int (f_X1_up x y)) ∧ LL = []) noX 0 0 := by
  refine Con.of (maxL := 2) (ret := (some .int)) (by first | exact plainFor_of_name (by decide) | decide +kernel) (Nat.le_of_ble_eq_true rfl) ?_
  intro p e s m args below meth c A ls hf hr hlocks hnm hno hK hA hAz hw hl hst
  have hf : CallFix p m c cX1_up 2 s args lw_all "SilkRow" := hf
  have hnm : meth.name = "up" := hnm
  have hx := hf.1
  have hb := hf.2.1
  have hts := hf.2.2.2.2
  have hl : lv_has ls 2 [(0, .int x), (1, .int y)] := hl
  have hw : Wd D A s.heap s.heap [] [] := hw
  refine lv_iload_n hx hb dX1_up_0 rfl (lv_at hl 0 rfl) ?_
  refine lv_iload_n hx hb dX1_up_1 rfl (lv_at hl 1 rfl) ?_
  refine lv_iadd hx hb dX1_up_2 ?_
  refine lv_iconst (v := 1) hx hb dX1_up_3 (by decide) ?_
  refine lv_isub hx hb dX1_up_4 ?_
  refine lv_iload_n hx hb dX1_up_5 rfl (lv_at hl 1 rfl) ?_
  refine lv_idiv hx hb dX1_up_6 hy ?_
  have e9 : f_X1_up x y = (((x + y) - 1) / y) := by
    unfold f_X1_up
    try rfl
  have p0 := congrArg (fun z : Int32 => some (Value.int z)) e9.symm
  exact xr_iret hf hr hlocks hw (Nat.le_of_ble_eq_true rfl) (Nat.le_of_ble_eq_true rfl) ⟨p0, rfl⟩ dX1_up_7

def f_X1_one  (x : Int32) : Int32 :=
  if bz x = 0 then
    0
  else
    1
set_option maxHeartbeats 4000000 in
theorem k_X1_one (l : Launch) (D : va_G) (dT g : Nat → Nat) (z0 : Nat)   (x : Int32) : Con l D dT g z0 yX1_one (ws_ yX1_one cX1_one 1 (some .int)) ({ frames := 1, cells := 0, slots := 0, locals := 40 }) [.int (bz x)] [] (fun r LL => r = some (.int (f_X1_one x)) ∧ LL = []) noX 0 0 := by
  refine Con.of (maxL := 1) (ret := (some .int)) (by first | exact plainFor_of_name (by decide) | decide +kernel) (Nat.le_of_ble_eq_true rfl) ?_
  intro p e s m args below meth c A ls hf hr hlocks hnm hno hK hA hAz hw hl hst
  have hf : CallFix p m c cX1_one 1 s args lw_all "SilkRow" := hf
  have hnm : meth.name = "one" := hnm
  have hx := hf.1
  have hb := hf.2.1
  have hts := hf.2.2.2.2
  have hl : lv_has ls 1 [(0, .int (bz x))] := hl
  have hw : Wd D A s.heap s.heap [] [] := hw
  refine lv_iload_n hx hb dX1_one_0 rfl (lv_at hl 0 rfl) ?_
  refine lv_if_eq (tgt := 8) hx hb dX1_one_1 (by decide) (fun c_1 => ?_) (fun c_1 => ?_)
  · refine lv_iconst (v := 0) hx hb dX1_one_8 (by decide) ?_
    have e9 : f_X1_one x = 0 := by
      unfold f_X1_one
      rw [if_pos c_1]
      try rfl
    have p0 := congrArg (fun z : Int32 => some (Value.int z)) e9.symm
    exact xr_iret hf hr hlocks hw (Nat.le_of_ble_eq_true rfl) (Nat.le_of_ble_eq_true rfl) ⟨p0, rfl⟩ dX1_one_9
  · refine lv_iconst (v := 1) hx hb dX1_one_4 (by decide) ?_
    refine lv_goto (tgt := 9) hx hb dX1_one_5 (by decide) ?_
    have e9 : f_X1_one x = 1 := by
      unfold f_X1_one
      rw [if_neg c_1]
      try rfl
    have p0 := congrArg (fun z : Int32 => some (Value.int z)) e9.symm
    exact xr_iret hf hr hlocks hw (Nat.le_of_ble_eq_true rfl) (Nat.le_of_ble_eq_true rfl) ⟨p0, rfl⟩ dX1_one_9

def f_X3_init (v : Nat → Int32)  : (Nat → Int32) :=
  (vec [v 0, v 1, (-1), v 3, v 4, v 5, v 6, v 7, v 8, v 9, v 10])
set_option maxHeartbeats 4000000 in
theorem k_X3_init (l : Launch) (D : va_G) (dT g : Nat → Nat) (z0 : Nat) (h0 : Nat) (v : Nat → Int32)  : Con l D dT g z0 yX3_init (ws_ yX3_init cX3_init 1 none) ({ frames := 1, cells := 0, slots := 0, locals := 40 }) [.ref h0] [trS h0 v] (fun r LL => r = none ∧ LL = [trS h0 (f_X3_init v)]) noX 0 0 := by
  refine Con.of (maxL := 1) (ret := none) (by first | exact plainFor_of_name (by decide) | decide +kernel) (Nat.le_of_ble_eq_true rfl) ?_
  intro p e s m args below meth c A ls hf hr hlocks hnm hno hK hA hAz hw hl hst
  have hf : CallFix p m c cX3_init 1 s args lw_all "SilkRow$Tray" := hf
  have hnm : meth.name = "<init>" := hnm
  have hx := hf.1
  have hb := hf.2.1
  have hts := hf.2.2.2.2
  have hl : lv_has ls 1 [(0, .ref h0)] := hl
  have hw : Wd D A s.heap s.heap [] [[ob h0 2 [.int (v 0), .int (v 1), .int (v 2), .int (v 3), .int (v 4), .int (v 5), .int (v 6), .int (v 7), .int (v 8), .int (v 9), .int (bz (v 10))]]] := hw
  refine lv_aload_n hx hb dX3_init_0 rfl (lv_at hl 0 rfl) ?_
  refine W.objInit hx hb hf.2.2.2.1 (hts _ q205) (hts _ q83) (hts _ q84) rfl (by rw [hf.2.2.1]; exact hl.1) rfl dX3_init_1 (Nat.le_of_ble_eq_true rfl) (Nat.le_of_ble_eq_true rfl) ?_
  refine W.eq (g2 := F0 m 4 ls []) rfl ?_
  refine lv_aload_n hx hb dX3_init_4 rfl (lv_at hl 0 rfl) ?_
  refine lv_iconst (v := (-1)) hx hb dX3_init_5 (by decide) ?_
  refine xr_put (LL' := [[ob h0 2 [.int (v 0), .int (v 1), .int (-1), .int (v 3), .int (v 4), .int (v 5), .int (v 6), .int (v 7), .int (v 8), .int (v 9), .int (bz (v 10))]]]) hf hK hw 0 0 rfl rfl in_X3 tyX3_ok nmX3 2 (by decide) q210 (fun _ h => h) rfl rfl rfl (Nat.le_of_ble_eq_true rfl) rfl dX3_init_6 (fun H locs hw => ?_)
  have e9 : f_X3_init v = (vec [v 0, v 1, (-1), v 3, v 4, v 5, v 6, v 7, v 8, v 9, v 10]) := by
    unfold f_X3_init
    try rfl
  have p1 := congrArg (fun z : (Nat → Int32) => [trS h0 z]) e9.symm
  exact xr_vret hf hr hlocks hw (Nat.le_of_ble_eq_true rfl) (Nat.le_of_ble_eq_true rfl) ⟨rfl, p1⟩ dX3_init_9

def f_X3_need (v : Nat → Int32)  : Int32 × (Nat → Int32) :=
  (fun r1 : Int32 =>
    (r1, v)) (f_X1_up (v 0 * v 3) 4)
set_option maxHeartbeats 4000000 in
theorem k_X3_need (l : Launch) (D : va_G) (dT g : Nat → Nat) (z0 : Nat) (h0 : Nat) (v : Nat → Int32)  : Con l D dT g z0 yX3_need (ws_ yX3_need cX3_need 1 (some .int)) ({ frames := 2, cells := 0, slots := 0, locals := 61 }) [.ref h0] [trS h0 v] (fun r LL => r = some (.int (f_X3_need v).1) ∧ LL = [trS h0 (f_X3_need v).2]) noX 0 0 := by
  refine Con.of (maxL := 1) (ret := (some .int)) (by first | exact plainFor_of_name (by decide) | decide +kernel) (Nat.le_of_ble_eq_true rfl) ?_
  intro p e s m args below meth c A ls hf hr hlocks hnm hno hK hA hAz hw hl hst
  have hf : CallFix p m c cX3_need 1 s args lw_all "SilkRow$Tray" := hf
  have hnm : meth.name = "need" := hnm
  have hx := hf.1
  have hb := hf.2.1
  have hts := hf.2.2.2.2
  have hl : lv_has ls 1 [(0, .ref h0)] := hl
  have hw : Wd D A s.heap s.heap [] [[ob h0 2 [.int (v 0), .int (v 1), .int (v 2), .int (v 3), .int (v 4), .int (v 5), .int (v 6), .int (v 7), .int (v 8), .int (v 9), .int (bz (v 10))]]] := hw
  refine lv_aload_n hx hb dX3_need_0 rfl (lv_at hl 0 rfl) ?_
  refine xr_get hf hK hw 0 0 rfl rfl in_X3 0 (by decide) q206 (fun _ h => h) rfl dX3_need_1 ?_
  refine lv_aload_n hx hb dX3_need_4 rfl (lv_at hl 0 rfl) ?_
  refine xr_get hf hK hw 0 0 rfl rfl in_X3 3 (by decide) q212 (fun _ h => h) rfl dX3_need_5 ?_
  refine lv_imul hx hb dX3_need_8 ?_
  refine lv_iconst (v := 4) hx hb dX3_need_9 (by decide) ?_
  refine xc_SN (rest := []) (As := [.int (v 0 * v 3), .int 4]) hf hK hA hAz hst (hw.pick [] rfl rfl rfl) (k_X1_up l D dT g z0 (v 0 * v 3) 4 (by decide)) ⟨va_cnB 2 hts (lw_meth q382) rfl rfl rfl (hK.nw q380 rfl) (hts _ q44) (by decide +kernel) ⟨Nat.le_of_ble_eq_true rfl, Nat.le_of_ble_eq_true rfl⟩, hts _ q381⟩ rfl hl.1 rfl (Nat.le_of_ble_eq_true rfl) dX3_need_10 ⟨(Nat.le_of_ble_eq_true rfl), (Nat.le_of_ble_eq_true rfl)⟩ (fun _ _ _ _ _ _ h => h.elim) (fun v9 LL1 H locs hp hw => ?_)
  obtain ⟨r1, hr1⟩ : ∃ z, z = f_X1_up (v 0 * v 3) 4 := ⟨_, rfl⟩
  rw [← hr1] at hp
  obtain ⟨rfl, rfl⟩ := hp
  have hw : Wd D A s.heap _ _ [[ob h0 2 [.int (v 0), .int (v 1), .int (v 2), .int (v 3), .int (v 4), .int (v 5), .int (v 6), .int (v 7), .int (v 8), .int (v 9), .int (bz (v 10))]]] := hw
  refine W.eq (g2 := F0 m 13 ls [.int r1]) rfl ?_
  have e9 : f_X3_need v = (r1, v) := by
    unfold f_X3_need
    rw [← hr1]; try dsimp only
    try rfl
  have p0 := congrArg (fun z : Int32 × (Nat → Int32) => some (Value.int z.1)) e9.symm
  have p1 := congrArg (fun z : Int32 × (Nat → Int32) => [trS h0 z.2]) e9.symm
  exact xr_iret hf hr hlocks hw (Nat.le_of_ble_eq_true rfl) (Nat.le_of_ble_eq_true rfl) ⟨p0, p1⟩ dX3_need_13
theorem fs_X3_need (v : Nat → Int32) : (f_X3_need v).2 = v := by
  unfold f_X3_need
  repeat (first | rfl | split)

def f_X3_take (v : Nat → Int32) (w : Nat → Int32)  : (Nat → Int32) × (Nat → Int32) :=
  (w, w)
set_option maxHeartbeats 4000000 in
theorem k_X3_take (l : Launch) (D : va_G) (dT g : Nat → Nat) (z0 : Nat) (h0 : Nat) (h1 : Nat) (v : Nat → Int32) (w : Nat → Int32)  : Con l D dT g z0 yX3_take (ws_ yX3_take cX3_take 2 none) ({ frames := 1, cells := 0, slots := 0, locals := 40 }) [.ref h0, .ref h1] [trS h0 v, trS h1 w] (fun r LL => r = none ∧ LL = [trS h0 (f_X3_take v w).1, trS h1 (f_X3_take v w).2]) noX 0 0 := by
  refine Con.of (maxL := 2) (ret := none) (by first | exact plainFor_of_name (by decide) | decide +kernel) (Nat.le_of_ble_eq_true rfl) ?_
  intro p e s m args below meth c A ls hf hr hlocks hnm hno hK hA hAz hw hl hst
  have hf : CallFix p m c cX3_take 2 s args lw_all "SilkRow$Tray" := hf
  have hnm : meth.name = "take" := hnm
  have hx := hf.1
  have hb := hf.2.1
  have hts := hf.2.2.2.2
  have hl : lv_has ls 2 [(0, .ref h0), (1, .ref h1)] := hl
  have hw : Wd D A s.heap s.heap [] [[ob h0 2 [.int (v 0), .int (v 1), .int (v 2), .int (v 3), .int (v 4), .int (v 5), .int (v 6), .int (v 7), .int (v 8), .int (v 9), .int (bz (v 10))]], [ob h1 2 [.int (w 0), .int (w 1), .int (w 2), .int (w 3), .int (w 4), .int (w 5), .int (w 6), .int (w 7), .int (w 8), .int (w 9), .int (bz (w 10))]]] := hw
  refine lv_aload_n hx hb dX3_take_0 rfl (lv_at hl 0 rfl) ?_
  refine lv_aload_n hx hb dX3_take_1 rfl (lv_at hl 1 rfl) ?_
  refine xr_get hf hK hw 1 0 rfl rfl in_X3 0 (by decide) q206 (fun _ h => h) rfl dX3_take_2 ?_
  refine xr_put (LL' := [[ob h0 2 [.int (w 0), .int (v 1), .int (v 2), .int (v 3), .int (v 4), .int (v 5), .int (v 6), .int (v 7), .int (v 8), .int (v 9), .int (bz (v 10))]], [ob h1 2 [.int (w 0), .int (w 1), .int (w 2), .int (w 3), .int (w 4), .int (w 5), .int (w 6), .int (w 7), .int (w 8), .int (w 9), .int (bz (w 10))]]]) hf hK hw 0 0 rfl rfl in_X3 tyX3_ok nmX3 0 (by decide) q206 (fun _ h => h) rfl rfl rfl (Nat.le_of_ble_eq_true rfl) rfl dX3_take_5 (fun H locs hw => ?_)
  refine lv_aload_n hx hb dX3_take_8 rfl (lv_at hl 0 rfl) ?_
  refine lv_aload_n hx hb dX3_take_9 rfl (lv_at hl 1 rfl) ?_
  refine xr_get hf hK hw 1 0 rfl rfl in_X3 1 (by decide) q208 (fun _ h => h) rfl dX3_take_10 ?_
  refine xr_put (LL' := [[ob h0 2 [.int (w 0), .int (w 1), .int (v 2), .int (v 3), .int (v 4), .int (v 5), .int (v 6), .int (v 7), .int (v 8), .int (v 9), .int (bz (v 10))]], [ob h1 2 [.int (w 0), .int (w 1), .int (w 2), .int (w 3), .int (w 4), .int (w 5), .int (w 6), .int (w 7), .int (w 8), .int (w 9), .int (bz (w 10))]]]) hf hK hw 0 0 rfl rfl in_X3 tyX3_ok nmX3 1 (by decide) q208 (fun _ h => h) rfl rfl rfl (Nat.le_of_ble_eq_true rfl) rfl dX3_take_13 (fun H locs hw => ?_)
  refine lv_aload_n hx hb dX3_take_16 rfl (lv_at hl 0 rfl) ?_
  refine lv_aload_n hx hb dX3_take_17 rfl (lv_at hl 1 rfl) ?_
  refine xr_get hf hK hw 1 0 rfl rfl in_X3 2 (by decide) q210 (fun _ h => h) rfl dX3_take_18 ?_
  refine xr_put (LL' := [[ob h0 2 [.int (w 0), .int (w 1), .int (w 2), .int (v 3), .int (v 4), .int (v 5), .int (v 6), .int (v 7), .int (v 8), .int (v 9), .int (bz (v 10))]], [ob h1 2 [.int (w 0), .int (w 1), .int (w 2), .int (w 3), .int (w 4), .int (w 5), .int (w 6), .int (w 7), .int (w 8), .int (w 9), .int (bz (w 10))]]]) hf hK hw 0 0 rfl rfl in_X3 tyX3_ok nmX3 2 (by decide) q210 (fun _ h => h) rfl rfl rfl (Nat.le_of_ble_eq_true rfl) rfl dX3_take_21 (fun H locs hw => ?_)
  refine lv_aload_n hx hb dX3_take_24 rfl (lv_at hl 0 rfl) ?_
  refine lv_aload_n hx hb dX3_take_25 rfl (lv_at hl 1 rfl) ?_
  refine xr_get hf hK hw 1 0 rfl rfl in_X3 3 (by decide) q212 (fun _ h => h) rfl dX3_take_26 ?_
  refine xr_put (LL' := [[ob h0 2 [.int (w 0), .int (w 1), .int (w 2), .int (w 3), .int (v 4), .int (v 5), .int (v 6), .int (v 7), .int (v 8), .int (v 9), .int (bz (v 10))]], [ob h1 2 [.int (w 0), .int (w 1), .int (w 2), .int (w 3), .int (w 4), .int (w 5), .int (w 6), .int (w 7), .int (w 8), .int (w 9), .int (bz (w 10))]]]) hf hK hw 0 0 rfl rfl in_X3 tyX3_ok nmX3 3 (by decide) q212 (fun _ h => h) rfl rfl rfl (Nat.le_of_ble_eq_true rfl) rfl dX3_take_29 (fun H locs hw => ?_)
  refine lv_aload_n hx hb dX3_take_32 rfl (lv_at hl 0 rfl) ?_
  refine lv_aload_n hx hb dX3_take_33 rfl (lv_at hl 1 rfl) ?_
  refine xr_get hf hK hw 1 0 rfl rfl in_X3 4 (by decide) q214 (fun _ h => h) rfl dX3_take_34 ?_
  refine xr_put (LL' := [[ob h0 2 [.int (w 0), .int (w 1), .int (w 2), .int (w 3), .int (w 4), .int (v 5), .int (v 6), .int (v 7), .int (v 8), .int (v 9), .int (bz (v 10))]], [ob h1 2 [.int (w 0), .int (w 1), .int (w 2), .int (w 3), .int (w 4), .int (w 5), .int (w 6), .int (w 7), .int (w 8), .int (w 9), .int (bz (w 10))]]]) hf hK hw 0 0 rfl rfl in_X3 tyX3_ok nmX3 4 (by decide) q214 (fun _ h => h) rfl rfl rfl (Nat.le_of_ble_eq_true rfl) rfl dX3_take_37 (fun H locs hw => ?_)
  refine lv_aload_n hx hb dX3_take_40 rfl (lv_at hl 0 rfl) ?_
  refine lv_aload_n hx hb dX3_take_41 rfl (lv_at hl 1 rfl) ?_
  refine xr_get hf hK hw 1 0 rfl rfl in_X3 5 (by decide) q216 (fun _ h => h) rfl dX3_take_42 ?_
  refine xr_put (LL' := [[ob h0 2 [.int (w 0), .int (w 1), .int (w 2), .int (w 3), .int (w 4), .int (w 5), .int (v 6), .int (v 7), .int (v 8), .int (v 9), .int (bz (v 10))]], [ob h1 2 [.int (w 0), .int (w 1), .int (w 2), .int (w 3), .int (w 4), .int (w 5), .int (w 6), .int (w 7), .int (w 8), .int (w 9), .int (bz (w 10))]]]) hf hK hw 0 0 rfl rfl in_X3 tyX3_ok nmX3 5 (by decide) q216 (fun _ h => h) rfl rfl rfl (Nat.le_of_ble_eq_true rfl) rfl dX3_take_45 (fun H locs hw => ?_)
  refine lv_aload_n hx hb dX3_take_48 rfl (lv_at hl 0 rfl) ?_
  refine lv_aload_n hx hb dX3_take_49 rfl (lv_at hl 1 rfl) ?_
  refine xr_get hf hK hw 1 0 rfl rfl in_X3 6 (by decide) q218 (fun _ h => h) rfl dX3_take_50 ?_
  refine xr_put (LL' := [[ob h0 2 [.int (w 0), .int (w 1), .int (w 2), .int (w 3), .int (w 4), .int (w 5), .int (w 6), .int (v 7), .int (v 8), .int (v 9), .int (bz (v 10))]], [ob h1 2 [.int (w 0), .int (w 1), .int (w 2), .int (w 3), .int (w 4), .int (w 5), .int (w 6), .int (w 7), .int (w 8), .int (w 9), .int (bz (w 10))]]]) hf hK hw 0 0 rfl rfl in_X3 tyX3_ok nmX3 6 (by decide) q218 (fun _ h => h) rfl rfl rfl (Nat.le_of_ble_eq_true rfl) rfl dX3_take_53 (fun H locs hw => ?_)
  refine lv_aload_n hx hb dX3_take_56 rfl (lv_at hl 0 rfl) ?_
  refine lv_aload_n hx hb dX3_take_57 rfl (lv_at hl 1 rfl) ?_
  refine xr_get hf hK hw 1 0 rfl rfl in_X3 7 (by decide) q220 (fun _ h => h) rfl dX3_take_58 ?_
  refine xr_put (LL' := [[ob h0 2 [.int (w 0), .int (w 1), .int (w 2), .int (w 3), .int (w 4), .int (w 5), .int (w 6), .int (w 7), .int (v 8), .int (v 9), .int (bz (v 10))]], [ob h1 2 [.int (w 0), .int (w 1), .int (w 2), .int (w 3), .int (w 4), .int (w 5), .int (w 6), .int (w 7), .int (w 8), .int (w 9), .int (bz (w 10))]]]) hf hK hw 0 0 rfl rfl in_X3 tyX3_ok nmX3 7 (by decide) q220 (fun _ h => h) rfl rfl rfl (Nat.le_of_ble_eq_true rfl) rfl dX3_take_61 (fun H locs hw => ?_)
  refine lv_aload_n hx hb dX3_take_64 rfl (lv_at hl 0 rfl) ?_
  refine lv_aload_n hx hb dX3_take_65 rfl (lv_at hl 1 rfl) ?_
  refine xr_get hf hK hw 1 0 rfl rfl in_X3 8 (by decide) q222 (fun _ h => h) rfl dX3_take_66 ?_
  refine xr_put (LL' := [[ob h0 2 [.int (w 0), .int (w 1), .int (w 2), .int (w 3), .int (w 4), .int (w 5), .int (w 6), .int (w 7), .int (w 8), .int (v 9), .int (bz (v 10))]], [ob h1 2 [.int (w 0), .int (w 1), .int (w 2), .int (w 3), .int (w 4), .int (w 5), .int (w 6), .int (w 7), .int (w 8), .int (w 9), .int (bz (w 10))]]]) hf hK hw 0 0 rfl rfl in_X3 tyX3_ok nmX3 8 (by decide) q222 (fun _ h => h) rfl rfl rfl (Nat.le_of_ble_eq_true rfl) rfl dX3_take_69 (fun H locs hw => ?_)
  refine lv_aload_n hx hb dX3_take_72 rfl (lv_at hl 0 rfl) ?_
  refine lv_aload_n hx hb dX3_take_73 rfl (lv_at hl 1 rfl) ?_
  refine xr_get hf hK hw 1 0 rfl rfl in_X3 9 (by decide) q224 (fun _ h => h) rfl dX3_take_74 ?_
  refine xr_put (LL' := [[ob h0 2 [.int (w 0), .int (w 1), .int (w 2), .int (w 3), .int (w 4), .int (w 5), .int (w 6), .int (w 7), .int (w 8), .int (w 9), .int (bz (v 10))]], [ob h1 2 [.int (w 0), .int (w 1), .int (w 2), .int (w 3), .int (w 4), .int (w 5), .int (w 6), .int (w 7), .int (w 8), .int (w 9), .int (bz (w 10))]]]) hf hK hw 0 0 rfl rfl in_X3 tyX3_ok nmX3 9 (by decide) q224 (fun _ h => h) rfl rfl rfl (Nat.le_of_ble_eq_true rfl) rfl dX3_take_77 (fun H locs hw => ?_)
  refine lv_aload_n hx hb dX3_take_80 rfl (lv_at hl 0 rfl) ?_
  refine lv_aload_n hx hb dX3_take_81 rfl (lv_at hl 1 rfl) ?_
  refine xr_get hf hK hw 1 0 rfl rfl in_X3 10 (by decide) q226 (fun _ h => h) rfl dX3_take_82 ?_
  refine xr_put (LL' := [[ob h0 2 [.int (w 0), .int (w 1), .int (w 2), .int (w 3), .int (w 4), .int (w 5), .int (w 6), .int (w 7), .int (w 8), .int (w 9), .int (bz (w 10))]], [ob h1 2 [.int (w 0), .int (w 1), .int (w 2), .int (w 3), .int (w 4), .int (w 5), .int (w 6), .int (w 7), .int (w 8), .int (w 9), .int (bz (w 10))]]]) hf hK hw 0 0 rfl rfl in_X3 tyX3_ok nmX3 10 (by decide) q226 (fun _ h => h) rfl (nbz _) (fbz _) (Nat.le_of_ble_eq_true rfl) rfl dX3_take_85 (fun H locs hw => ?_)
  have e9 : f_X3_take v w = (w, w) := by
    unfold f_X3_take
    try rfl
  have p1 := congrArg (fun z : (Nat → Int32) × (Nat → Int32) => [trS h0 z.1, trS h1 z.2]) e9.symm
  exact xr_vret hf hr hlocks hw (Nat.le_of_ble_eq_true rfl) (Nat.le_of_ble_eq_true rfl) ⟨rfl, p1⟩ dX3_take_88

def f_X3_empty (v : Nat → Int32)  : (Nat → Int32) :=
  (fun r2 : (Nat → Int32) =>
    (fun r3 : (Nat → Int32) × (Nat → Int32) =>
      r3.1) (f_X3_take v r2)) (f_X3_init (vec [0, 0, 0, 0, 0, 0, 0, 0, 0, 0, 0]))
set_option maxHeartbeats 4000000 in
theorem k_X3_empty (l : Launch) (D : va_G) (dT g : Nat → Nat) (z0 : Nat) (h0 : Nat) (v : Nat → Int32)  : Con l D dT g z0 yX3_empty (ws_ yX3_empty cX3_empty 1 none) ({ frames := 2, cells := 1, slots := 11, locals := 61 }) [.ref h0] [trS h0 v] (fun r LL => r = none ∧ LL = [trS h0 (f_X3_empty v)]) noX 1 11 := by
  refine Con.of (maxL := 1) (ret := none) (by first | exact plainFor_of_name (by decide) | decide +kernel) (Nat.le_of_ble_eq_true rfl) ?_
  intro p e s m args below meth c A ls hf hr hlocks hnm hno hK hA hAz hw hl hst
  have hf : CallFix p m c cX3_empty 1 s args lw_all "SilkRow$Tray" := hf
  have hnm : meth.name = "empty" := hnm
  have hx := hf.1
  have hb := hf.2.1
  have hts := hf.2.2.2.2
  have hl : lv_has ls 1 [(0, .ref h0)] := hl
  have hw : Wd D A s.heap s.heap [] [[ob h0 2 [.int (v 0), .int (v 1), .int (v 2), .int (v 3), .int (v 4), .int (v 5), .int (v 6), .int (v 7), .int (v 8), .int (v 9), .int (bz (v 10))]]] := hw
  refine lv_aload_n hx hb dX3_empty_0 rfl (lv_at hl 0 rfl) ?_
  refine xr_new (LL' := [[ob h0 2 [.int (v 0), .int (v 1), .int (v 2), .int (v 3), .int (v 4), .int (v 5), .int (v 6), .int (v 7), .int (v 8), .int (v 9), .int (bz (v 10))]]]) (fs := [.int 0, .int 0, .int 0, .int 0, .int 0, .int 0, .int 0, .int 0, .int 0, .int 0, .int 0]) hf hK hw hA 2 rfl in_X3 tyX3_ok q391 q201 q53 rfl (Nat.le_of_ble_eq_true rfl) (Nat.le_of_ble_eq_true rfl) (fun _ => rfl) dX3_empty_1 (fun qa1 H hw => ?_)
  have hw : Wd D A s.heap _ _ [[ob h0 2 [.int (v 0), .int (v 1), .int (v 2), .int (v 3), .int (v 4), .int (v 5), .int (v 6), .int (v 7), .int (v 8), .int (v 9), .int (bz (v 10))]], [ob qa1 2 [.int 0, .int 0, .int 0, .int 0, .int 0, .int 0, .int 0, .int 0, .int 0, .int 0, .int 0]]] := hw
  refine lv_dup hx hb dX3_empty_4 rfl ?_
  refine xc_I (rest := [.ref qa1, .ref h0]) (As := []) hf hK hA hAz hst (hw.pick [1] rfl rfl rfl) (k_X3_init l D dT g z0 qa1 (vec [0, 0, 0, 0, 0, 0, 0, 0, 0, 0, 0])) (cwI 0 hts (lw_meth q204) rfl rfl rfl (hts _ q53) (hts _ q392) (hts _ q203) rfl (by decide +kernel) ⟨Nat.le_of_ble_eq_true rfl, Nat.le_of_ble_eq_true rfl⟩) rfl hl.1 rfl (Nat.le_of_ble_eq_true rfl) dX3_empty_5 ⟨(Nat.le_of_ble_eq_true rfl), (Nat.le_of_ble_eq_true rfl)⟩ (fun _ _ _ _ _ _ h => h.elim) (fun v9 LL1 H locs hp hw => ?_)
  obtain ⟨r2, hr2⟩ : ∃ z, z = f_X3_init (vec [0, 0, 0, 0, 0, 0, 0, 0, 0, 0, 0]) := ⟨_, rfl⟩
  rw [← hr2] at hp
  obtain ⟨rfl, rfl⟩ := hp
  have hw : Wd D A s.heap _ _ [[ob qa1 2 [.int (r2 0), .int (r2 1), .int (r2 2), .int (r2 3), .int (r2 4), .int (r2 5), .int (r2 6), .int (r2 7), .int (r2 8), .int (r2 9), .int (bz (r2 10))]], [ob h0 2 [.int (v 0), .int (v 1), .int (v 2), .int (v 3), .int (v 4), .int (v 5), .int (v 6), .int (v 7), .int (v 8), .int (v 9), .int (bz (v 10))]]] := hw
  refine W.eq (g2 := F0 m 8 ls [.ref qa1, .ref h0]) rfl ?_
  refine xc_V (rest := []) (As := [.ref qa1]) hf hK hA hAz hst (hw.pick [1, 0] rfl rfl rfl) (k_X3_take l D dT g z0 h0 qa1 v r2) (cwV 1 hts (lw_V q426 q427 q428 q53 q429) rfl rfl rfl (by decide +kernel) ⟨Nat.le_of_ble_eq_true rfl, Nat.le_of_ble_eq_true rfl⟩) (xr_rv hK hw 1 0 rfl rfl) rfl hl.1 rfl (Nat.le_of_ble_eq_true rfl) dX3_empty_8 ⟨(Nat.le_of_ble_eq_true rfl), (Nat.le_of_ble_eq_true rfl)⟩ (fun _ _ _ _ _ _ h => h.elim) (fun v9 LL1 H locs hp hw => ?_)
  obtain ⟨r3, hr3⟩ : ∃ z, z = f_X3_take v r2 := ⟨_, rfl⟩
  rw [← hr3] at hp
  obtain ⟨rfl, rfl⟩ := hp
  have hw : Wd D A s.heap _ _ [[ob h0 2 [.int (r3.1 0), .int (r3.1 1), .int (r3.1 2), .int (r3.1 3), .int (r3.1 4), .int (r3.1 5), .int (r3.1 6), .int (r3.1 7), .int (r3.1 8), .int (r3.1 9), .int (bz (r3.1 10))]], [ob qa1 2 [.int (r3.2 0), .int (r3.2 1), .int (r3.2 2), .int (r3.2 3), .int (r3.2 4), .int (r3.2 5), .int (r3.2 6), .int (r3.2 7), .int (r3.2 8), .int (r3.2 9), .int (bz (r3.2 10))]]] := hw
  refine W.eq (g2 := F0 m 11 ls []) rfl ?_
  have hw := Wd.take (L2 := [[ob h0 2 [.int (r3.1 0), .int (r3.1 1), .int (r3.1 2), .int (r3.1 3), .int (r3.1 4), .int (r3.1 5), .int (r3.1 6), .int (r3.1 7), .int (r3.1 8), .int (r3.1 9), .int (bz (r3.1 10))]]]) hw [0] rfl rfl
  have e9 : f_X3_empty v = r3.1 := by
    unfold f_X3_empty
    rw [← hr2]; try dsimp only
    rw [← hr3]; try dsimp only
    try rfl
  have p1 := congrArg (fun z : (Nat → Int32) => [trS h0 z]) e9.symm
  exact xr_vret hf hr hlocks hw (Nat.le_of_ble_eq_true rfl) (Nat.le_of_ble_eq_true rfl) ⟨rfl, p1⟩ dX3_empty_11

def f_X3_lose (v : Nat → Int32) (x : Int32) : Int32 × (Nat → Int32) :=
  if (v 0 - x) = 0 then
    (fun r1 : (Nat → Int32) =>
      (x, r1)) (f_X3_empty (vec [(v 0 - x), (imax 0 (v 1 - x)), v 2, v 3, v 4, v 5, v 6, v 7, v 8, v 9, v 10]))
  else
    (x, (vec [(v 0 - x), (imax 0 (v 1 - x)), v 2, v 3, v 4, v 5, v 6, v 7, v 8, v 9, v 10]))
set_option maxHeartbeats 4000000 in
theorem k_X3_lose (l : Launch) (D : va_G) (dT g : Nat → Nat) (z0 : Nat) (h0 : Nat) (v : Nat → Int32) (x : Int32) : Con l D dT g z0 yX3_lose (ws_ yX3_lose cX3_lose 2 (some .int)) ({ frames := 3, cells := 1, slots := 11, locals := 81 }) [.ref h0, .int x] [trS h0 v] (fun r LL => r = some (.int (f_X3_lose v x).1) ∧ LL = [trS h0 (f_X3_lose v x).2]) noX 1 11 := by
  refine Con.of (maxL := 2) (ret := (some .int)) (by first | exact plainFor_of_name (by decide) | decide +kernel) (Nat.le_of_ble_eq_true rfl) ?_
  intro p e s m args below meth c A ls hf hr hlocks hnm hno hK hA hAz hw hl hst
  have hf : CallFix p m c cX3_lose 2 s args lw_all "SilkRow$Tray" := hf
  have hnm : meth.name = "lose" := hnm
  have hx := hf.1
  have hb := hf.2.1
  have hts := hf.2.2.2.2
  have hl : lv_has ls 2 [(0, .ref h0), (1, .int x)] := hl
  have hw : Wd D A s.heap s.heap [] [[ob h0 2 [.int (v 0), .int (v 1), .int (v 2), .int (v 3), .int (v 4), .int (v 5), .int (v 6), .int (v 7), .int (v 8), .int (v 9), .int (bz (v 10))]]] := hw
  refine lv_aload_n hx hb dX3_lose_0 rfl (lv_at hl 0 rfl) ?_
  refine lv_dup hx hb dX3_lose_1 rfl ?_
  refine xr_get hf hK hw 0 0 rfl rfl in_X3 0 (by decide) q206 (fun _ h => h) rfl dX3_lose_2 ?_
  refine lv_iload_n hx hb dX3_lose_5 rfl (lv_at hl 1 rfl) ?_
  refine lv_isub hx hb dX3_lose_6 ?_
  refine xr_put (LL' := [[ob h0 2 [.int (v 0 - x), .int (v 1), .int (v 2), .int (v 3), .int (v 4), .int (v 5), .int (v 6), .int (v 7), .int (v 8), .int (v 9), .int (bz (v 10))]]]) hf hK hw 0 0 rfl rfl in_X3 tyX3_ok nmX3 0 (by decide) q206 (fun _ h => h) rfl rfl rfl (Nat.le_of_ble_eq_true rfl) rfl dX3_lose_7 (fun H locs hw => ?_)
  refine lv_aload_n hx hb dX3_lose_10 rfl (lv_at hl 0 rfl) ?_
  refine lv_iconst (v := 0) hx hb dX3_lose_11 (by decide) ?_
  refine lv_aload_n hx hb dX3_lose_12 rfl (lv_at hl 0 rfl) ?_
  refine xr_get hf hK hw 0 0 rfl rfl in_X3 1 (by decide) q208 (fun _ h => h) rfl dX3_lose_13 ?_
  refine lv_iload_n hx hb dX3_lose_16 rfl (lv_at hl 1 rfl) ?_
  refine lv_isub hx hb dX3_lose_17 ?_
  refine va_mmax hx hb (by rw [hf.2.2.1]; exact hl.1.symm) hf.2.2.2.1 (hts _ q421) (hts _ q152) (hts _ q50) (hts _ q153) (Nat.le_of_ble_eq_true rfl) (Nat.le_of_ble_eq_true rfl) (Nat.le_of_ble_eq_true rfl) (Nat.le_of_ble_eq_true rfl) dX3_lose_18 ?_
  refine lv_as (y := imax 0 (v 1 - x)) rfl ?_
  refine xr_put (LL' := [[ob h0 2 [.int (v 0 - x), .int (imax 0 (v 1 - x)), .int (v 2), .int (v 3), .int (v 4), .int (v 5), .int (v 6), .int (v 7), .int (v 8), .int (v 9), .int (bz (v 10))]]]) hf hK hw 0 0 rfl rfl in_X3 tyX3_ok nmX3 1 (by decide) q208 (fun _ h => h) rfl rfl rfl (Nat.le_of_ble_eq_true rfl) rfl dX3_lose_21 (fun H locs hw => ?_)
  refine lv_aload_n hx hb dX3_lose_24 rfl (lv_at hl 0 rfl) ?_
  refine xr_get hf hK hw 0 0 rfl rfl in_X3 0 (by decide) q206 (fun _ h => h) rfl dX3_lose_25 ?_
  refine lv_if_ne (tgt := 35) hx hb dX3_lose_28 (by decide) (fun c_28 => ?_) (fun c_28 => ?_)
  · refine lv_iload_n hx hb dX3_lose_35 rfl (lv_at hl 1 rfl) ?_
    have e9 : f_X3_lose v x = (x, (vec [(v 0 - x), (imax 0 (v 1 - x)), v 2, v 3, v 4, v 5, v 6, v 7, v 8, v 9, v 10])) := by
      unfold f_X3_lose
      rw [if_neg c_28]
      try rfl
    have p0 := congrArg (fun z : Int32 × (Nat → Int32) => some (Value.int z.1)) e9.symm
    have p1 := congrArg (fun z : Int32 × (Nat → Int32) => [trS h0 z.2]) e9.symm
    exact xr_iret hf hr hlocks hw (Nat.le_of_ble_eq_true rfl) (Nat.le_of_ble_eq_true rfl) ⟨p0, p1⟩ dX3_lose_36
  · refine lv_aload_n hx hb dX3_lose_31 rfl (lv_at hl 0 rfl) ?_
    refine xc_V (rest := []) (As := []) hf hK hA hAz hst (hw.pick [0] rfl rfl rfl) (k_X3_empty l D dT g z0 h0 (vec [(v 0 - x), (imax 0 (v 1 - x)), v 2, v 3, v 4, v 5, v 6, v 7, v 8, v 9, v 10])) (cwV 0 hts (lw_V q422 q423 q424 q53 q425) rfl rfl rfl (by decide +kernel) ⟨Nat.le_of_ble_eq_true rfl, Nat.le_of_ble_eq_true rfl⟩) (xr_rv hK hw 0 0 rfl rfl) rfl hl.1 rfl (Nat.le_of_ble_eq_true rfl) dX3_lose_32 ⟨(Nat.le_of_ble_eq_true rfl), (Nat.le_of_ble_eq_true rfl)⟩ (fun _ _ _ _ _ _ h => h.elim) (fun v9 LL1 H locs hp hw => ?_)
    obtain ⟨r1, hr1⟩ : ∃ z, z = f_X3_empty (vec [(v 0 - x), (imax 0 (v 1 - x)), v 2, v 3, v 4, v 5, v 6, v 7, v 8, v 9, v 10]) := ⟨_, rfl⟩
    rw [← hr1] at hp
    obtain ⟨rfl, rfl⟩ := hp
    have hw : Wd D A s.heap _ _ [[ob h0 2 [.int (r1 0), .int (r1 1), .int (r1 2), .int (r1 3), .int (r1 4), .int (r1 5), .int (r1 6), .int (r1 7), .int (r1 8), .int (r1 9), .int (bz (r1 10))]]] := hw
    refine W.eq (g2 := F0 m 35 ls []) rfl ?_
    refine lv_iload_n hx hb dX3_lose_35 rfl (lv_at hl 1 rfl) ?_
    have e9 : f_X3_lose v x = (x, r1) := by
      unfold f_X3_lose
      rw [if_pos c_28]
      rw [← hr1]; try dsimp only
      try rfl
    have p0 := congrArg (fun z : Int32 × (Nat → Int32) => some (Value.int z.1)) e9.symm
    have p1 := congrArg (fun z : Int32 × (Nat → Int32) => [trS h0 z.2]) e9.symm
    exact xr_iret hf hr hlocks hw (Nat.le_of_ble_eq_true rfl) (Nat.le_of_ble_eq_true rfl) ⟨p0, p1⟩ dX3_lose_36

def f_X3_copy (v : Nat → Int32)  : (Nat → Int32) × (Nat → Int32) :=
  (fun r2 : (Nat → Int32) =>
    (v, v)) (f_X3_init (vec [0, 0, 0, 0, 0, 0, 0, 0, 0, 0, 0]))
set_option maxHeartbeats 4000000 in
theorem k_X3_copy (l : Launch) (D : va_G) (dT g : Nat → Nat) (z0 : Nat) (h0 : Nat) (v : Nat → Int32)  : Con l D dT g z0 yX3_copy (ws_ yX3_copy cX3_copy 2 (some (.object "SilkRow$Tray"))) ({ frames := 2, cells := 1, slots := 11, locals := 60 }) [.ref h0] [trS h0 v] (fun r LL => ∃ a0 : Nat, r = some (.ref a0) ∧ LL = [trS h0 (f_X3_copy v).1, trS a0 (f_X3_copy v).2]) noX 1 11 := by
  refine Con.of (maxL := 2) (ret := (some (.object "SilkRow$Tray"))) (by first | exact plainFor_of_name (by decide) | decide +kernel) (Nat.le_of_ble_eq_true rfl) ?_
  intro p e s m args below meth c A ls hf hr hlocks hnm hno hK hA hAz hw hl hst
  have hf : CallFix p m c cX3_copy 2 s args lw_all "SilkRow$Tray" := hf
  have hnm : meth.name = "copy" := hnm
  have hx := hf.1
  have hb := hf.2.1
  have hts := hf.2.2.2.2
  have hl : lv_has ls 2 [(0, .ref h0)] := hl
  have hw : Wd D A s.heap s.heap [] [[ob h0 2 [.int (v 0), .int (v 1), .int (v 2), .int (v 3), .int (v 4), .int (v 5), .int (v 6), .int (v 7), .int (v 8), .int (v 9), .int (bz (v 10))]]] := hw
  refine xr_new (LL' := [[ob h0 2 [.int (v 0), .int (v 1), .int (v 2), .int (v 3), .int (v 4), .int (v 5), .int (v 6), .int (v 7), .int (v 8), .int (v 9), .int (bz (v 10))]]]) (fs := [.int 0, .int 0, .int 0, .int 0, .int 0, .int 0, .int 0, .int 0, .int 0, .int 0, .int 0]) hf hK hw hA 2 rfl in_X3 tyX3_ok q391 q201 q53 rfl (Nat.le_of_ble_eq_true rfl) (Nat.le_of_ble_eq_true rfl) (fun _ => rfl) dX3_copy_0 (fun qa1 H hw => ?_)
  have hw : Wd D A s.heap _ _ [[ob h0 2 [.int (v 0), .int (v 1), .int (v 2), .int (v 3), .int (v 4), .int (v 5), .int (v 6), .int (v 7), .int (v 8), .int (v 9), .int (bz (v 10))]], [ob qa1 2 [.int 0, .int 0, .int 0, .int 0, .int 0, .int 0, .int 0, .int 0, .int 0, .int 0, .int 0]]] := hw
  refine lv_dup hx hb dX3_copy_3 rfl ?_
  refine xc_I (rest := [.ref qa1]) (As := []) hf hK hA hAz hst (hw.pick [1] rfl rfl rfl) (k_X3_init l D dT g z0 qa1 (vec [0, 0, 0, 0, 0, 0, 0, 0, 0, 0, 0])) (cwI 0 hts (lw_meth q204) rfl rfl rfl (hts _ q53) (hts _ q392) (hts _ q203) rfl (by decide +kernel) ⟨Nat.le_of_ble_eq_true rfl, Nat.le_of_ble_eq_true rfl⟩) rfl hl.1 rfl (Nat.le_of_ble_eq_true rfl) dX3_copy_4 ⟨(Nat.le_of_ble_eq_true rfl), (Nat.le_of_ble_eq_true rfl)⟩ (fun _ _ _ _ _ _ h => h.elim) (fun v9 LL1 H locs hp hw => ?_)
  obtain ⟨r2, hr2⟩ : ∃ z, z = f_X3_init (vec [0, 0, 0, 0, 0, 0, 0, 0, 0, 0, 0]) := ⟨_, rfl⟩
  rw [← hr2] at hp
  obtain ⟨rfl, rfl⟩ := hp
  have hw : Wd D A s.heap _ _ [[ob qa1 2 [.int (r2 0), .int (r2 1), .int (r2 2), .int (r2 3), .int (r2 4), .int (r2 5), .int (r2 6), .int (r2 7), .int (r2 8), .int (r2 9), .int (bz (r2 10))]], [ob h0 2 [.int (v 0), .int (v 1), .int (v 2), .int (v 3), .int (v 4), .int (v 5), .int (v 6), .int (v 7), .int (v 8), .int (v 9), .int (bz (v 10))]]] := hw
  refine W.eq (g2 := F0 m 7 ls [.ref qa1]) rfl ?_
  refine lv_astore_n (lv' := [(1, .ref qa1), (0, .ref h0)]) hx hb dX3_copy_7 rfl hl (by decide) rfl (fun ls hl => ?_)
  refine lv_aload_n hx hb dX3_copy_8 rfl (lv_at hl 0 rfl) ?_
  refine lv_aload_n hx hb dX3_copy_9 rfl (lv_at hl 1 rfl) ?_
  refine xr_get hf hK hw 1 0 rfl rfl in_X3 0 (by decide) q206 (fun _ h => h) rfl dX3_copy_10 ?_
  refine xr_put (LL' := [[ob qa1 2 [.int (v 0), .int (r2 1), .int (r2 2), .int (r2 3), .int (r2 4), .int (r2 5), .int (r2 6), .int (r2 7), .int (r2 8), .int (r2 9), .int (bz (r2 10))]], [ob h0 2 [.int (v 0), .int (v 1), .int (v 2), .int (v 3), .int (v 4), .int (v 5), .int (v 6), .int (v 7), .int (v 8), .int (v 9), .int (bz (v 10))]]]) hf hK hw 0 0 rfl rfl in_X3 tyX3_ok nmX3 0 (by decide) q206 (fun _ h => h) rfl rfl rfl (Nat.le_of_ble_eq_true rfl) rfl dX3_copy_13 (fun H locs hw => ?_)
  refine lv_aload_n hx hb dX3_copy_16 rfl (lv_at hl 0 rfl) ?_
  refine lv_aload_n hx hb dX3_copy_17 rfl (lv_at hl 1 rfl) ?_
  refine xr_get hf hK hw 1 0 rfl rfl in_X3 1 (by decide) q208 (fun _ h => h) rfl dX3_copy_18 ?_
  refine xr_put (LL' := [[ob qa1 2 [.int (v 0), .int (v 1), .int (r2 2), .int (r2 3), .int (r2 4), .int (r2 5), .int (r2 6), .int (r2 7), .int (r2 8), .int (r2 9), .int (bz (r2 10))]], [ob h0 2 [.int (v 0), .int (v 1), .int (v 2), .int (v 3), .int (v 4), .int (v 5), .int (v 6), .int (v 7), .int (v 8), .int (v 9), .int (bz (v 10))]]]) hf hK hw 0 0 rfl rfl in_X3 tyX3_ok nmX3 1 (by decide) q208 (fun _ h => h) rfl rfl rfl (Nat.le_of_ble_eq_true rfl) rfl dX3_copy_21 (fun H locs hw => ?_)
  refine lv_aload_n hx hb dX3_copy_24 rfl (lv_at hl 0 rfl) ?_
  refine lv_aload_n hx hb dX3_copy_25 rfl (lv_at hl 1 rfl) ?_
  refine xr_get hf hK hw 1 0 rfl rfl in_X3 2 (by decide) q210 (fun _ h => h) rfl dX3_copy_26 ?_
  refine xr_put (LL' := [[ob qa1 2 [.int (v 0), .int (v 1), .int (v 2), .int (r2 3), .int (r2 4), .int (r2 5), .int (r2 6), .int (r2 7), .int (r2 8), .int (r2 9), .int (bz (r2 10))]], [ob h0 2 [.int (v 0), .int (v 1), .int (v 2), .int (v 3), .int (v 4), .int (v 5), .int (v 6), .int (v 7), .int (v 8), .int (v 9), .int (bz (v 10))]]]) hf hK hw 0 0 rfl rfl in_X3 tyX3_ok nmX3 2 (by decide) q210 (fun _ h => h) rfl rfl rfl (Nat.le_of_ble_eq_true rfl) rfl dX3_copy_29 (fun H locs hw => ?_)
  refine lv_aload_n hx hb dX3_copy_32 rfl (lv_at hl 0 rfl) ?_
  refine lv_aload_n hx hb dX3_copy_33 rfl (lv_at hl 1 rfl) ?_
  refine xr_get hf hK hw 1 0 rfl rfl in_X3 3 (by decide) q212 (fun _ h => h) rfl dX3_copy_34 ?_
  refine xr_put (LL' := [[ob qa1 2 [.int (v 0), .int (v 1), .int (v 2), .int (v 3), .int (r2 4), .int (r2 5), .int (r2 6), .int (r2 7), .int (r2 8), .int (r2 9), .int (bz (r2 10))]], [ob h0 2 [.int (v 0), .int (v 1), .int (v 2), .int (v 3), .int (v 4), .int (v 5), .int (v 6), .int (v 7), .int (v 8), .int (v 9), .int (bz (v 10))]]]) hf hK hw 0 0 rfl rfl in_X3 tyX3_ok nmX3 3 (by decide) q212 (fun _ h => h) rfl rfl rfl (Nat.le_of_ble_eq_true rfl) rfl dX3_copy_37 (fun H locs hw => ?_)
  refine lv_aload_n hx hb dX3_copy_40 rfl (lv_at hl 0 rfl) ?_
  refine lv_aload_n hx hb dX3_copy_41 rfl (lv_at hl 1 rfl) ?_
  refine xr_get hf hK hw 1 0 rfl rfl in_X3 4 (by decide) q214 (fun _ h => h) rfl dX3_copy_42 ?_
  refine xr_put (LL' := [[ob qa1 2 [.int (v 0), .int (v 1), .int (v 2), .int (v 3), .int (v 4), .int (r2 5), .int (r2 6), .int (r2 7), .int (r2 8), .int (r2 9), .int (bz (r2 10))]], [ob h0 2 [.int (v 0), .int (v 1), .int (v 2), .int (v 3), .int (v 4), .int (v 5), .int (v 6), .int (v 7), .int (v 8), .int (v 9), .int (bz (v 10))]]]) hf hK hw 0 0 rfl rfl in_X3 tyX3_ok nmX3 4 (by decide) q214 (fun _ h => h) rfl rfl rfl (Nat.le_of_ble_eq_true rfl) rfl dX3_copy_45 (fun H locs hw => ?_)
  refine lv_aload_n hx hb dX3_copy_48 rfl (lv_at hl 0 rfl) ?_
  refine lv_aload_n hx hb dX3_copy_49 rfl (lv_at hl 1 rfl) ?_
  refine xr_get hf hK hw 1 0 rfl rfl in_X3 5 (by decide) q216 (fun _ h => h) rfl dX3_copy_50 ?_
  refine xr_put (LL' := [[ob qa1 2 [.int (v 0), .int (v 1), .int (v 2), .int (v 3), .int (v 4), .int (v 5), .int (r2 6), .int (r2 7), .int (r2 8), .int (r2 9), .int (bz (r2 10))]], [ob h0 2 [.int (v 0), .int (v 1), .int (v 2), .int (v 3), .int (v 4), .int (v 5), .int (v 6), .int (v 7), .int (v 8), .int (v 9), .int (bz (v 10))]]]) hf hK hw 0 0 rfl rfl in_X3 tyX3_ok nmX3 5 (by decide) q216 (fun _ h => h) rfl rfl rfl (Nat.le_of_ble_eq_true rfl) rfl dX3_copy_53 (fun H locs hw => ?_)
  refine lv_aload_n hx hb dX3_copy_56 rfl (lv_at hl 0 rfl) ?_
  refine lv_aload_n hx hb dX3_copy_57 rfl (lv_at hl 1 rfl) ?_
  refine xr_get hf hK hw 1 0 rfl rfl in_X3 6 (by decide) q218 (fun _ h => h) rfl dX3_copy_58 ?_
  refine xr_put (LL' := [[ob qa1 2 [.int (v 0), .int (v 1), .int (v 2), .int (v 3), .int (v 4), .int (v 5), .int (v 6), .int (r2 7), .int (r2 8), .int (r2 9), .int (bz (r2 10))]], [ob h0 2 [.int (v 0), .int (v 1), .int (v 2), .int (v 3), .int (v 4), .int (v 5), .int (v 6), .int (v 7), .int (v 8), .int (v 9), .int (bz (v 10))]]]) hf hK hw 0 0 rfl rfl in_X3 tyX3_ok nmX3 6 (by decide) q218 (fun _ h => h) rfl rfl rfl (Nat.le_of_ble_eq_true rfl) rfl dX3_copy_61 (fun H locs hw => ?_)
  refine lv_aload_n hx hb dX3_copy_64 rfl (lv_at hl 0 rfl) ?_
  refine lv_aload_n hx hb dX3_copy_65 rfl (lv_at hl 1 rfl) ?_
  refine xr_get hf hK hw 1 0 rfl rfl in_X3 7 (by decide) q220 (fun _ h => h) rfl dX3_copy_66 ?_
  refine xr_put (LL' := [[ob qa1 2 [.int (v 0), .int (v 1), .int (v 2), .int (v 3), .int (v 4), .int (v 5), .int (v 6), .int (v 7), .int (r2 8), .int (r2 9), .int (bz (r2 10))]], [ob h0 2 [.int (v 0), .int (v 1), .int (v 2), .int (v 3), .int (v 4), .int (v 5), .int (v 6), .int (v 7), .int (v 8), .int (v 9), .int (bz (v 10))]]]) hf hK hw 0 0 rfl rfl in_X3 tyX3_ok nmX3 7 (by decide) q220 (fun _ h => h) rfl rfl rfl (Nat.le_of_ble_eq_true rfl) rfl dX3_copy_69 (fun H locs hw => ?_)
  refine lv_aload_n hx hb dX3_copy_72 rfl (lv_at hl 0 rfl) ?_
  refine lv_aload_n hx hb dX3_copy_73 rfl (lv_at hl 1 rfl) ?_
  refine xr_get hf hK hw 1 0 rfl rfl in_X3 8 (by decide) q222 (fun _ h => h) rfl dX3_copy_74 ?_
  refine xr_put (LL' := [[ob qa1 2 [.int (v 0), .int (v 1), .int (v 2), .int (v 3), .int (v 4), .int (v 5), .int (v 6), .int (v 7), .int (v 8), .int (r2 9), .int (bz (r2 10))]], [ob h0 2 [.int (v 0), .int (v 1), .int (v 2), .int (v 3), .int (v 4), .int (v 5), .int (v 6), .int (v 7), .int (v 8), .int (v 9), .int (bz (v 10))]]]) hf hK hw 0 0 rfl rfl in_X3 tyX3_ok nmX3 8 (by decide) q222 (fun _ h => h) rfl rfl rfl (Nat.le_of_ble_eq_true rfl) rfl dX3_copy_77 (fun H locs hw => ?_)
  refine lv_aload_n hx hb dX3_copy_80 rfl (lv_at hl 0 rfl) ?_
  refine lv_aload_n hx hb dX3_copy_81 rfl (lv_at hl 1 rfl) ?_
  refine xr_get hf hK hw 1 0 rfl rfl in_X3 9 (by decide) q224 (fun _ h => h) rfl dX3_copy_82 ?_
  refine xr_put (LL' := [[ob qa1 2 [.int (v 0), .int (v 1), .int (v 2), .int (v 3), .int (v 4), .int (v 5), .int (v 6), .int (v 7), .int (v 8), .int (v 9), .int (bz (r2 10))]], [ob h0 2 [.int (v 0), .int (v 1), .int (v 2), .int (v 3), .int (v 4), .int (v 5), .int (v 6), .int (v 7), .int (v 8), .int (v 9), .int (bz (v 10))]]]) hf hK hw 0 0 rfl rfl in_X3 tyX3_ok nmX3 9 (by decide) q224 (fun _ h => h) rfl rfl rfl (Nat.le_of_ble_eq_true rfl) rfl dX3_copy_85 (fun H locs hw => ?_)
  refine lv_aload_n hx hb dX3_copy_88 rfl (lv_at hl 0 rfl) ?_
  refine lv_aload_n hx hb dX3_copy_89 rfl (lv_at hl 1 rfl) ?_
  refine xr_get hf hK hw 1 0 rfl rfl in_X3 10 (by decide) q226 (fun _ h => h) rfl dX3_copy_90 ?_
  refine xr_put (LL' := [[ob qa1 2 [.int (v 0), .int (v 1), .int (v 2), .int (v 3), .int (v 4), .int (v 5), .int (v 6), .int (v 7), .int (v 8), .int (v 9), .int (bz (v 10))]], [ob h0 2 [.int (v 0), .int (v 1), .int (v 2), .int (v 3), .int (v 4), .int (v 5), .int (v 6), .int (v 7), .int (v 8), .int (v 9), .int (bz (v 10))]]]) hf hK hw 0 0 rfl rfl in_X3 tyX3_ok nmX3 10 (by decide) q226 (fun _ h => h) rfl (nbz _) (fbz _) (Nat.le_of_ble_eq_true rfl) rfl dX3_copy_93 (fun H locs hw => ?_)
  refine lv_aload_n hx hb dX3_copy_96 rfl (lv_at hl 0 rfl) ?_
  have hw := Wd.take (L2 := [[ob h0 2 [.int (v 0), .int (v 1), .int (v 2), .int (v 3), .int (v 4), .int (v 5), .int (v 6), .int (v 7), .int (v 8), .int (v 9), .int (bz (v 10))]], [ob qa1 2 [.int (v 0), .int (v 1), .int (v 2), .int (v 3), .int (v 4), .int (v 5), .int (v 6), .int (v 7), .int (v 8), .int (v 9), .int (bz (v 10))]]]) hw [1, 0] rfl rfl
  have e9 : f_X3_copy v = (v, v) := by
    unfold f_X3_copy
    rw [← hr2]; try dsimp only
    try rfl
  have hw : Wd D A s.heap _ _ [[ob h0 2 [.int (v 0), .int (v 1), .int (v 2), .int (v 3), .int (v 4), .int (v 5), .int (v 6), .int (v 7), .int (v 8), .int (v 9), .int (bz (v 10))]], [ob qa1 2 [.int (v 0), .int (v 1), .int (v 2), .int (v 3), .int (v 4), .int (v 5), .int (v 6), .int (v 7), .int (v 8), .int (v 9), .int (bz (v 10))]]] := hw.eq rfl
  have p1 := congrArg (fun z : (Nat → Int32) × (Nat → Int32) => [trS h0 z.1, trS qa1 z.2]) e9.symm
  exact xr_aret hf hr (by first | exact Or.inl ⟨_, rfl⟩ | exact Or.inr ⟨_, rfl⟩) (Or.inr ⟨_, rfl⟩) hlocks hw (Nat.le_of_ble_eq_true rfl) (Nat.le_of_ble_eq_true rfl) ⟨qa1, rfl, p1⟩ dX3_copy_97

def f_X3_grow (v : Nat → Int32)  : Int32 × (Nat → Int32) :=
  if v 5 ≤ 0 then
    (fun r1 : Int32 × (Nat → Int32) =>
      if v 8 < r1.1 then
        if (v 6 + 1) < 2 then
          if v 0 = 0 then
            (0, (vec [v 0, v 1, v 2, v 3, v 4, v 5, (v 6 + 1), v 7, v 8, v 9, v 10]))
          else
            if v 3 = 5 then
              if 5 ≤ v 4 then
                (0, (vec [v 0, v 1, v 2, v 3, 0, v 5, (v 6 + 1), v 7, v 8, v 9, 1]))
              else
                (0, (vec [v 0, v 1, v 2, v 3, v 4, v 5, (v 6 + 1), v 7, v 8, v 9, v 10]))
            else
              if 3 ≤ v 4 then
                (0, (vec [v 0, v 1, v 2, v 3, 0, 2, (v 6 + 1), v 7, v 8, v 9, v 10]))
              else
                (0, (vec [v 0, v 1, v 2, v 3, v 4, v 5, (v 6 + 1), v 7, v 8, v 9, v 10]))
        else
          (fun r2 : Int32 =>
            (fun r3 : Int32 × (Nat → Int32) =>
              if r3.2 0 = 0 then
                (r3.1, r3.2)
              else
                if r3.2 3 = 5 then
                  if 5 ≤ r3.2 4 then
                    (r3.1, (vec [r3.2 0, r3.2 1, r3.2 2, r3.2 3, 0, r3.2 5, r3.2 6, r3.2 7, r3.2 8, r3.2 9, 1]))
                  else
                    (r3.1, r3.2)
                else
                  if 3 ≤ r3.2 4 then
                    (r3.1, (vec [r3.2 0, r3.2 1, r3.2 2, r3.2 3, 0, 2, r3.2 6, r3.2 7, r3.2 8, r3.2 9, r3.2 10]))
                  else
                    (r3.1, r3.2)) (f_X3_lose (vec [v 0, v 1, v 2, v 3, v 4, v 5, (v 6 + 1), v 7, v 8, v 9, v 10]) r2)) (f_X1_up (v 0) 10)
      else
        if v 0 = 0 then
          (0, (vec [v 0, v 1, v 2, v 3, (v 4 + 1), v 5, 0, (v 7 + 1), v 8, v 9, v 10]))
        else
          if v 3 = 5 then
            if 5 ≤ (v 4 + 1) then
              (0, (vec [v 0, v 1, v 2, v 3, 0, v 5, 0, (v 7 + 1), v 8, v 9, 1]))
            else
              (0, (vec [v 0, v 1, v 2, v 3, (v 4 + 1), v 5, 0, (v 7 + 1), v 8, v 9, v 10]))
          else
            if 3 ≤ (v 4 + 1) then
              (0, (vec [v 0, v 1, v 2, v 3, 0, 2, 0, (v 7 + 1), v 8, v 9, v 10]))
            else
              (0, (vec [v 0, v 1, v 2, v 3, (v 4 + 1), v 5, 0, (v 7 + 1), v 8, v 9, v 10]))) (f_X3_need v)
  else
    if (v 5 - 1) = 0 then
      (fun r1 : Int32 =>
        (0, (vec [v 0, v 1, v 2, (v 3 + r1), v 4, (v 5 - 1), v 6, v 7, v 8, v 9, v 10]))) (f_X1_one 1)
    else
      (fun r1 : Int32 =>
        (0, (vec [v 0, v 1, v 2, (v 3 + r1), v 4, (v 5 - 1), v 6, v 7, v 8, v 9, v 10]))) (f_X1_one 0)
set_option maxHeartbeats 4000000 in
theorem k_X3_grow (l : Launch) (D : va_G) (dT g : Nat → Nat) (z0 : Nat) (h0 : Nat) (v : Nat → Int32)  : Con l D dT g z0 yX3_grow (ws_ yX3_grow cX3_grow 2 (some .int)) ({ frames := 4, cells := 1, slots := 11, locals := 102 }) [.ref h0] [trS h0 v] (fun r LL => r = some (.int (f_X3_grow v).1) ∧ LL = [trS h0 (f_X3_grow v).2]) noX 1 11 := by
  refine Con.of (maxL := 2) (ret := (some .int)) (by first | exact plainFor_of_name (by decide) | decide +kernel) (Nat.le_of_ble_eq_true rfl) ?_
  intro p e s m args below meth c A ls hf hr hlocks hnm hno hK hA hAz hw hl hst
  have hf : CallFix p m c cX3_grow 2 s args lw_all "SilkRow$Tray" := hf
  have hnm : meth.name = "grow" := hnm
  have hx := hf.1
  have hb := hf.2.1
  have hts := hf.2.2.2.2
  have hl : lv_has ls 2 [(0, .ref h0)] := hl
  have hw : Wd D A s.heap s.heap [] [[ob h0 2 [.int (v 0), .int (v 1), .int (v 2), .int (v 3), .int (v 4), .int (v 5), .int (v 6), .int (v 7), .int (v 8), .int (v 9), .int (bz (v 10))]]] := hw
  refine lv_aload_n hx hb dX3_grow_0 rfl (lv_at hl 0 rfl) ?_
  refine xr_get hf hK hw 0 0 rfl rfl in_X3 5 (by decide) q216 (fun _ h => h) rfl dX3_grow_1 ?_
  refine lv_if_le (tgt := 43) hx hb dX3_grow_4 (by decide) (fun c_4 => ?_) (fun c_4 => ?_)
  · refine lv_iconst (v := 0) hx hb dX3_grow_43 (by decide) ?_
    refine lv_istore_n (lv' := [(1, .int 0), (0, .ref h0)]) hx hb dX3_grow_44 rfl hl (by decide) rfl (fun ls hl => ?_)
    refine lv_aload_n hx hb dX3_grow_45 rfl (lv_at hl 1 rfl) ?_
    refine xr_get hf hK hw 0 0 rfl rfl in_X3 8 (by decide) q222 (fun _ h => h) rfl dX3_grow_46 ?_
    refine lv_aload_n hx hb dX3_grow_49 rfl (lv_at hl 1 rfl) ?_
    refine xc_V (rest := [.int (v 8)]) (As := []) hf hK hA hAz hst (hw.pick [0] rfl rfl rfl) (k_X3_need l D dT g z0 h0 v) (cwV 0 hts (lw_V q416 q377 q378 q53 q379) rfl rfl rfl (by decide +kernel) ⟨Nat.le_of_ble_eq_true rfl, Nat.le_of_ble_eq_true rfl⟩) (xr_rv hK hw 0 0 rfl rfl) rfl hl.1 rfl (Nat.le_of_ble_eq_true rfl) dX3_grow_50 ⟨(Nat.le_of_ble_eq_true rfl), (Nat.le_of_ble_eq_true rfl)⟩ (fun _ _ _ _ _ _ h => h.elim) (fun v9 LL1 H locs hp hw => ?_)
    rw [fs_X3_need] at hp
    obtain ⟨r1, hr1⟩ : ∃ z, z = f_X3_need v := ⟨_, rfl⟩
    rw [← hr1] at hp
    obtain ⟨rfl, rfl⟩ := hp
    have hw : Wd D A s.heap _ _ [[ob h0 2 [.int (v 0), .int (v 1), .int (v 2), .int (v 3), .int (v 4), .int (v 5), .int (v 6), .int (v 7), .int (v 8), .int (v 9), .int (bz (v 10))]]] := hw
    refine W.eq (g2 := F0 m 53 ls [.int r1.1, .int (v 8)]) rfl ?_
    refine lv_icmp_lt (tgt := 84) hx hb dX3_grow_53 (by decide) (fun c_53 => ?_) (fun c_53 => ?_)
    · refine lv_aload_n hx hb dX3_grow_84 rfl (lv_at hl 1 rfl) ?_
      refine lv_dup hx hb dX3_grow_85 rfl ?_
      refine xr_get hf hK hw 0 0 rfl rfl in_X3 6 (by decide) q218 (fun _ h => h) rfl dX3_grow_86 ?_
      refine lv_iconst (v := 1) hx hb dX3_grow_89 (by decide) ?_
      refine lv_iadd hx hb dX3_grow_90 ?_
      refine xr_put (LL' := [[ob h0 2 [.int (v 0), .int (v 1), .int (v 2), .int (v 3), .int (v 4), .int (v 5), .int (v 6 + 1), .int (v 7), .int (v 8), .int (v 9), .int (bz (v 10))]]]) hf hK hw 0 0 rfl rfl in_X3 tyX3_ok nmX3 6 (by decide) q218 (fun _ h => h) rfl rfl rfl (Nat.le_of_ble_eq_true rfl) rfl dX3_grow_91 (fun H locs hw => ?_)
      refine lv_aload_n hx hb dX3_grow_94 rfl (lv_at hl 1 rfl) ?_
      refine xr_get hf hK hw 0 0 rfl rfl in_X3 6 (by decide) q218 (fun _ h => h) rfl dX3_grow_95 ?_
      refine lv_iconst (v := 2) hx hb dX3_grow_98 (by decide) ?_
      refine lv_icmp_lt (tgt := 116) hx hb dX3_grow_99 (by decide) (fun c_99 => ?_) (fun c_99 => ?_)
      · refine lv_aload_n hx hb dX3_grow_116 rfl (lv_at hl 1 rfl) ?_
        refine xr_get hf hK hw 0 0 rfl rfl in_X3 0 (by decide) q206 (fun _ h => h) rfl dX3_grow_117 ?_
        refine lv_if_eq (tgt := 143) hx hb dX3_grow_120 (by decide) (fun c_120 => ?_) (fun c_120 => ?_)
        · refine lv_iload_n hx hb dX3_grow_143 rfl (lv_at hl 0 rfl) ?_
          have e9 : f_X3_grow v = (0, (vec [v 0, v 1, v 2, v 3, v 4, v 5, (v 6 + 1), v 7, v 8, v 9, v 10])) := by
            unfold f_X3_grow
            rw [if_pos c_4]
            rw [← hr1]; try dsimp only
            rw [if_pos c_53]
            rw [if_pos c_99]
            rw [if_pos c_120]
            try rfl
          have p0 := congrArg (fun z : Int32 × (Nat → Int32) => some (Value.int z.1)) e9.symm
          have p1 := congrArg (fun z : Int32 × (Nat → Int32) => [trS h0 z.2]) e9.symm
          exact xr_iret hf hr hlocks hw (Nat.le_of_ble_eq_true rfl) (Nat.le_of_ble_eq_true rfl) ⟨p0, p1⟩ dX3_grow_144
        · refine lv_aload_n hx hb dX3_grow_123 rfl (lv_at hl 1 rfl) ?_
          refine xr_get hf hK hw 0 0 rfl rfl in_X3 4 (by decide) q214 (fun _ h => h) rfl dX3_grow_124 ?_
          refine lv_aload_n hx hb dX3_grow_127 rfl (lv_at hl 1 rfl) ?_
          refine xr_get hf hK hw 0 0 rfl rfl in_X3 3 (by decide) q212 (fun _ h => h) rfl dX3_grow_128 ?_
          refine lv_iconst (v := 5) hx hb dX3_grow_131 (by decide) ?_
          refine lv_icmp_ne (tgt := 139) hx hb dX3_grow_132 (by decide) (fun c_132 => ?_) (fun c_132 => ?_)
          · refine lv_iconst (v := 3) hx hb dX3_grow_139 (by decide) ?_
            refine lv_icmp_ge (tgt := 145) hx hb dX3_grow_140 (by decide) (fun c_140 => ?_) (fun c_140 => ?_)
            · refine lv_aload_n hx hb dX3_grow_145 rfl (lv_at hl 1 rfl) ?_
              refine lv_iconst (v := 0) hx hb dX3_grow_146 (by decide) ?_
              refine xr_put (LL' := [[ob h0 2 [.int (v 0), .int (v 1), .int (v 2), .int (v 3), .int 0, .int (v 5), .int (v 6 + 1), .int (v 7), .int (v 8), .int (v 9), .int (bz (v 10))]]]) hf hK hw 0 0 rfl rfl in_X3 tyX3_ok nmX3 4 (by decide) q214 (fun _ h => h) rfl rfl rfl (Nat.le_of_ble_eq_true rfl) rfl dX3_grow_147 (fun H locs hw => ?_)
              refine lv_aload_n hx hb dX3_grow_150 rfl (lv_at hl 1 rfl) ?_
              refine xr_get hf hK hw 0 0 rfl rfl in_X3 3 (by decide) q212 (fun _ h => h) rfl dX3_grow_151 ?_
              refine lv_iconst (v := 5) hx hb dX3_grow_154 (by decide) ?_
              refine lv_icmp_ne (tgt := 166) hx hb dX3_grow_155 (by decide) (fun _ => ?_) (fun c9 => absurd c9 c_132)
              refine lv_aload_n hx hb dX3_grow_166 rfl (lv_at hl 1 rfl) ?_
              refine lv_iconst (v := 2) hx hb dX3_grow_167 (by decide) ?_
              refine xr_put (LL' := [[ob h0 2 [.int (v 0), .int (v 1), .int (v 2), .int (v 3), .int 0, .int 2, .int (v 6 + 1), .int (v 7), .int (v 8), .int (v 9), .int (bz (v 10))]]]) hf hK hw 0 0 rfl rfl in_X3 tyX3_ok nmX3 5 (by decide) q216 (fun _ h => h) rfl rfl rfl (Nat.le_of_ble_eq_true rfl) rfl dX3_grow_168 (fun H locs hw => ?_)
              refine lv_iload_n hx hb dX3_grow_171 rfl (lv_at hl 0 rfl) ?_
              have e9 : f_X3_grow v = (0, (vec [v 0, v 1, v 2, v 3, 0, 2, (v 6 + 1), v 7, v 8, v 9, v 10])) := by
                unfold f_X3_grow
                rw [if_pos c_4]
                rw [← hr1]; try dsimp only
                rw [if_pos c_53]
                rw [if_pos c_99]
                rw [if_neg c_120]
                rw [if_neg c_132]
                rw [if_pos c_140]
                try rfl
              have p0 := congrArg (fun z : Int32 × (Nat → Int32) => some (Value.int z.1)) e9.symm
              have p1 := congrArg (fun z : Int32 × (Nat → Int32) => [trS h0 z.2]) e9.symm
              exact xr_iret hf hr hlocks hw (Nat.le_of_ble_eq_true rfl) (Nat.le_of_ble_eq_true rfl) ⟨p0, p1⟩ dX3_grow_172
            · refine lv_iload_n hx hb dX3_grow_143 rfl (lv_at hl 0 rfl) ?_
              have e9 : f_X3_grow v = (0, (vec [v 0, v 1, v 2, v 3, v 4, v 5, (v 6 + 1), v 7, v 8, v 9, v 10])) := by
                unfold f_X3_grow
                rw [if_pos c_4]
                rw [← hr1]; try dsimp only
                rw [if_pos c_53]
                rw [if_pos c_99]
                rw [if_neg c_120]
                rw [if_neg c_132]
                rw [if_neg c_140]
                try rfl
              have p0 := congrArg (fun z : Int32 × (Nat → Int32) => some (Value.int z.1)) e9.symm
              have p1 := congrArg (fun z : Int32 × (Nat → Int32) => [trS h0 z.2]) e9.symm
              exact xr_iret hf hr hlocks hw (Nat.le_of_ble_eq_true rfl) (Nat.le_of_ble_eq_true rfl) ⟨p0, p1⟩ dX3_grow_144
          · refine lv_iconst (v := 5) hx hb dX3_grow_135 (by decide) ?_
            refine lv_goto (tgt := 140) hx hb dX3_grow_136 (by decide) ?_
            refine lv_icmp_ge (tgt := 145) hx hb dX3_grow_140 (by decide) (fun c_140 => ?_) (fun c_140 => ?_)
            · refine lv_aload_n hx hb dX3_grow_145 rfl (lv_at hl 1 rfl) ?_
              refine lv_iconst (v := 0) hx hb dX3_grow_146 (by decide) ?_
              refine xr_put (LL' := [[ob h0 2 [.int (v 0), .int (v 1), .int (v 2), .int (v 3), .int 0, .int (v 5), .int (v 6 + 1), .int (v 7), .int (v 8), .int (v 9), .int (bz (v 10))]]]) hf hK hw 0 0 rfl rfl in_X3 tyX3_ok nmX3 4 (by decide) q214 (fun _ h => h) rfl rfl rfl (Nat.le_of_ble_eq_true rfl) rfl dX3_grow_147 (fun H locs hw => ?_)
              refine lv_aload_n hx hb dX3_grow_150 rfl (lv_at hl 1 rfl) ?_
              refine xr_get hf hK hw 0 0 rfl rfl in_X3 3 (by decide) q212 (fun _ h => h) rfl dX3_grow_151 ?_
              refine lv_iconst (v := 5) hx hb dX3_grow_154 (by decide) ?_
              refine lv_icmp_ne (tgt := 166) hx hb dX3_grow_155 (by decide) (fun c9 => absurd c_132 c9) (fun _ => ?_)
              refine lv_aload_n hx hb dX3_grow_158 rfl (lv_at hl 1 rfl) ?_
              refine lv_iconst (v := 1) hx hb dX3_grow_159 (by decide) ?_
              refine xr_put (LL' := [[ob h0 2 [.int (v 0), .int (v 1), .int (v 2), .int (v 3), .int 0, .int (v 5), .int (v 6 + 1), .int (v 7), .int (v 8), .int (v 9), .int 1]]]) hf hK hw 0 0 rfl rfl in_X3 tyX3_ok nmX3 10 (by decide) q226 (fun _ h => h) rfl rfl rfl (Nat.le_of_ble_eq_true rfl) rfl dX3_grow_160 (fun H locs hw => ?_)
              refine lv_goto (tgt := 171) hx hb dX3_grow_163 (by decide) ?_
              refine lv_iload_n hx hb dX3_grow_171 rfl (lv_at hl 0 rfl) ?_
              have e9 : f_X3_grow v = (0, (vec [v 0, v 1, v 2, v 3, 0, v 5, (v 6 + 1), v 7, v 8, v 9, 1])) := by
                unfold f_X3_grow
                rw [if_pos c_4]
                rw [← hr1]; try dsimp only
                rw [if_pos c_53]
                rw [if_pos c_99]
                rw [if_neg c_120]
                rw [if_pos c_132]
                rw [if_pos c_140]
                try rfl
              have p0 := congrArg (fun z : Int32 × (Nat → Int32) => some (Value.int z.1)) e9.symm
              have p1 := congrArg (fun z : Int32 × (Nat → Int32) => [trS h0 z.2]) e9.symm
              exact xr_iret hf hr hlocks hw (Nat.le_of_ble_eq_true rfl) (Nat.le_of_ble_eq_true rfl) ⟨p0, p1⟩ dX3_grow_172
            · refine lv_iload_n hx hb dX3_grow_143 rfl (lv_at hl 0 rfl) ?_
              have e9 : f_X3_grow v = (0, (vec [v 0, v 1, v 2, v 3, v 4, v 5, (v 6 + 1), v 7, v 8, v 9, v 10])) := by
                unfold f_X3_grow
                rw [if_pos c_4]
                rw [← hr1]; try dsimp only
                rw [if_pos c_53]
                rw [if_pos c_99]
                rw [if_neg c_120]
                rw [if_pos c_132]
                rw [if_neg c_140]
                try rfl
              have p0 := congrArg (fun z : Int32 × (Nat → Int32) => some (Value.int z.1)) e9.symm
              have p1 := congrArg (fun z : Int32 × (Nat → Int32) => [trS h0 z.2]) e9.symm
              exact xr_iret hf hr hlocks hw (Nat.le_of_ble_eq_true rfl) (Nat.le_of_ble_eq_true rfl) ⟨p0, p1⟩ dX3_grow_144
      · refine lv_aload_n hx hb dX3_grow_102 rfl (lv_at hl 1 rfl) ?_
        refine lv_aload_n hx hb dX3_grow_103 rfl (lv_at hl 1 rfl) ?_
        refine xr_get hf hK hw 0 0 rfl rfl in_X3 0 (by decide) q206 (fun _ h => h) rfl dX3_grow_104 ?_
        refine lv_bipush (v := 10) hx hb dX3_grow_107 (by decide) ?_
        refine xc_SN (rest := [.ref h0]) (As := [.int (v 0), .int 10]) hf hK hA hAz hst (hw.pick [] rfl rfl rfl) (k_X1_up l D dT g z0 (v 0) 10 (by decide)) ⟨va_cnB 2 hts (lw_meth q382) rfl rfl rfl (hK.nw q380 rfl) (hts _ q44) (by decide +kernel) ⟨Nat.le_of_ble_eq_true rfl, Nat.le_of_ble_eq_true rfl⟩, hts _ q381⟩ rfl hl.1 rfl (Nat.le_of_ble_eq_true rfl) dX3_grow_109 ⟨(Nat.le_of_ble_eq_true rfl), (Nat.le_of_ble_eq_true rfl)⟩ (fun _ _ _ _ _ _ h => h.elim) (fun v9 LL1 H locs hp hw => ?_)
        obtain ⟨r2, hr2⟩ : ∃ z, z = f_X1_up (v 0) 10 := ⟨_, rfl⟩
        rw [← hr2] at hp
        obtain ⟨rfl, rfl⟩ := hp
        have hw : Wd D A s.heap _ _ [[ob h0 2 [.int (v 0), .int (v 1), .int (v 2), .int (v 3), .int (v 4), .int (v 5), .int (v 6 + 1), .int (v 7), .int (v 8), .int (v 9), .int (bz (v 10))]]] := hw
        refine W.eq (g2 := F0 m 112 ls [.int r2, .ref h0]) rfl ?_
        refine xc_V (rest := []) (As := [.int r2]) hf hK hA hAz hst (hw.pick [0] rfl rfl rfl) (k_X3_lose l D dT g z0 h0 (vec [v 0, v 1, v 2, v 3, v 4, v 5, (v 6 + 1), v 7, v 8, v 9, v 10]) r2) (cwV 1 hts (lw_V q417 q418 q419 q53 q420) rfl rfl rfl (by decide +kernel) ⟨Nat.le_of_ble_eq_true rfl, Nat.le_of_ble_eq_true rfl⟩) (xr_rv hK hw 0 0 rfl rfl) rfl hl.1 rfl (Nat.le_of_ble_eq_true rfl) dX3_grow_112 ⟨(Nat.le_of_ble_eq_true rfl), (Nat.le_of_ble_eq_true rfl)⟩ (fun _ _ _ _ _ _ h => h.elim) (fun v9 LL1 H locs hp hw => ?_)
        obtain ⟨r3, hr3⟩ : ∃ z, z = f_X3_lose (vec [v 0, v 1, v 2, v 3, v 4, v 5, (v 6 + 1), v 7, v 8, v 9, v 10]) r2 := ⟨_, rfl⟩
        rw [← hr3] at hp
        obtain ⟨rfl, rfl⟩ := hp
        have hw : Wd D A s.heap _ _ [[ob h0 2 [.int (r3.2 0), .int (r3.2 1), .int (r3.2 2), .int (r3.2 3), .int (r3.2 4), .int (r3.2 5), .int (r3.2 6), .int (r3.2 7), .int (r3.2 8), .int (r3.2 9), .int (bz (r3.2 10))]]] := hw
        refine W.eq (g2 := F0 m 115 ls [.int r3.1]) rfl ?_
        refine lv_istore_n (lv' := [(1, .int r3.1), (0, .ref h0)]) hx hb dX3_grow_115 rfl hl (by decide) rfl (fun ls hl => ?_)
        refine lv_aload_n hx hb dX3_grow_116 rfl (lv_at hl 1 rfl) ?_
        refine xr_get hf hK hw 0 0 rfl rfl in_X3 0 (by decide) q206 (fun _ h => h) rfl dX3_grow_117 ?_
        refine lv_if_eq (tgt := 143) hx hb dX3_grow_120 (by decide) (fun c_120 => ?_) (fun c_120 => ?_)
        · refine lv_iload_n hx hb dX3_grow_143 rfl (lv_at hl 0 rfl) ?_
          have e9 : f_X3_grow v = (r3.1, r3.2) := by
            unfold f_X3_grow
            rw [if_pos c_4]
            rw [← hr1]; try dsimp only
            rw [if_pos c_53]
            rw [if_neg c_99]
            rw [← hr2]; try dsimp only
            rw [← hr3]; try dsimp only
            rw [if_pos c_120]
            try rfl
          have p0 := congrArg (fun z : Int32 × (Nat → Int32) => some (Value.int z.1)) e9.symm
          have p1 := congrArg (fun z : Int32 × (Nat → Int32) => [trS h0 z.2]) e9.symm
          exact xr_iret hf hr hlocks hw (Nat.le_of_ble_eq_true rfl) (Nat.le_of_ble_eq_true rfl) ⟨p0, p1⟩ dX3_grow_144
        · refine lv_aload_n hx hb dX3_grow_123 rfl (lv_at hl 1 rfl) ?_
          refine xr_get hf hK hw 0 0 rfl rfl in_X3 4 (by decide) q214 (fun _ h => h) rfl dX3_grow_124 ?_
          refine lv_aload_n hx hb dX3_grow_127 rfl (lv_at hl 1 rfl) ?_
          refine xr_get hf hK hw 0 0 rfl rfl in_X3 3 (by decide) q212 (fun _ h => h) rfl dX3_grow_128 ?_
          refine lv_iconst (v := 5) hx hb dX3_grow_131 (by decide) ?_
          refine lv_icmp_ne (tgt := 139) hx hb dX3_grow_132 (by decide) (fun c_132 => ?_) (fun c_132 => ?_)
          · refine lv_iconst (v := 3) hx hb dX3_grow_139 (by decide) ?_
            refine lv_icmp_ge (tgt := 145) hx hb dX3_grow_140 (by decide) (fun c_140 => ?_) (fun c_140 => ?_)
            · refine lv_aload_n hx hb dX3_grow_145 rfl (lv_at hl 1 rfl) ?_
              refine lv_iconst (v := 0) hx hb dX3_grow_146 (by decide) ?_
              refine xr_put (LL' := [[ob h0 2 [.int (r3.2 0), .int (r3.2 1), .int (r3.2 2), .int (r3.2 3), .int 0, .int (r3.2 5), .int (r3.2 6), .int (r3.2 7), .int (r3.2 8), .int (r3.2 9), .int (bz (r3.2 10))]]]) hf hK hw 0 0 rfl rfl in_X3 tyX3_ok nmX3 4 (by decide) q214 (fun _ h => h) rfl rfl rfl (Nat.le_of_ble_eq_true rfl) rfl dX3_grow_147 (fun H locs hw => ?_)
              refine lv_aload_n hx hb dX3_grow_150 rfl (lv_at hl 1 rfl) ?_
              refine xr_get hf hK hw 0 0 rfl rfl in_X3 3 (by decide) q212 (fun _ h => h) rfl dX3_grow_151 ?_
              refine lv_iconst (v := 5) hx hb dX3_grow_154 (by decide) ?_
              refine lv_icmp_ne (tgt := 166) hx hb dX3_grow_155 (by decide) (fun _ => ?_) (fun c9 => absurd c9 c_132)
              refine lv_aload_n hx hb dX3_grow_166 rfl (lv_at hl 1 rfl) ?_
              refine lv_iconst (v := 2) hx hb dX3_grow_167 (by decide) ?_
              refine xr_put (LL' := [[ob h0 2 [.int (r3.2 0), .int (r3.2 1), .int (r3.2 2), .int (r3.2 3), .int 0, .int 2, .int (r3.2 6), .int (r3.2 7), .int (r3.2 8), .int (r3.2 9), .int (bz (r3.2 10))]]]) hf hK hw 0 0 rfl rfl in_X3 tyX3_ok nmX3 5 (by decide) q216 (fun _ h => h) rfl rfl rfl (Nat.le_of_ble_eq_true rfl) rfl dX3_grow_168 (fun H locs hw => ?_)
              refine lv_iload_n hx hb dX3_grow_171 rfl (lv_at hl 0 rfl) ?_
              have e9 : f_X3_grow v = (r3.1, (vec [r3.2 0, r3.2 1, r3.2 2, r3.2 3, 0, 2, r3.2 6, r3.2 7, r3.2 8, r3.2 9, r3.2 10])) := by
                unfold f_X3_grow
                rw [if_pos c_4]
                rw [← hr1]; try dsimp only
                rw [if_pos c_53]
                rw [if_neg c_99]
                rw [← hr2]; try dsimp only
                rw [← hr3]; try dsimp only
                rw [if_neg c_120]
                rw [if_neg c_132]
                rw [if_pos c_140]
                try rfl
              have p0 := congrArg (fun z : Int32 × (Nat → Int32) => some (Value.int z.1)) e9.symm
              have p1 := congrArg (fun z : Int32 × (Nat → Int32) => [trS h0 z.2]) e9.symm
              exact xr_iret hf hr hlocks hw (Nat.le_of_ble_eq_true rfl) (Nat.le_of_ble_eq_true rfl) ⟨p0, p1⟩ dX3_grow_172
            · refine lv_iload_n hx hb dX3_grow_143 rfl (lv_at hl 0 rfl) ?_
              have e9 : f_X3_grow v = (r3.1, r3.2) := by
                unfold f_X3_grow
                rw [if_pos c_4]
                rw [← hr1]; try dsimp only
                rw [if_pos c_53]
                rw [if_neg c_99]
                rw [← hr2]; try dsimp only
                rw [← hr3]; try dsimp only
                rw [if_neg c_120]
                rw [if_neg c_132]
                rw [if_neg c_140]
                try rfl
              have p0 := congrArg (fun z : Int32 × (Nat → Int32) => some (Value.int z.1)) e9.symm
              have p1 := congrArg (fun z : Int32 × (Nat → Int32) => [trS h0 z.2]) e9.symm
              exact xr_iret hf hr hlocks hw (Nat.le_of_ble_eq_true rfl) (Nat.le_of_ble_eq_true rfl) ⟨p0, p1⟩ dX3_grow_144
          · refine lv_iconst (v := 5) hx hb dX3_grow_135 (by decide) ?_
            refine lv_goto (tgt := 140) hx hb dX3_grow_136 (by decide) ?_
            refine lv_icmp_ge (tgt := 145) hx hb dX3_grow_140 (by decide) (fun c_140 => ?_) (fun c_140 => ?_)
            · refine lv_aload_n hx hb dX3_grow_145 rfl (lv_at hl 1 rfl) ?_
              refine lv_iconst (v := 0) hx hb dX3_grow_146 (by decide) ?_
              refine xr_put (LL' := [[ob h0 2 [.int (r3.2 0), .int (r3.2 1), .int (r3.2 2), .int (r3.2 3), .int 0, .int (r3.2 5), .int (r3.2 6), .int (r3.2 7), .int (r3.2 8), .int (r3.2 9), .int (bz (r3.2 10))]]]) hf hK hw 0 0 rfl rfl in_X3 tyX3_ok nmX3 4 (by decide) q214 (fun _ h => h) rfl rfl rfl (Nat.le_of_ble_eq_true rfl) rfl dX3_grow_147 (fun H locs hw => ?_)
              refine lv_aload_n hx hb dX3_grow_150 rfl (lv_at hl 1 rfl) ?_
              refine xr_get hf hK hw 0 0 rfl rfl in_X3 3 (by decide) q212 (fun _ h => h) rfl dX3_grow_151 ?_
              refine lv_iconst (v := 5) hx hb dX3_grow_154 (by decide) ?_
              refine lv_icmp_ne (tgt := 166) hx hb dX3_grow_155 (by decide) (fun c9 => absurd c_132 c9) (fun _ => ?_)
              refine lv_aload_n hx hb dX3_grow_158 rfl (lv_at hl 1 rfl) ?_
              refine lv_iconst (v := 1) hx hb dX3_grow_159 (by decide) ?_
              refine xr_put (LL' := [[ob h0 2 [.int (r3.2 0), .int (r3.2 1), .int (r3.2 2), .int (r3.2 3), .int 0, .int (r3.2 5), .int (r3.2 6), .int (r3.2 7), .int (r3.2 8), .int (r3.2 9), .int 1]]]) hf hK hw 0 0 rfl rfl in_X3 tyX3_ok nmX3 10 (by decide) q226 (fun _ h => h) rfl rfl rfl (Nat.le_of_ble_eq_true rfl) rfl dX3_grow_160 (fun H locs hw => ?_)
              refine lv_goto (tgt := 171) hx hb dX3_grow_163 (by decide) ?_
              refine lv_iload_n hx hb dX3_grow_171 rfl (lv_at hl 0 rfl) ?_
              have e9 : f_X3_grow v = (r3.1, (vec [r3.2 0, r3.2 1, r3.2 2, r3.2 3, 0, r3.2 5, r3.2 6, r3.2 7, r3.2 8, r3.2 9, 1])) := by
                unfold f_X3_grow
                rw [if_pos c_4]
                rw [← hr1]; try dsimp only
                rw [if_pos c_53]
                rw [if_neg c_99]
                rw [← hr2]; try dsimp only
                rw [← hr3]; try dsimp only
                rw [if_neg c_120]
                rw [if_pos c_132]
                rw [if_pos c_140]
                try rfl
              have p0 := congrArg (fun z : Int32 × (Nat → Int32) => some (Value.int z.1)) e9.symm
              have p1 := congrArg (fun z : Int32 × (Nat → Int32) => [trS h0 z.2]) e9.symm
              exact xr_iret hf hr hlocks hw (Nat.le_of_ble_eq_true rfl) (Nat.le_of_ble_eq_true rfl) ⟨p0, p1⟩ dX3_grow_172
            · refine lv_iload_n hx hb dX3_grow_143 rfl (lv_at hl 0 rfl) ?_
              have e9 : f_X3_grow v = (r3.1, r3.2) := by
                unfold f_X3_grow
                rw [if_pos c_4]
                rw [← hr1]; try dsimp only
                rw [if_pos c_53]
                rw [if_neg c_99]
                rw [← hr2]; try dsimp only
                rw [← hr3]; try dsimp only
                rw [if_neg c_120]
                rw [if_pos c_132]
                rw [if_neg c_140]
                try rfl
              have p0 := congrArg (fun z : Int32 × (Nat → Int32) => some (Value.int z.1)) e9.symm
              have p1 := congrArg (fun z : Int32 × (Nat → Int32) => [trS h0 z.2]) e9.symm
              exact xr_iret hf hr hlocks hw (Nat.le_of_ble_eq_true rfl) (Nat.le_of_ble_eq_true rfl) ⟨p0, p1⟩ dX3_grow_144
    · refine lv_aload_n hx hb dX3_grow_56 rfl (lv_at hl 1 rfl) ?_
      refine lv_dup hx hb dX3_grow_57 rfl ?_
      refine xr_get hf hK hw 0 0 rfl rfl in_X3 4 (by decide) q214 (fun _ h => h) rfl dX3_grow_58 ?_
      refine lv_iconst (v := 1) hx hb dX3_grow_61 (by decide) ?_
      refine lv_iadd hx hb dX3_grow_62 ?_
      refine xr_put (LL' := [[ob h0 2 [.int (v 0), .int (v 1), .int (v 2), .int (v 3), .int (v 4 + 1), .int (v 5), .int (v 6), .int (v 7), .int (v 8), .int (v 9), .int (bz (v 10))]]]) hf hK hw 0 0 rfl rfl in_X3 tyX3_ok nmX3 4 (by decide) q214 (fun _ h => h) rfl rfl rfl (Nat.le_of_ble_eq_true rfl) rfl dX3_grow_63 (fun H locs hw => ?_)
      refine lv_aload_n hx hb dX3_grow_66 rfl (lv_at hl 1 rfl) ?_
      refine lv_iconst (v := 0) hx hb dX3_grow_67 (by decide) ?_
      refine xr_put (LL' := [[ob h0 2 [.int (v 0), .int (v 1), .int (v 2), .int (v 3), .int (v 4 + 1), .int (v 5), .int 0, .int (v 7), .int (v 8), .int (v 9), .int (bz (v 10))]]]) hf hK hw 0 0 rfl rfl in_X3 tyX3_ok nmX3 6 (by decide) q218 (fun _ h => h) rfl rfl rfl (Nat.le_of_ble_eq_true rfl) rfl dX3_grow_68 (fun H locs hw => ?_)
      refine lv_aload_n hx hb dX3_grow_71 rfl (lv_at hl 1 rfl) ?_
      refine lv_dup hx hb dX3_grow_72 rfl ?_
      refine xr_get hf hK hw 0 0 rfl rfl in_X3 7 (by decide) q220 (fun _ h => h) rfl dX3_grow_73 ?_
      refine lv_iconst (v := 1) hx hb dX3_grow_76 (by decide) ?_
      refine lv_iadd hx hb dX3_grow_77 ?_
      refine xr_put (LL' := [[ob h0 2 [.int (v 0), .int (v 1), .int (v 2), .int (v 3), .int (v 4 + 1), .int (v 5), .int 0, .int (v 7 + 1), .int (v 8), .int (v 9), .int (bz (v 10))]]]) hf hK hw 0 0 rfl rfl in_X3 tyX3_ok nmX3 7 (by decide) q220 (fun _ h => h) rfl rfl rfl (Nat.le_of_ble_eq_true rfl) rfl dX3_grow_78 (fun H locs hw => ?_)
      refine lv_goto (tgt := 116) hx hb dX3_grow_81 (by decide) ?_
      refine lv_aload_n hx hb dX3_grow_116 rfl (lv_at hl 1 rfl) ?_
      refine xr_get hf hK hw 0 0 rfl rfl in_X3 0 (by decide) q206 (fun _ h => h) rfl dX3_grow_117 ?_
      refine lv_if_eq (tgt := 143) hx hb dX3_grow_120 (by decide) (fun c_120 => ?_) (fun c_120 => ?_)
      · refine lv_iload_n hx hb dX3_grow_143 rfl (lv_at hl 0 rfl) ?_
        have e9 : f_X3_grow v = (0, (vec [v 0, v 1, v 2, v 3, (v 4 + 1), v 5, 0, (v 7 + 1), v 8, v 9, v 10])) := by
          unfold f_X3_grow
          rw [if_pos c_4]
          rw [← hr1]; try dsimp only
          rw [if_neg c_53]
          rw [if_pos c_120]
          try rfl
        have p0 := congrArg (fun z : Int32 × (Nat → Int32) => some (Value.int z.1)) e9.symm
        have p1 := congrArg (fun z : Int32 × (Nat → Int32) => [trS h0 z.2]) e9.symm
        exact xr_iret hf hr hlocks hw (Nat.le_of_ble_eq_true rfl) (Nat.le_of_ble_eq_true rfl) ⟨p0, p1⟩ dX3_grow_144
      · refine lv_aload_n hx hb dX3_grow_123 rfl (lv_at hl 1 rfl) ?_
        refine xr_get hf hK hw 0 0 rfl rfl in_X3 4 (by decide) q214 (fun _ h => h) rfl dX3_grow_124 ?_
        refine lv_aload_n hx hb dX3_grow_127 rfl (lv_at hl 1 rfl) ?_
        refine xr_get hf hK hw 0 0 rfl rfl in_X3 3 (by decide) q212 (fun _ h => h) rfl dX3_grow_128 ?_
        refine lv_iconst (v := 5) hx hb dX3_grow_131 (by decide) ?_
        refine lv_icmp_ne (tgt := 139) hx hb dX3_grow_132 (by decide) (fun c_132 => ?_) (fun c_132 => ?_)
        · refine lv_iconst (v := 3) hx hb dX3_grow_139 (by decide) ?_
          refine lv_icmp_ge (tgt := 145) hx hb dX3_grow_140 (by decide) (fun c_140 => ?_) (fun c_140 => ?_)
          · refine lv_aload_n hx hb dX3_grow_145 rfl (lv_at hl 1 rfl) ?_
            refine lv_iconst (v := 0) hx hb dX3_grow_146 (by decide) ?_
            refine xr_put (LL' := [[ob h0 2 [.int (v 0), .int (v 1), .int (v 2), .int (v 3), .int 0, .int (v 5), .int 0, .int (v 7 + 1), .int (v 8), .int (v 9), .int (bz (v 10))]]]) hf hK hw 0 0 rfl rfl in_X3 tyX3_ok nmX3 4 (by decide) q214 (fun _ h => h) rfl rfl rfl (Nat.le_of_ble_eq_true rfl) rfl dX3_grow_147 (fun H locs hw => ?_)
            refine lv_aload_n hx hb dX3_grow_150 rfl (lv_at hl 1 rfl) ?_
            refine xr_get hf hK hw 0 0 rfl rfl in_X3 3 (by decide) q212 (fun _ h => h) rfl dX3_grow_151 ?_
            refine lv_iconst (v := 5) hx hb dX3_grow_154 (by decide) ?_
            refine lv_icmp_ne (tgt := 166) hx hb dX3_grow_155 (by decide) (fun _ => ?_) (fun c9 => absurd c9 c_132)
            refine lv_aload_n hx hb dX3_grow_166 rfl (lv_at hl 1 rfl) ?_
            refine lv_iconst (v := 2) hx hb dX3_grow_167 (by decide) ?_
            refine xr_put (LL' := [[ob h0 2 [.int (v 0), .int (v 1), .int (v 2), .int (v 3), .int 0, .int 2, .int 0, .int (v 7 + 1), .int (v 8), .int (v 9), .int (bz (v 10))]]]) hf hK hw 0 0 rfl rfl in_X3 tyX3_ok nmX3 5 (by decide) q216 (fun _ h => h) rfl rfl rfl (Nat.le_of_ble_eq_true rfl) rfl dX3_grow_168 (fun H locs hw => ?_)
            refine lv_iload_n hx hb dX3_grow_171 rfl (lv_at hl 0 rfl) ?_
            have e9 : f_X3_grow v = (0, (vec [v 0, v 1, v 2, v 3, 0, 2, 0, (v 7 + 1), v 8, v 9, v 10])) := by
              unfold f_X3_grow
              rw [if_pos c_4]
              rw [← hr1]; try dsimp only
              rw [if_neg c_53]
              rw [if_neg c_120]
              rw [if_neg c_132]
              rw [if_pos c_140]
              try rfl
            have p0 := congrArg (fun z : Int32 × (Nat → Int32) => some (Value.int z.1)) e9.symm
            have p1 := congrArg (fun z : Int32 × (Nat → Int32) => [trS h0 z.2]) e9.symm
            exact xr_iret hf hr hlocks hw (Nat.le_of_ble_eq_true rfl) (Nat.le_of_ble_eq_true rfl) ⟨p0, p1⟩ dX3_grow_172
          · refine lv_iload_n hx hb dX3_grow_143 rfl (lv_at hl 0 rfl) ?_
            have e9 : f_X3_grow v = (0, (vec [v 0, v 1, v 2, v 3, (v 4 + 1), v 5, 0, (v 7 + 1), v 8, v 9, v 10])) := by
              unfold f_X3_grow
              rw [if_pos c_4]
              rw [← hr1]; try dsimp only
              rw [if_neg c_53]
              rw [if_neg c_120]
              rw [if_neg c_132]
              rw [if_neg c_140]
              try rfl
            have p0 := congrArg (fun z : Int32 × (Nat → Int32) => some (Value.int z.1)) e9.symm
            have p1 := congrArg (fun z : Int32 × (Nat → Int32) => [trS h0 z.2]) e9.symm
            exact xr_iret hf hr hlocks hw (Nat.le_of_ble_eq_true rfl) (Nat.le_of_ble_eq_true rfl) ⟨p0, p1⟩ dX3_grow_144
        · refine lv_iconst (v := 5) hx hb dX3_grow_135 (by decide) ?_
          refine lv_goto (tgt := 140) hx hb dX3_grow_136 (by decide) ?_
          refine lv_icmp_ge (tgt := 145) hx hb dX3_grow_140 (by decide) (fun c_140 => ?_) (fun c_140 => ?_)
          · refine lv_aload_n hx hb dX3_grow_145 rfl (lv_at hl 1 rfl) ?_
            refine lv_iconst (v := 0) hx hb dX3_grow_146 (by decide) ?_
            refine xr_put (LL' := [[ob h0 2 [.int (v 0), .int (v 1), .int (v 2), .int (v 3), .int 0, .int (v 5), .int 0, .int (v 7 + 1), .int (v 8), .int (v 9), .int (bz (v 10))]]]) hf hK hw 0 0 rfl rfl in_X3 tyX3_ok nmX3 4 (by decide) q214 (fun _ h => h) rfl rfl rfl (Nat.le_of_ble_eq_true rfl) rfl dX3_grow_147 (fun H locs hw => ?_)
            refine lv_aload_n hx hb dX3_grow_150 rfl (lv_at hl 1 rfl) ?_
            refine xr_get hf hK hw 0 0 rfl rfl in_X3 3 (by decide) q212 (fun _ h => h) rfl dX3_grow_151 ?_
            refine lv_iconst (v := 5) hx hb dX3_grow_154 (by decide) ?_
            refine lv_icmp_ne (tgt := 166) hx hb dX3_grow_155 (by decide) (fun c9 => absurd c_132 c9) (fun _ => ?_)
            refine lv_aload_n hx hb dX3_grow_158 rfl (lv_at hl 1 rfl) ?_
            refine lv_iconst (v := 1) hx hb dX3_grow_159 (by decide) ?_
            refine xr_put (LL' := [[ob h0 2 [.int (v 0), .int (v 1), .int (v 2), .int (v 3), .int 0, .int (v 5), .int 0, .int (v 7 + 1), .int (v 8), .int (v 9), .int 1]]]) hf hK hw 0 0 rfl rfl in_X3 tyX3_ok nmX3 10 (by decide) q226 (fun _ h => h) rfl rfl rfl (Nat.le_of_ble_eq_true rfl) rfl dX3_grow_160 (fun H locs hw => ?_)
            refine lv_goto (tgt := 171) hx hb dX3_grow_163 (by decide) ?_
            refine lv_iload_n hx hb dX3_grow_171 rfl (lv_at hl 0 rfl) ?_
            have e9 : f_X3_grow v = (0, (vec [v 0, v 1, v 2, v 3, 0, v 5, 0, (v 7 + 1), v 8, v 9, 1])) := by
              unfold f_X3_grow
              rw [if_pos c_4]
              rw [← hr1]; try dsimp only
              rw [if_neg c_53]
              rw [if_neg c_120]
              rw [if_pos c_132]
              rw [if_pos c_140]
              try rfl
            have p0 := congrArg (fun z : Int32 × (Nat → Int32) => some (Value.int z.1)) e9.symm
            have p1 := congrArg (fun z : Int32 × (Nat → Int32) => [trS h0 z.2]) e9.symm
            exact xr_iret hf hr hlocks hw (Nat.le_of_ble_eq_true rfl) (Nat.le_of_ble_eq_true rfl) ⟨p0, p1⟩ dX3_grow_172
          · refine lv_iload_n hx hb dX3_grow_143 rfl (lv_at hl 0 rfl) ?_
            have e9 : f_X3_grow v = (0, (vec [v 0, v 1, v 2, v 3, (v 4 + 1), v 5, 0, (v 7 + 1), v 8, v 9, v 10])) := by
              unfold f_X3_grow
              rw [if_pos c_4]
              rw [← hr1]; try dsimp only
              rw [if_neg c_53]
              rw [if_neg c_120]
              rw [if_pos c_132]
              rw [if_neg c_140]
              try rfl
            have p0 := congrArg (fun z : Int32 × (Nat → Int32) => some (Value.int z.1)) e9.symm
            have p1 := congrArg (fun z : Int32 × (Nat → Int32) => [trS h0 z.2]) e9.symm
            exact xr_iret hf hr hlocks hw (Nat.le_of_ble_eq_true rfl) (Nat.le_of_ble_eq_true rfl) ⟨p0, p1⟩ dX3_grow_144
  · refine lv_aload_n hx hb dX3_grow_7 rfl (lv_at hl 0 rfl) ?_
    refine lv_dup hx hb dX3_grow_8 rfl ?_
    refine xr_get hf hK hw 0 0 rfl rfl in_X3 5 (by decide) q216 (fun _ h => h) rfl dX3_grow_9 ?_
    refine lv_iconst (v := 1) hx hb dX3_grow_12 (by decide) ?_
    refine lv_isub hx hb dX3_grow_13 ?_
    refine xr_put (LL' := [[ob h0 2 [.int (v 0), .int (v 1), .int (v 2), .int (v 3), .int (v 4), .int (v 5 - 1), .int (v 6), .int (v 7), .int (v 8), .int (v 9), .int (bz (v 10))]]]) hf hK hw 0 0 rfl rfl in_X3 tyX3_ok nmX3 5 (by decide) q216 (fun _ h => h) rfl rfl rfl (Nat.le_of_ble_eq_true rfl) rfl dX3_grow_14 (fun H locs hw => ?_)
    refine lv_aload_n hx hb dX3_grow_17 rfl (lv_at hl 0 rfl) ?_
    refine lv_dup hx hb dX3_grow_18 rfl ?_
    refine xr_get hf hK hw 0 0 rfl rfl in_X3 3 (by decide) q212 (fun _ h => h) rfl dX3_grow_19 ?_
    refine lv_aload_n hx hb dX3_grow_22 rfl (lv_at hl 0 rfl) ?_
    refine xr_get hf hK hw 0 0 rfl rfl in_X3 5 (by decide) q216 (fun _ h => h) rfl dX3_grow_23 ?_
    refine lv_if_ne (tgt := 33) hx hb dX3_grow_26 (by decide) (fun c_26 => ?_) (fun c_26 => ?_)
    · refine lv_iconst (v := 0) hx hb dX3_grow_33 (by decide) ?_
      refine xc_SN (rest := [.int (v 3), .ref h0]) (As := [.int 0]) hf hK hA hAz hst (hw.pick [] rfl rfl rfl) (k_X1_one l D dT g z0 0) ⟨va_cnB 1 hts (lw_meth q357) rfl rfl rfl (hK.nw q415 rfl) (hts _ q44) (by decide +kernel) ⟨Nat.le_of_ble_eq_true rfl, Nat.le_of_ble_eq_true rfl⟩, hts _ q356⟩ rfl hl.1 rfl (Nat.le_of_ble_eq_true rfl) dX3_grow_34 ⟨(Nat.le_of_ble_eq_true rfl), (Nat.le_of_ble_eq_true rfl)⟩ (fun _ _ _ _ _ _ h => h.elim) (fun v9 LL1 H locs hp hw => ?_)
      obtain ⟨r1, hr1⟩ : ∃ z, z = f_X1_one 0 := ⟨_, rfl⟩
      rw [← hr1] at hp
      obtain ⟨rfl, rfl⟩ := hp
      have hw : Wd D A s.heap _ _ [[ob h0 2 [.int (v 0), .int (v 1), .int (v 2), .int (v 3), .int (v 4), .int (v 5 - 1), .int (v 6), .int (v 7), .int (v 8), .int (v 9), .int (bz (v 10))]]] := hw
      refine W.eq (g2 := F0 m 37 ls [.int r1, .int (v 3), .ref h0]) rfl ?_
      refine lv_iadd hx hb dX3_grow_37 ?_
      refine xr_put (LL' := [[ob h0 2 [.int (v 0), .int (v 1), .int (v 2), .int (v 3 + r1), .int (v 4), .int (v 5 - 1), .int (v 6), .int (v 7), .int (v 8), .int (v 9), .int (bz (v 10))]]]) hf hK hw 0 0 rfl rfl in_X3 tyX3_ok nmX3 3 (by decide) q212 (fun _ h => h) rfl rfl rfl (Nat.le_of_ble_eq_true rfl) rfl dX3_grow_38 (fun H locs hw => ?_)
      refine lv_iconst (v := 0) hx hb dX3_grow_41 (by decide) ?_
      have e9 : f_X3_grow v = (0, (vec [v 0, v 1, v 2, (v 3 + r1), v 4, (v 5 - 1), v 6, v 7, v 8, v 9, v 10])) := by
        unfold f_X3_grow
        rw [if_neg c_4]
        rw [if_neg c_26]
        rw [← hr1]; try dsimp only
        try rfl
      have p0 := congrArg (fun z : Int32 × (Nat → Int32) => some (Value.int z.1)) e9.symm
      have p1 := congrArg (fun z : Int32 × (Nat → Int32) => [trS h0 z.2]) e9.symm
      exact xr_iret hf hr hlocks hw (Nat.le_of_ble_eq_true rfl) (Nat.le_of_ble_eq_true rfl) ⟨p0, p1⟩ dX3_grow_42
    · refine lv_iconst (v := 1) hx hb dX3_grow_29 (by decide) ?_
      refine lv_goto (tgt := 34) hx hb dX3_grow_30 (by decide) ?_
      refine xc_SN (rest := [.int (v 3), .ref h0]) (As := [.int 1]) hf hK hA hAz hst (hw.pick [] rfl rfl rfl) (k_X1_one l D dT g z0 1) ⟨va_cnB 1 hts (lw_meth q357) rfl rfl rfl (hK.nw q415 rfl) (hts _ q44) (by decide +kernel) ⟨Nat.le_of_ble_eq_true rfl, Nat.le_of_ble_eq_true rfl⟩, hts _ q356⟩ rfl hl.1 rfl (Nat.le_of_ble_eq_true rfl) dX3_grow_34 ⟨(Nat.le_of_ble_eq_true rfl), (Nat.le_of_ble_eq_true rfl)⟩ (fun _ _ _ _ _ _ h => h.elim) (fun v9 LL1 H locs hp hw => ?_)
      obtain ⟨r1, hr1⟩ : ∃ z, z = f_X1_one 1 := ⟨_, rfl⟩
      rw [← hr1] at hp
      obtain ⟨rfl, rfl⟩ := hp
      have hw : Wd D A s.heap _ _ [[ob h0 2 [.int (v 0), .int (v 1), .int (v 2), .int (v 3), .int (v 4), .int (v 5 - 1), .int (v 6), .int (v 7), .int (v 8), .int (v 9), .int (bz (v 10))]]] := hw
      refine W.eq (g2 := F0 m 37 ls [.int r1, .int (v 3), .ref h0]) rfl ?_
      refine lv_iadd hx hb dX3_grow_37 ?_
      refine xr_put (LL' := [[ob h0 2 [.int (v 0), .int (v 1), .int (v 2), .int (v 3 + r1), .int (v 4), .int (v 5 - 1), .int (v 6), .int (v 7), .int (v 8), .int (v 9), .int (bz (v 10))]]]) hf hK hw 0 0 rfl rfl in_X3 tyX3_ok nmX3 3 (by decide) q212 (fun _ h => h) rfl rfl rfl (Nat.le_of_ble_eq_true rfl) rfl dX3_grow_38 (fun H locs hw => ?_)
      refine lv_iconst (v := 0) hx hb dX3_grow_41 (by decide) ?_
      have e9 : f_X3_grow v = (0, (vec [v 0, v 1, v 2, (v 3 + r1), v 4, (v 5 - 1), v 6, v 7, v 8, v 9, v 10])) := by
        unfold f_X3_grow
        rw [if_neg c_4]
        rw [if_pos c_26]
        rw [← hr1]; try dsimp only
        try rfl
      have p0 := congrArg (fun z : Int32 × (Nat → Int32) => some (Value.int z.1)) e9.symm
      have p1 := congrArg (fun z : Int32 × (Nat → Int32) => [trS h0 z.2]) e9.symm
      exact xr_iret hf hr hlocks hw (Nat.le_of_ble_eq_true rfl) (Nat.le_of_ble_eq_true rfl) ⟨p0, p1⟩ dX3_grow_42

def f_X3_pass (v : Nat → Int32) (x : Int32) : Int32 × (Nat → Int32) :=
  (fun r1 : Int32 × (Nat → Int32) =>
    if r1.2 0 = 0 then
      (r1.1, r1.2)
    else
      if (r1.2 0 * r1.2 3) ≤ 200 then
        if r1.2 9 ≤ 0 then
          (fun r2 : Int32 =>
            if r1.2 7 < 4 then
              (fun r3 : Int32 × (Nat → Int32) =>
                ((r1.1 + r3.1), r3.2)) (f_X3_lose (vec [r1.2 0, (r1.2 1 + (imax 0 (imin (r1.2 0 - r1.2 1) ((((r1.2 1 / 4) + r2) + r2) - (x / 3))))), r1.2 2, r1.2 3, r1.2 4, r1.2 5, r1.2 6, r1.2 7, 0, 0, r1.2 10]) ((r1.2 1 + (imax 0 (imin (r1.2 0 - r1.2 1) ((((r1.2 1 / 4) + r2) + r2) - (x / 3))))) / 5))
            else
              (fun r3 : Int32 =>
                (fun r4 : Int32 × (Nat → Int32) =>
                  ((r1.1 + r4.1), r4.2)) (f_X3_lose (vec [r1.2 0, (r1.2 1 + (imax 0 (imin (r1.2 0 - r1.2 1) ((((r1.2 1 / 4) + r2) + r3) - (x / 3))))), r1.2 2, r1.2 3, r1.2 4, r1.2 5, r1.2 6, r1.2 7, 0, 0, r1.2 10]) ((r1.2 1 + (imax 0 (imin (r1.2 0 - r1.2 1) ((((r1.2 1 / 4) + r2) + r3) - (x / 3))))) / 5))) (f_X1_one 1)) (f_X1_one 0)
        else
          (fun r2 : Int32 =>
            if r1.2 7 < 4 then
              (fun r3 : Int32 =>
                (fun r4 : Int32 × (Nat → Int32) =>
                  ((r1.1 + r4.1), r4.2)) (f_X3_lose (vec [r1.2 0, (r1.2 1 + (imax 0 (imin (r1.2 0 - r1.2 1) ((((r1.2 1 / 4) + r2) + r3) - (x / 3))))), r1.2 2, r1.2 3, r1.2 4, r1.2 5, r1.2 6, r1.2 7, 0, 0, r1.2 10]) ((r1.2 1 + (imax 0 (imin (r1.2 0 - r1.2 1) ((((r1.2 1 / 4) + r2) + r3) - (x / 3))))) / 5))) (f_X1_one 0)
            else
              (fun r3 : Int32 × (Nat → Int32) =>
                ((r1.1 + r3.1), r3.2)) (f_X3_lose (vec [r1.2 0, (r1.2 1 + (imax 0 (imin (r1.2 0 - r1.2 1) ((((r1.2 1 / 4) + r2) + r2) - (x / 3))))), r1.2 2, r1.2 3, r1.2 4, r1.2 5, r1.2 6, r1.2 7, 0, 0, r1.2 10]) ((r1.2 1 + (imax 0 (imin (r1.2 0 - r1.2 1) ((((r1.2 1 / 4) + r2) + r2) - (x / 3))))) / 5))) (f_X1_one 1)
      else
        if r1.2 9 ≤ 0 then
          (fun r2 : Int32 =>
            if r1.2 7 < 4 then
              (fun r3 : Int32 × (Nat → Int32) =>
                ((r1.1 + r3.1), r3.2)) (f_X3_lose (vec [r1.2 0, (r1.2 1 + (imax 0 (imin (r1.2 0 - r1.2 1) ((((r1.2 1 / 2) + r2) + r2) - (x / 3))))), r1.2 2, r1.2 3, r1.2 4, r1.2 5, r1.2 6, r1.2 7, 0, 0, r1.2 10]) ((r1.2 1 + (imax 0 (imin (r1.2 0 - r1.2 1) ((((r1.2 1 / 2) + r2) + r2) - (x / 3))))) / 5))
            else
              (fun r3 : Int32 =>
                (fun r4 : Int32 × (Nat → Int32) =>
                  ((r1.1 + r4.1), r4.2)) (f_X3_lose (vec [r1.2 0, (r1.2 1 + (imax 0 (imin (r1.2 0 - r1.2 1) ((((r1.2 1 / 2) + r2) + r3) - (x / 3))))), r1.2 2, r1.2 3, r1.2 4, r1.2 5, r1.2 6, r1.2 7, 0, 0, r1.2 10]) ((r1.2 1 + (imax 0 (imin (r1.2 0 - r1.2 1) ((((r1.2 1 / 2) + r2) + r3) - (x / 3))))) / 5))) (f_X1_one 1)) (f_X1_one 0)
        else
          (fun r2 : Int32 =>
            if r1.2 7 < 4 then
              (fun r3 : Int32 =>
                (fun r4 : Int32 × (Nat → Int32) =>
                  ((r1.1 + r4.1), r4.2)) (f_X3_lose (vec [r1.2 0, (r1.2 1 + (imax 0 (imin (r1.2 0 - r1.2 1) ((((r1.2 1 / 2) + r2) + r3) - (x / 3))))), r1.2 2, r1.2 3, r1.2 4, r1.2 5, r1.2 6, r1.2 7, 0, 0, r1.2 10]) ((r1.2 1 + (imax 0 (imin (r1.2 0 - r1.2 1) ((((r1.2 1 / 2) + r2) + r3) - (x / 3))))) / 5))) (f_X1_one 0)
            else
              (fun r3 : Int32 × (Nat → Int32) =>
                ((r1.1 + r3.1), r3.2)) (f_X3_lose (vec [r1.2 0, (r1.2 1 + (imax 0 (imin (r1.2 0 - r1.2 1) ((((r1.2 1 / 2) + r2) + r2) - (x / 3))))), r1.2 2, r1.2 3, r1.2 4, r1.2 5, r1.2 6, r1.2 7, 0, 0, r1.2 10]) ((r1.2 1 + (imax 0 (imin (r1.2 0 - r1.2 1) ((((r1.2 1 / 2) + r2) + r2) - (x / 3))))) / 5))) (f_X1_one 1)) (f_X3_grow v)
set_option maxHeartbeats 4000000 in
theorem k_X3_pass (l : Launch) (D : va_G) (dT g : Nat → Nat) (z0 : Nat) (h0 : Nat) (v : Nat → Int32) (x : Int32) : Con l D dT g z0 yX3_pass (ws_ yX3_pass cX3_pass 4 (some .int)) ({ frames := 5, cells := 2, slots := 22, locals := 123 }) [.ref h0, .int x] [trS h0 v] (fun r LL => r = some (.int (f_X3_pass v x).1) ∧ LL = [trS h0 (f_X3_pass v x).2]) noX 2 22 := by
  refine Con.of (maxL := 4) (ret := (some .int)) (by first | exact plainFor_of_name (by decide) | decide +kernel) (Nat.le_of_ble_eq_true rfl) ?_
  intro p e s m args below meth c A ls hf hr hlocks hnm hno hK hA hAz hw hl hst
  have hf : CallFix p m c cX3_pass 4 s args lw_all "SilkRow$Tray" := hf
  have hnm : meth.name = "pass" := hnm
  have hx := hf.1
  have hb := hf.2.1
  have hts := hf.2.2.2.2
  have hl : lv_has ls 4 [(0, .ref h0), (1, .int x)] := hl
  have hw : Wd D A s.heap s.heap [] [[ob h0 2 [.int (v 0), .int (v 1), .int (v 2), .int (v 3), .int (v 4), .int (v 5), .int (v 6), .int (v 7), .int (v 8), .int (v 9), .int (bz (v 10))]]] := hw
  refine lv_aload_n hx hb dX3_pass_0 rfl (lv_at hl 0 rfl) ?_
  refine xc_V (rest := []) (As := []) hf hK hA hAz hst (hw.pick [0] rfl rfl rfl) (k_X3_grow l D dT g z0 h0 v) (cwV 0 hts (lw_V q411 q413 qs5 q53 q414) rfl rfl rfl (by decide +kernel) ⟨Nat.le_of_ble_eq_true rfl, Nat.le_of_ble_eq_true rfl⟩) (xr_rv hK hw 0 0 rfl rfl) rfl hl.1 rfl (Nat.le_of_ble_eq_true rfl) dX3_pass_1 ⟨(Nat.le_of_ble_eq_true rfl), (Nat.le_of_ble_eq_true rfl)⟩ (fun _ _ _ _ _ _ h => h.elim) (fun v9 LL1 H locs hp hw => ?_)
  obtain ⟨r1, hr1⟩ : ∃ z, z = f_X3_grow v := ⟨_, rfl⟩
  rw [← hr1] at hp
  obtain ⟨rfl, rfl⟩ := hp
  have hw : Wd D A s.heap _ _ [[ob h0 2 [.int (r1.2 0), .int (r1.2 1), .int (r1.2 2), .int (r1.2 3), .int (r1.2 4), .int (r1.2 5), .int (r1.2 6), .int (r1.2 7), .int (r1.2 8), .int (r1.2 9), .int (bz (r1.2 10))]]] := hw
  refine W.eq (g2 := F0 m 4 ls [.int r1.1]) rfl ?_
  refine lv_istore_n (lv' := [(2, .int r1.1), (0, .ref h0), (1, .int x)]) hx hb dX3_pass_4 rfl hl (by decide) rfl (fun ls hl => ?_)
  refine lv_aload_n hx hb dX3_pass_5 rfl (lv_at hl 1 rfl) ?_
  refine xr_get hf hK hw 0 0 rfl rfl in_X3 0 (by decide) q206 (fun _ h => h) rfl dX3_pass_6 ?_
  refine lv_if_ne (tgt := 14) hx hb dX3_pass_9 (by decide) (fun c_9 => ?_) (fun c_9 => ?_)
  · refine lv_aload_n hx hb dX3_pass_14 rfl (lv_at hl 1 rfl) ?_
    refine xr_get hf hK hw 0 0 rfl rfl in_X3 0 (by decide) q206 (fun _ h => h) rfl dX3_pass_15 ?_
    refine lv_aload_n hx hb dX3_pass_18 rfl (lv_at hl 1 rfl) ?_
    refine xr_get hf hK hw 0 0 rfl rfl in_X3 3 (by decide) q212 (fun _ h => h) rfl dX3_pass_19 ?_
    refine lv_imul hx hb dX3_pass_22 ?_
    refine lv_sipush (v := 200) hx hb dX3_pass_23 (by decide) ?_
    refine lv_icmp_le (tgt := 38) hx hb dX3_pass_26 (by decide) (fun c_26 => ?_) (fun c_26 => ?_)
    · refine lv_aload_n hx hb dX3_pass_38 rfl (lv_at hl 1 rfl) ?_
      refine xr_get hf hK hw 0 0 rfl rfl in_X3 1 (by decide) q208 (fun _ h => h) rfl dX3_pass_39 ?_
      refine lv_iconst (v := 4) hx hb dX3_pass_42 (by decide) ?_
      refine lv_idiv hx hb dX3_pass_43 (by decide) ?_
      refine lv_aload_n hx hb dX3_pass_44 rfl (lv_at hl 1 rfl) ?_
      refine xr_get hf hK hw 0 0 rfl rfl in_X3 9 (by decide) q224 (fun _ h => h) rfl dX3_pass_45 ?_
      refine lv_if_le (tgt := 55) hx hb dX3_pass_48 (by decide) (fun c_48 => ?_) (fun c_48 => ?_)
      · refine lv_iconst (v := 0) hx hb dX3_pass_55 (by decide) ?_
        refine xc_SN (rest := [.int (r1.2 1 / 4)]) (As := [.int 0]) hf hK hA hAz hst (hw.pick [] rfl rfl rfl) (k_X1_one l D dT g z0 0) ⟨va_cnB 1 hts (lw_meth q357) rfl rfl rfl (hK.nw q415 rfl) (hts _ q44) (by decide +kernel) ⟨Nat.le_of_ble_eq_true rfl, Nat.le_of_ble_eq_true rfl⟩, hts _ q356⟩ rfl hl.1 rfl (Nat.le_of_ble_eq_true rfl) dX3_pass_56 ⟨(Nat.le_of_ble_eq_true rfl), (Nat.le_of_ble_eq_true rfl)⟩ (fun _ _ _ _ _ _ h => h.elim) (fun v9 LL1 H locs hp hw => ?_)
        obtain ⟨r2, hr2⟩ : ∃ z, z = f_X1_one 0 := ⟨_, rfl⟩
        rw [← hr2] at hp
        obtain ⟨rfl, rfl⟩ := hp
        have hw : Wd D A s.heap _ _ [[ob h0 2 [.int (r1.2 0), .int (r1.2 1), .int (r1.2 2), .int (r1.2 3), .int (r1.2 4), .int (r1.2 5), .int (r1.2 6), .int (r1.2 7), .int (r1.2 8), .int (r1.2 9), .int (bz (r1.2 10))]]] := hw
        refine W.eq (g2 := F0 m 59 ls [.int r2, .int (r1.2 1 / 4)]) rfl ?_
        refine lv_iadd hx hb dX3_pass_59 ?_
        refine lv_aload_n hx hb dX3_pass_60 rfl (lv_at hl 1 rfl) ?_
        refine xr_get hf hK hw 0 0 rfl rfl in_X3 7 (by decide) q220 (fun _ h => h) rfl dX3_pass_61 ?_
        refine lv_iconst (v := 4) hx hb dX3_pass_64 (by decide) ?_
        refine lv_icmp_lt (tgt := 72) hx hb dX3_pass_65 (by decide) (fun c_65 => ?_) (fun c_65 => ?_)
        · refine lv_iconst (v := 0) hx hb dX3_pass_72 (by decide) ?_
          refine xc_SN (rest := [.int ((r1.2 1 / 4) + r2)]) (As := [.int 0]) hf hK hA hAz hst (hw.pick [] rfl rfl rfl) (k_X1_one l D dT g z0 0) ⟨va_cnB 1 hts (lw_meth q357) rfl rfl rfl (hK.nw q415 rfl) (hts _ q44) (by decide +kernel) ⟨Nat.le_of_ble_eq_true rfl, Nat.le_of_ble_eq_true rfl⟩, hts _ q356⟩ rfl hl.1 rfl (Nat.le_of_ble_eq_true rfl) dX3_pass_73 ⟨(Nat.le_of_ble_eq_true rfl), (Nat.le_of_ble_eq_true rfl)⟩ (fun _ _ _ _ _ _ h => h.elim) (fun v9 LL1 H locs hp hw => ?_)
          rw [← hr2] at hp
          obtain ⟨rfl, rfl⟩ := hp
          have hw : Wd D A s.heap _ _ [[ob h0 2 [.int (r1.2 0), .int (r1.2 1), .int (r1.2 2), .int (r1.2 3), .int (r1.2 4), .int (r1.2 5), .int (r1.2 6), .int (r1.2 7), .int (r1.2 8), .int (r1.2 9), .int (bz (r1.2 10))]]] := hw
          refine W.eq (g2 := F0 m 76 ls [.int r2, .int ((r1.2 1 / 4) + r2)]) rfl ?_
          refine lv_iadd hx hb dX3_pass_76 ?_
          refine lv_iload_n hx hb dX3_pass_77 rfl (lv_at hl 2 rfl) ?_
          refine lv_iconst (v := 3) hx hb dX3_pass_78 (by decide) ?_
          refine lv_idiv hx hb dX3_pass_79 (by decide) ?_
          refine lv_isub hx hb dX3_pass_80 ?_
          refine lv_istore_n (lv' := [(3, .int ((((r1.2 1 / 4) + r2) + r2) - (x / 3))), (2, .int r1.1), (0, .ref h0), (1, .int x)]) hx hb dX3_pass_81 rfl hl (by decide) rfl (fun ls hl => ?_)
          refine lv_aload_n hx hb dX3_pass_82 rfl (lv_at hl 2 rfl) ?_
          refine lv_dup hx hb dX3_pass_83 rfl ?_
          refine xr_get hf hK hw 0 0 rfl rfl in_X3 1 (by decide) q208 (fun _ h => h) rfl dX3_pass_84 ?_
          refine lv_iconst (v := 0) hx hb dX3_pass_87 (by decide) ?_
          refine lv_aload_n hx hb dX3_pass_88 rfl (lv_at hl 2 rfl) ?_
          refine xr_get hf hK hw 0 0 rfl rfl in_X3 0 (by decide) q206 (fun _ h => h) rfl dX3_pass_89 ?_
          refine lv_aload_n hx hb dX3_pass_92 rfl (lv_at hl 2 rfl) ?_
          refine xr_get hf hK hw 0 0 rfl rfl in_X3 1 (by decide) q208 (fun _ h => h) rfl dX3_pass_93 ?_
          refine lv_isub hx hb dX3_pass_96 ?_
          refine lv_iload_n hx hb dX3_pass_97 rfl (lv_at hl 0 rfl) ?_
          refine va_mmin hx hb (by rw [hf.2.2.1]; exact hl.1.symm) hf.2.2.2.1 (hts _ q430) (hts _ q193) (hts _ q50) (hts _ q194) (Nat.le_of_ble_eq_true rfl) (Nat.le_of_ble_eq_true rfl) (Nat.le_of_ble_eq_true rfl) (Nat.le_of_ble_eq_true rfl) dX3_pass_98 ?_
          refine lv_as (y := imin (r1.2 0 - r1.2 1) ((((r1.2 1 / 4) + r2) + r2) - (x / 3))) rfl ?_
          refine va_mmax hx hb (by rw [hf.2.2.1]; exact hl.1.symm) hf.2.2.2.1 (hts _ q421) (hts _ q152) (hts _ q50) (hts _ q153) (Nat.le_of_ble_eq_true rfl) (Nat.le_of_ble_eq_true rfl) (Nat.le_of_ble_eq_true rfl) (Nat.le_of_ble_eq_true rfl) dX3_pass_101 ?_
          refine lv_as (y := imax 0 (imin (r1.2 0 - r1.2 1) ((((r1.2 1 / 4) + r2) + r2) - (x / 3)))) rfl ?_
          refine lv_iadd hx hb dX3_pass_104 ?_
          refine xr_put (LL' := [[ob h0 2 [.int (r1.2 0), .int (r1.2 1 + (imax 0 (imin (r1.2 0 - r1.2 1) ((((r1.2 1 / 4) + r2) + r2) - (x / 3))))), .int (r1.2 2), .int (r1.2 3), .int (r1.2 4), .int (r1.2 5), .int (r1.2 6), .int (r1.2 7), .int (r1.2 8), .int (r1.2 9), .int (bz (r1.2 10))]]]) hf hK hw 0 0 rfl rfl in_X3 tyX3_ok nmX3 1 (by decide) q208 (fun _ h => h) rfl rfl rfl (Nat.le_of_ble_eq_true rfl) rfl dX3_pass_105 (fun H locs hw => ?_)
          refine lv_aload_n hx hb dX3_pass_108 rfl (lv_at hl 2 rfl) ?_
          refine lv_iconst (v := 0) hx hb dX3_pass_109 (by decide) ?_
          refine xr_put (LL' := [[ob h0 2 [.int (r1.2 0), .int (r1.2 1 + (imax 0 (imin (r1.2 0 - r1.2 1) ((((r1.2 1 / 4) + r2) + r2) - (x / 3))))), .int (r1.2 2), .int (r1.2 3), .int (r1.2 4), .int (r1.2 5), .int (r1.2 6), .int (r1.2 7), .int 0, .int (r1.2 9), .int (bz (r1.2 10))]]]) hf hK hw 0 0 rfl rfl in_X3 tyX3_ok nmX3 8 (by decide) q222 (fun _ h => h) rfl rfl rfl (Nat.le_of_ble_eq_true rfl) rfl dX3_pass_110 (fun H locs hw => ?_)
          refine lv_aload_n hx hb dX3_pass_113 rfl (lv_at hl 2 rfl) ?_
          refine lv_iconst (v := 0) hx hb dX3_pass_114 (by decide) ?_
          refine xr_put (LL' := [[ob h0 2 [.int (r1.2 0), .int (r1.2 1 + (imax 0 (imin (r1.2 0 - r1.2 1) ((((r1.2 1 / 4) + r2) + r2) - (x / 3))))), .int (r1.2 2), .int (r1.2 3), .int (r1.2 4), .int (r1.2 5), .int (r1.2 6), .int (r1.2 7), .int 0, .int 0, .int (bz (r1.2 10))]]]) hf hK hw 0 0 rfl rfl in_X3 tyX3_ok nmX3 9 (by decide) q224 (fun _ h => h) rfl rfl rfl (Nat.le_of_ble_eq_true rfl) rfl dX3_pass_115 (fun H locs hw => ?_)
          refine lv_iload_n hx hb dX3_pass_118 rfl (lv_at hl 1 rfl) ?_
          refine lv_aload_n hx hb dX3_pass_119 rfl (lv_at hl 2 rfl) ?_
          refine lv_aload_n hx hb dX3_pass_120 rfl (lv_at hl 2 rfl) ?_
          refine xr_get hf hK hw 0 0 rfl rfl in_X3 1 (by decide) q208 (fun _ h => h) rfl dX3_pass_121 ?_
          refine lv_iconst (v := 5) hx hb dX3_pass_124 (by decide) ?_
          refine lv_idiv hx hb dX3_pass_125 (by decide) ?_
          refine xc_V (rest := [.int r1.1]) (As := [.int ((r1.2 1 + (imax 0 (imin (r1.2 0 - r1.2 1) ((((r1.2 1 / 4) + r2) + r2) - (x / 3))))) / 5)]) hf hK hA hAz hst (hw.pick [0] rfl rfl rfl) (k_X3_lose l D dT g z0 h0 (vec [r1.2 0, (r1.2 1 + (imax 0 (imin (r1.2 0 - r1.2 1) ((((r1.2 1 / 4) + r2) + r2) - (x / 3))))), r1.2 2, r1.2 3, r1.2 4, r1.2 5, r1.2 6, r1.2 7, 0, 0, r1.2 10]) ((r1.2 1 + (imax 0 (imin (r1.2 0 - r1.2 1) ((((r1.2 1 / 4) + r2) + r2) - (x / 3))))) / 5)) (cwV 1 hts (lw_V q417 q418 q419 q53 q420) rfl rfl rfl (by decide +kernel) ⟨Nat.le_of_ble_eq_true rfl, Nat.le_of_ble_eq_true rfl⟩) (xr_rv hK hw 0 0 rfl rfl) rfl hl.1 rfl (Nat.le_of_ble_eq_true rfl) dX3_pass_126 ⟨(Nat.le_of_ble_eq_true rfl), (Nat.le_of_ble_eq_true rfl)⟩ (fun _ _ _ _ _ _ h => h.elim) (fun v9 LL1 H locs hp hw => ?_)
          obtain ⟨r3, hr3⟩ : ∃ z, z = f_X3_lose (vec [r1.2 0, (r1.2 1 + (imax 0 (imin (r1.2 0 - r1.2 1) ((((r1.2 1 / 4) + r2) + r2) - (x / 3))))), r1.2 2, r1.2 3, r1.2 4, r1.2 5, r1.2 6, r1.2 7, 0, 0, r1.2 10]) ((r1.2 1 + (imax 0 (imin (r1.2 0 - r1.2 1) ((((r1.2 1 / 4) + r2) + r2) - (x / 3))))) / 5) := ⟨_, rfl⟩
          rw [← hr3] at hp
          obtain ⟨rfl, rfl⟩ := hp
          have hw : Wd D A s.heap _ _ [[ob h0 2 [.int (r3.2 0), .int (r3.2 1), .int (r3.2 2), .int (r3.2 3), .int (r3.2 4), .int (r3.2 5), .int (r3.2 6), .int (r3.2 7), .int (r3.2 8), .int (r3.2 9), .int (bz (r3.2 10))]]] := hw
          refine W.eq (g2 := F0 m 129 ls [.int r3.1, .int r1.1]) rfl ?_
          refine lv_iadd hx hb dX3_pass_129 ?_
          have e9 : f_X3_pass v x = ((r1.1 + r3.1), r3.2) := by
            unfold f_X3_pass
            rw [← hr1]; try dsimp only
            rw [if_neg c_9]
            rw [if_pos c_26]
            rw [if_pos c_48]
            rw [← hr2]; try dsimp only
            rw [if_pos c_65]
            rw [← hr3]; try dsimp only
            try rfl
          have p0 := congrArg (fun z : Int32 × (Nat → Int32) => some (Value.int z.1)) e9.symm
          have p1 := congrArg (fun z : Int32 × (Nat → Int32) => [trS h0 z.2]) e9.symm
          exact xr_iret hf hr hlocks hw (Nat.le_of_ble_eq_true rfl) (Nat.le_of_ble_eq_true rfl) ⟨p0, p1⟩ dX3_pass_130
        · refine lv_iconst (v := 1) hx hb dX3_pass_68 (by decide) ?_
          refine lv_goto (tgt := 73) hx hb dX3_pass_69 (by decide) ?_
          refine xc_SN (rest := [.int ((r1.2 1 / 4) + r2)]) (As := [.int 1]) hf hK hA hAz hst (hw.pick [] rfl rfl rfl) (k_X1_one l D dT g z0 1) ⟨va_cnB 1 hts (lw_meth q357) rfl rfl rfl (hK.nw q415 rfl) (hts _ q44) (by decide +kernel) ⟨Nat.le_of_ble_eq_true rfl, Nat.le_of_ble_eq_true rfl⟩, hts _ q356⟩ rfl hl.1 rfl (Nat.le_of_ble_eq_true rfl) dX3_pass_73 ⟨(Nat.le_of_ble_eq_true rfl), (Nat.le_of_ble_eq_true rfl)⟩ (fun _ _ _ _ _ _ h => h.elim) (fun v9 LL1 H locs hp hw => ?_)
          obtain ⟨r3, hr3⟩ : ∃ z, z = f_X1_one 1 := ⟨_, rfl⟩
          rw [← hr3] at hp
          obtain ⟨rfl, rfl⟩ := hp
          have hw : Wd D A s.heap _ _ [[ob h0 2 [.int (r1.2 0), .int (r1.2 1), .int (r1.2 2), .int (r1.2 3), .int (r1.2 4), .int (r1.2 5), .int (r1.2 6), .int (r1.2 7), .int (r1.2 8), .int (r1.2 9), .int (bz (r1.2 10))]]] := hw
          refine W.eq (g2 := F0 m 76 ls [.int r3, .int ((r1.2 1 / 4) + r2)]) rfl ?_
          refine lv_iadd hx hb dX3_pass_76 ?_
          refine lv_iload_n hx hb dX3_pass_77 rfl (lv_at hl 2 rfl) ?_
          refine lv_iconst (v := 3) hx hb dX3_pass_78 (by decide) ?_
          refine lv_idiv hx hb dX3_pass_79 (by decide) ?_
          refine lv_isub hx hb dX3_pass_80 ?_
          refine lv_istore_n (lv' := [(3, .int ((((r1.2 1 / 4) + r2) + r3) - (x / 3))), (2, .int r1.1), (0, .ref h0), (1, .int x)]) hx hb dX3_pass_81 rfl hl (by decide) rfl (fun ls hl => ?_)
          refine lv_aload_n hx hb dX3_pass_82 rfl (lv_at hl 2 rfl) ?_
          refine lv_dup hx hb dX3_pass_83 rfl ?_
          refine xr_get hf hK hw 0 0 rfl rfl in_X3 1 (by decide) q208 (fun _ h => h) rfl dX3_pass_84 ?_
          refine lv_iconst (v := 0) hx hb dX3_pass_87 (by decide) ?_
          refine lv_aload_n hx hb dX3_pass_88 rfl (lv_at hl 2 rfl) ?_
          refine xr_get hf hK hw 0 0 rfl rfl in_X3 0 (by decide) q206 (fun _ h => h) rfl dX3_pass_89 ?_
          refine lv_aload_n hx hb dX3_pass_92 rfl (lv_at hl 2 rfl) ?_
          refine xr_get hf hK hw 0 0 rfl rfl in_X3 1 (by decide) q208 (fun _ h => h) rfl dX3_pass_93 ?_
          refine lv_isub hx hb dX3_pass_96 ?_
          refine lv_iload_n hx hb dX3_pass_97 rfl (lv_at hl 0 rfl) ?_
          refine va_mmin hx hb (by rw [hf.2.2.1]; exact hl.1.symm) hf.2.2.2.1 (hts _ q430) (hts _ q193) (hts _ q50) (hts _ q194) (Nat.le_of_ble_eq_true rfl) (Nat.le_of_ble_eq_true rfl) (Nat.le_of_ble_eq_true rfl) (Nat.le_of_ble_eq_true rfl) dX3_pass_98 ?_
          refine lv_as (y := imin (r1.2 0 - r1.2 1) ((((r1.2 1 / 4) + r2) + r3) - (x / 3))) rfl ?_
          refine va_mmax hx hb (by rw [hf.2.2.1]; exact hl.1.symm) hf.2.2.2.1 (hts _ q421) (hts _ q152) (hts _ q50) (hts _ q153) (Nat.le_of_ble_eq_true rfl) (Nat.le_of_ble_eq_true rfl) (Nat.le_of_ble_eq_true rfl) (Nat.le_of_ble_eq_true rfl) dX3_pass_101 ?_
          refine lv_as (y := imax 0 (imin (r1.2 0 - r1.2 1) ((((r1.2 1 / 4) + r2) + r3) - (x / 3)))) rfl ?_
          refine lv_iadd hx hb dX3_pass_104 ?_
          refine xr_put (LL' := [[ob h0 2 [.int (r1.2 0), .int (r1.2 1 + (imax 0 (imin (r1.2 0 - r1.2 1) ((((r1.2 1 / 4) + r2) + r3) - (x / 3))))), .int (r1.2 2), .int (r1.2 3), .int (r1.2 4), .int (r1.2 5), .int (r1.2 6), .int (r1.2 7), .int (r1.2 8), .int (r1.2 9), .int (bz (r1.2 10))]]]) hf hK hw 0 0 rfl rfl in_X3 tyX3_ok nmX3 1 (by decide) q208 (fun _ h => h) rfl rfl rfl (Nat.le_of_ble_eq_true rfl) rfl dX3_pass_105 (fun H locs hw => ?_)
          refine lv_aload_n hx hb dX3_pass_108 rfl (lv_at hl 2 rfl) ?_
          refine lv_iconst (v := 0) hx hb dX3_pass_109 (by decide) ?_
          refine xr_put (LL' := [[ob h0 2 [.int (r1.2 0), .int (r1.2 1 + (imax 0 (imin (r1.2 0 - r1.2 1) ((((r1.2 1 / 4) + r2) + r3) - (x / 3))))), .int (r1.2 2), .int (r1.2 3), .int (r1.2 4), .int (r1.2 5), .int (r1.2 6), .int (r1.2 7), .int 0, .int (r1.2 9), .int (bz (r1.2 10))]]]) hf hK hw 0 0 rfl rfl in_X3 tyX3_ok nmX3 8 (by decide) q222 (fun _ h => h) rfl rfl rfl (Nat.le_of_ble_eq_true rfl) rfl dX3_pass_110 (fun H locs hw => ?_)
          refine lv_aload_n hx hb dX3_pass_113 rfl (lv_at hl 2 rfl) ?_
          refine lv_iconst (v := 0) hx hb dX3_pass_114 (by decide) ?_
          refine xr_put (LL' := [[ob h0 2 [.int (r1.2 0), .int (r1.2 1 + (imax 0 (imin (r1.2 0 - r1.2 1) ((((r1.2 1 / 4) + r2) + r3) - (x / 3))))), .int (r1.2 2), .int (r1.2 3), .int (r1.2 4), .int (r1.2 5), .int (r1.2 6), .int (r1.2 7), .int 0, .int 0, .int (bz (r1.2 10))]]]) hf hK hw 0 0 rfl rfl in_X3 tyX3_ok nmX3 9 (by decide) q224 (fun _ h => h) rfl rfl rfl (Nat.le_of_ble_eq_true rfl) rfl dX3_pass_115 (fun H locs hw => ?_)
          refine lv_iload_n hx hb dX3_pass_118 rfl (lv_at hl 1 rfl) ?_
          refine lv_aload_n hx hb dX3_pass_119 rfl (lv_at hl 2 rfl) ?_
          refine lv_aload_n hx hb dX3_pass_120 rfl (lv_at hl 2 rfl) ?_
          refine xr_get hf hK hw 0 0 rfl rfl in_X3 1 (by decide) q208 (fun _ h => h) rfl dX3_pass_121 ?_
          refine lv_iconst (v := 5) hx hb dX3_pass_124 (by decide) ?_
          refine lv_idiv hx hb dX3_pass_125 (by decide) ?_
          refine xc_V (rest := [.int r1.1]) (As := [.int ((r1.2 1 + (imax 0 (imin (r1.2 0 - r1.2 1) ((((r1.2 1 / 4) + r2) + r3) - (x / 3))))) / 5)]) hf hK hA hAz hst (hw.pick [0] rfl rfl rfl) (k_X3_lose l D dT g z0 h0 (vec [r1.2 0, (r1.2 1 + (imax 0 (imin (r1.2 0 - r1.2 1) ((((r1.2 1 / 4) + r2) + r3) - (x / 3))))), r1.2 2, r1.2 3, r1.2 4, r1.2 5, r1.2 6, r1.2 7, 0, 0, r1.2 10]) ((r1.2 1 + (imax 0 (imin (r1.2 0 - r1.2 1) ((((r1.2 1 / 4) + r2) + r3) - (x / 3))))) / 5)) (cwV 1 hts (lw_V q417 q418 q419 q53 q420) rfl rfl rfl (by decide +kernel) ⟨Nat.le_of_ble_eq_true rfl, Nat.le_of_ble_eq_true rfl⟩) (xr_rv hK hw 0 0 rfl rfl) rfl hl.1 rfl (Nat.le_of_ble_eq_true rfl) dX3_pass_126 ⟨(Nat.le_of_ble_eq_true rfl), (Nat.le_of_ble_eq_true rfl)⟩ (fun _ _ _ _ _ _ h => h.elim) (fun v9 LL1 H locs hp hw => ?_)
          obtain ⟨r4, hr4⟩ : ∃ z, z = f_X3_lose (vec [r1.2 0, (r1.2 1 + (imax 0 (imin (r1.2 0 - r1.2 1) ((((r1.2 1 / 4) + r2) + r3) - (x / 3))))), r1.2 2, r1.2 3, r1.2 4, r1.2 5, r1.2 6, r1.2 7, 0, 0, r1.2 10]) ((r1.2 1 + (imax 0 (imin (r1.2 0 - r1.2 1) ((((r1.2 1 / 4) + r2) + r3) - (x / 3))))) / 5) := ⟨_, rfl⟩
          rw [← hr4] at hp
          obtain ⟨rfl, rfl⟩ := hp
          have hw : Wd D A s.heap _ _ [[ob h0 2 [.int (r4.2 0), .int (r4.2 1), .int (r4.2 2), .int (r4.2 3), .int (r4.2 4), .int (r4.2 5), .int (r4.2 6), .int (r4.2 7), .int (r4.2 8), .int (r4.2 9), .int (bz (r4.2 10))]]] := hw
          refine W.eq (g2 := F0 m 129 ls [.int r4.1, .int r1.1]) rfl ?_
          refine lv_iadd hx hb dX3_pass_129 ?_
          have e9 : f_X3_pass v x = ((r1.1 + r4.1), r4.2) := by
            unfold f_X3_pass
            rw [← hr1]; try dsimp only
            rw [if_neg c_9]
            rw [if_pos c_26]
            rw [if_pos c_48]
            rw [← hr2]; try dsimp only
            rw [if_neg c_65]
            rw [← hr3]; try dsimp only
            rw [← hr4]; try dsimp only
            try rfl
          have p0 := congrArg (fun z : Int32 × (Nat → Int32) => some (Value.int z.1)) e9.symm
          have p1 := congrArg (fun z : Int32 × (Nat → Int32) => [trS h0 z.2]) e9.symm
          exact xr_iret hf hr hlocks hw (Nat.le_of_ble_eq_true rfl) (Nat.le_of_ble_eq_true rfl) ⟨p0, p1⟩ dX3_pass_130
      · refine lv_iconst (v := 1) hx hb dX3_pass_51 (by decide) ?_
        refine lv_goto (tgt := 56) hx hb dX3_pass_52 (by decide) ?_
        refine xc_SN (rest := [.int (r1.2 1 / 4)]) (As := [.int 1]) hf hK hA hAz hst (hw.pick [] rfl rfl rfl) (k_X1_one l D dT g z0 1) ⟨va_cnB 1 hts (lw_meth q357) rfl rfl rfl (hK.nw q415 rfl) (hts _ q44) (by decide +kernel) ⟨Nat.le_of_ble_eq_true rfl, Nat.le_of_ble_eq_true rfl⟩, hts _ q356⟩ rfl hl.1 rfl (Nat.le_of_ble_eq_true rfl) dX3_pass_56 ⟨(Nat.le_of_ble_eq_true rfl), (Nat.le_of_ble_eq_true rfl)⟩ (fun _ _ _ _ _ _ h => h.elim) (fun v9 LL1 H locs hp hw => ?_)
        obtain ⟨r2, hr2⟩ : ∃ z, z = f_X1_one 1 := ⟨_, rfl⟩
        rw [← hr2] at hp
        obtain ⟨rfl, rfl⟩ := hp
        have hw : Wd D A s.heap _ _ [[ob h0 2 [.int (r1.2 0), .int (r1.2 1), .int (r1.2 2), .int (r1.2 3), .int (r1.2 4), .int (r1.2 5), .int (r1.2 6), .int (r1.2 7), .int (r1.2 8), .int (r1.2 9), .int (bz (r1.2 10))]]] := hw
        refine W.eq (g2 := F0 m 59 ls [.int r2, .int (r1.2 1 / 4)]) rfl ?_
        refine lv_iadd hx hb dX3_pass_59 ?_
        refine lv_aload_n hx hb dX3_pass_60 rfl (lv_at hl 1 rfl) ?_
        refine xr_get hf hK hw 0 0 rfl rfl in_X3 7 (by decide) q220 (fun _ h => h) rfl dX3_pass_61 ?_
        refine lv_iconst (v := 4) hx hb dX3_pass_64 (by decide) ?_
        refine lv_icmp_lt (tgt := 72) hx hb dX3_pass_65 (by decide) (fun c_65 => ?_) (fun c_65 => ?_)
        · refine lv_iconst (v := 0) hx hb dX3_pass_72 (by decide) ?_
          refine xc_SN (rest := [.int ((r1.2 1 / 4) + r2)]) (As := [.int 0]) hf hK hA hAz hst (hw.pick [] rfl rfl rfl) (k_X1_one l D dT g z0 0) ⟨va_cnB 1 hts (lw_meth q357) rfl rfl rfl (hK.nw q415 rfl) (hts _ q44) (by decide +kernel) ⟨Nat.le_of_ble_eq_true rfl, Nat.le_of_ble_eq_true rfl⟩, hts _ q356⟩ rfl hl.1 rfl (Nat.le_of_ble_eq_true rfl) dX3_pass_73 ⟨(Nat.le_of_ble_eq_true rfl), (Nat.le_of_ble_eq_true rfl)⟩ (fun _ _ _ _ _ _ h => h.elim) (fun v9 LL1 H locs hp hw => ?_)
          obtain ⟨r3, hr3⟩ : ∃ z, z = f_X1_one 0 := ⟨_, rfl⟩
          rw [← hr3] at hp
          obtain ⟨rfl, rfl⟩ := hp
          have hw : Wd D A s.heap _ _ [[ob h0 2 [.int (r1.2 0), .int (r1.2 1), .int (r1.2 2), .int (r1.2 3), .int (r1.2 4), .int (r1.2 5), .int (r1.2 6), .int (r1.2 7), .int (r1.2 8), .int (r1.2 9), .int (bz (r1.2 10))]]] := hw
          refine W.eq (g2 := F0 m 76 ls [.int r3, .int ((r1.2 1 / 4) + r2)]) rfl ?_
          refine lv_iadd hx hb dX3_pass_76 ?_
          refine lv_iload_n hx hb dX3_pass_77 rfl (lv_at hl 2 rfl) ?_
          refine lv_iconst (v := 3) hx hb dX3_pass_78 (by decide) ?_
          refine lv_idiv hx hb dX3_pass_79 (by decide) ?_
          refine lv_isub hx hb dX3_pass_80 ?_
          refine lv_istore_n (lv' := [(3, .int ((((r1.2 1 / 4) + r2) + r3) - (x / 3))), (2, .int r1.1), (0, .ref h0), (1, .int x)]) hx hb dX3_pass_81 rfl hl (by decide) rfl (fun ls hl => ?_)
          refine lv_aload_n hx hb dX3_pass_82 rfl (lv_at hl 2 rfl) ?_
          refine lv_dup hx hb dX3_pass_83 rfl ?_
          refine xr_get hf hK hw 0 0 rfl rfl in_X3 1 (by decide) q208 (fun _ h => h) rfl dX3_pass_84 ?_
          refine lv_iconst (v := 0) hx hb dX3_pass_87 (by decide) ?_
          refine lv_aload_n hx hb dX3_pass_88 rfl (lv_at hl 2 rfl) ?_
          refine xr_get hf hK hw 0 0 rfl rfl in_X3 0 (by decide) q206 (fun _ h => h) rfl dX3_pass_89 ?_
          refine lv_aload_n hx hb dX3_pass_92 rfl (lv_at hl 2 rfl) ?_
          refine xr_get hf hK hw 0 0 rfl rfl in_X3 1 (by decide) q208 (fun _ h => h) rfl dX3_pass_93 ?_
          refine lv_isub hx hb dX3_pass_96 ?_
          refine lv_iload_n hx hb dX3_pass_97 rfl (lv_at hl 0 rfl) ?_
          refine va_mmin hx hb (by rw [hf.2.2.1]; exact hl.1.symm) hf.2.2.2.1 (hts _ q430) (hts _ q193) (hts _ q50) (hts _ q194) (Nat.le_of_ble_eq_true rfl) (Nat.le_of_ble_eq_true rfl) (Nat.le_of_ble_eq_true rfl) (Nat.le_of_ble_eq_true rfl) dX3_pass_98 ?_
          refine lv_as (y := imin (r1.2 0 - r1.2 1) ((((r1.2 1 / 4) + r2) + r3) - (x / 3))) rfl ?_
          refine va_mmax hx hb (by rw [hf.2.2.1]; exact hl.1.symm) hf.2.2.2.1 (hts _ q421) (hts _ q152) (hts _ q50) (hts _ q153) (Nat.le_of_ble_eq_true rfl) (Nat.le_of_ble_eq_true rfl) (Nat.le_of_ble_eq_true rfl) (Nat.le_of_ble_eq_true rfl) dX3_pass_101 ?_
          refine lv_as (y := imax 0 (imin (r1.2 0 - r1.2 1) ((((r1.2 1 / 4) + r2) + r3) - (x / 3)))) rfl ?_
          refine lv_iadd hx hb dX3_pass_104 ?_
          refine xr_put (LL' := [[ob h0 2 [.int (r1.2 0), .int (r1.2 1 + (imax 0 (imin (r1.2 0 - r1.2 1) ((((r1.2 1 / 4) + r2) + r3) - (x / 3))))), .int (r1.2 2), .int (r1.2 3), .int (r1.2 4), .int (r1.2 5), .int (r1.2 6), .int (r1.2 7), .int (r1.2 8), .int (r1.2 9), .int (bz (r1.2 10))]]]) hf hK hw 0 0 rfl rfl in_X3 tyX3_ok nmX3 1 (by decide) q208 (fun _ h => h) rfl rfl rfl (Nat.le_of_ble_eq_true rfl) rfl dX3_pass_105 (fun H locs hw => ?_)
          refine lv_aload_n hx hb dX3_pass_108 rfl (lv_at hl 2 rfl) ?_
          refine lv_iconst (v := 0) hx hb dX3_pass_109 (by decide) ?_
          refine xr_put (LL' := [[ob h0 2 [.int (r1.2 0), .int (r1.2 1 + (imax 0 (imin (r1.2 0 - r1.2 1) ((((r1.2 1 / 4) + r2) + r3) - (x / 3))))), .int (r1.2 2), .int (r1.2 3), .int (r1.2 4), .int (r1.2 5), .int (r1.2 6), .int (r1.2 7), .int 0, .int (r1.2 9), .int (bz (r1.2 10))]]]) hf hK hw 0 0 rfl rfl in_X3 tyX3_ok nmX3 8 (by decide) q222 (fun _ h => h) rfl rfl rfl (Nat.le_of_ble_eq_true rfl) rfl dX3_pass_110 (fun H locs hw => ?_)
          refine lv_aload_n hx hb dX3_pass_113 rfl (lv_at hl 2 rfl) ?_
          refine lv_iconst (v := 0) hx hb dX3_pass_114 (by decide) ?_
          refine xr_put (LL' := [[ob h0 2 [.int (r1.2 0), .int (r1.2 1 + (imax 0 (imin (r1.2 0 - r1.2 1) ((((r1.2 1 / 4) + r2) + r3) - (x / 3))))), .int (r1.2 2), .int (r1.2 3), .int (r1.2 4), .int (r1.2 5), .int (r1.2 6), .int (r1.2 7), .int 0, .int 0, .int (bz (r1.2 10))]]]) hf hK hw 0 0 rfl rfl in_X3 tyX3_ok nmX3 9 (by decide) q224 (fun _ h => h) rfl rfl rfl (Nat.le_of_ble_eq_true rfl) rfl dX3_pass_115 (fun H locs hw => ?_)
          refine lv_iload_n hx hb dX3_pass_118 rfl (lv_at hl 1 rfl) ?_
          refine lv_aload_n hx hb dX3_pass_119 rfl (lv_at hl 2 rfl) ?_
          refine lv_aload_n hx hb dX3_pass_120 rfl (lv_at hl 2 rfl) ?_
          refine xr_get hf hK hw 0 0 rfl rfl in_X3 1 (by decide) q208 (fun _ h => h) rfl dX3_pass_121 ?_
          refine lv_iconst (v := 5) hx hb dX3_pass_124 (by decide) ?_
          refine lv_idiv hx hb dX3_pass_125 (by decide) ?_
          refine xc_V (rest := [.int r1.1]) (As := [.int ((r1.2 1 + (imax 0 (imin (r1.2 0 - r1.2 1) ((((r1.2 1 / 4) + r2) + r3) - (x / 3))))) / 5)]) hf hK hA hAz hst (hw.pick [0] rfl rfl rfl) (k_X3_lose l D dT g z0 h0 (vec [r1.2 0, (r1.2 1 + (imax 0 (imin (r1.2 0 - r1.2 1) ((((r1.2 1 / 4) + r2) + r3) - (x / 3))))), r1.2 2, r1.2 3, r1.2 4, r1.2 5, r1.2 6, r1.2 7, 0, 0, r1.2 10]) ((r1.2 1 + (imax 0 (imin (r1.2 0 - r1.2 1) ((((r1.2 1 / 4) + r2) + r3) - (x / 3))))) / 5)) (cwV 1 hts (lw_V q417 q418 q419 q53 q420) rfl rfl rfl (by decide +kernel) ⟨Nat.le_of_ble_eq_true rfl, Nat.le_of_ble_eq_true rfl⟩) (xr_rv hK hw 0 0 rfl rfl) rfl hl.1 rfl (Nat.le_of_ble_eq_true rfl) dX3_pass_126 ⟨(Nat.le_of_ble_eq_true rfl), (Nat.le_of_ble_eq_true rfl)⟩ (fun _ _ _ _ _ _ h => h.elim) (fun v9 LL1 H locs hp hw => ?_)
          obtain ⟨r4, hr4⟩ : ∃ z, z = f_X3_lose (vec [r1.2 0, (r1.2 1 + (imax 0 (imin (r1.2 0 - r1.2 1) ((((r1.2 1 / 4) + r2) + r3) - (x / 3))))), r1.2 2, r1.2 3, r1.2 4, r1.2 5, r1.2 6, r1.2 7, 0, 0, r1.2 10]) ((r1.2 1 + (imax 0 (imin (r1.2 0 - r1.2 1) ((((r1.2 1 / 4) + r2) + r3) - (x / 3))))) / 5) := ⟨_, rfl⟩
          rw [← hr4] at hp
          obtain ⟨rfl, rfl⟩ := hp
          have hw : Wd D A s.heap _ _ [[ob h0 2 [.int (r4.2 0), .int (r4.2 1), .int (r4.2 2), .int (r4.2 3), .int (r4.2 4), .int (r4.2 5), .int (r4.2 6), .int (r4.2 7), .int (r4.2 8), .int (r4.2 9), .int (bz (r4.2 10))]]] := hw
          refine W.eq (g2 := F0 m 129 ls [.int r4.1, .int r1.1]) rfl ?_
          refine lv_iadd hx hb dX3_pass_129 ?_
          have e9 : f_X3_pass v x = ((r1.1 + r4.1), r4.2) := by
            unfold f_X3_pass
            rw [← hr1]; try dsimp only
            rw [if_neg c_9]
            rw [if_pos c_26]
            rw [if_neg c_48]
            rw [← hr2]; try dsimp only
            rw [if_pos c_65]
            rw [← hr3]; try dsimp only
            rw [← hr4]; try dsimp only
            try rfl
          have p0 := congrArg (fun z : Int32 × (Nat → Int32) => some (Value.int z.1)) e9.symm
          have p1 := congrArg (fun z : Int32 × (Nat → Int32) => [trS h0 z.2]) e9.symm
          exact xr_iret hf hr hlocks hw (Nat.le_of_ble_eq_true rfl) (Nat.le_of_ble_eq_true rfl) ⟨p0, p1⟩ dX3_pass_130
        · refine lv_iconst (v := 1) hx hb dX3_pass_68 (by decide) ?_
          refine lv_goto (tgt := 73) hx hb dX3_pass_69 (by decide) ?_
          refine xc_SN (rest := [.int ((r1.2 1 / 4) + r2)]) (As := [.int 1]) hf hK hA hAz hst (hw.pick [] rfl rfl rfl) (k_X1_one l D dT g z0 1) ⟨va_cnB 1 hts (lw_meth q357) rfl rfl rfl (hK.nw q415 rfl) (hts _ q44) (by decide +kernel) ⟨Nat.le_of_ble_eq_true rfl, Nat.le_of_ble_eq_true rfl⟩, hts _ q356⟩ rfl hl.1 rfl (Nat.le_of_ble_eq_true rfl) dX3_pass_73 ⟨(Nat.le_of_ble_eq_true rfl), (Nat.le_of_ble_eq_true rfl)⟩ (fun _ _ _ _ _ _ h => h.elim) (fun v9 LL1 H locs hp hw => ?_)
          rw [← hr2] at hp
          obtain ⟨rfl, rfl⟩ := hp
          have hw : Wd D A s.heap _ _ [[ob h0 2 [.int (r1.2 0), .int (r1.2 1), .int (r1.2 2), .int (r1.2 3), .int (r1.2 4), .int (r1.2 5), .int (r1.2 6), .int (r1.2 7), .int (r1.2 8), .int (r1.2 9), .int (bz (r1.2 10))]]] := hw
          refine W.eq (g2 := F0 m 76 ls [.int r2, .int ((r1.2 1 / 4) + r2)]) rfl ?_
          refine lv_iadd hx hb dX3_pass_76 ?_
          refine lv_iload_n hx hb dX3_pass_77 rfl (lv_at hl 2 rfl) ?_
          refine lv_iconst (v := 3) hx hb dX3_pass_78 (by decide) ?_
          refine lv_idiv hx hb dX3_pass_79 (by decide) ?_
          refine lv_isub hx hb dX3_pass_80 ?_
          refine lv_istore_n (lv' := [(3, .int ((((r1.2 1 / 4) + r2) + r2) - (x / 3))), (2, .int r1.1), (0, .ref h0), (1, .int x)]) hx hb dX3_pass_81 rfl hl (by decide) rfl (fun ls hl => ?_)
          refine lv_aload_n hx hb dX3_pass_82 rfl (lv_at hl 2 rfl) ?_
          refine lv_dup hx hb dX3_pass_83 rfl ?_
          refine xr_get hf hK hw 0 0 rfl rfl in_X3 1 (by decide) q208 (fun _ h => h) rfl dX3_pass_84 ?_
          refine lv_iconst (v := 0) hx hb dX3_pass_87 (by decide) ?_
          refine lv_aload_n hx hb dX3_pass_88 rfl (lv_at hl 2 rfl) ?_
          refine xr_get hf hK hw 0 0 rfl rfl in_X3 0 (by decide) q206 (fun _ h => h) rfl dX3_pass_89 ?_
          refine lv_aload_n hx hb dX3_pass_92 rfl (lv_at hl 2 rfl) ?_
          refine xr_get hf hK hw 0 0 rfl rfl in_X3 1 (by decide) q208 (fun _ h => h) rfl dX3_pass_93 ?_
          refine lv_isub hx hb dX3_pass_96 ?_
          refine lv_iload_n hx hb dX3_pass_97 rfl (lv_at hl 0 rfl) ?_
          refine va_mmin hx hb (by rw [hf.2.2.1]; exact hl.1.symm) hf.2.2.2.1 (hts _ q430) (hts _ q193) (hts _ q50) (hts _ q194) (Nat.le_of_ble_eq_true rfl) (Nat.le_of_ble_eq_true rfl) (Nat.le_of_ble_eq_true rfl) (Nat.le_of_ble_eq_true rfl) dX3_pass_98 ?_
          refine lv_as (y := imin (r1.2 0 - r1.2 1) ((((r1.2 1 / 4) + r2) + r2) - (x / 3))) rfl ?_
          refine va_mmax hx hb (by rw [hf.2.2.1]; exact hl.1.symm) hf.2.2.2.1 (hts _ q421) (hts _ q152) (hts _ q50) (hts _ q153) (Nat.le_of_ble_eq_true rfl) (Nat.le_of_ble_eq_true rfl) (Nat.le_of_ble_eq_true rfl) (Nat.le_of_ble_eq_true rfl) dX3_pass_101 ?_
          refine lv_as (y := imax 0 (imin (r1.2 0 - r1.2 1) ((((r1.2 1 / 4) + r2) + r2) - (x / 3)))) rfl ?_
          refine lv_iadd hx hb dX3_pass_104 ?_
          refine xr_put (LL' := [[ob h0 2 [.int (r1.2 0), .int (r1.2 1 + (imax 0 (imin (r1.2 0 - r1.2 1) ((((r1.2 1 / 4) + r2) + r2) - (x / 3))))), .int (r1.2 2), .int (r1.2 3), .int (r1.2 4), .int (r1.2 5), .int (r1.2 6), .int (r1.2 7), .int (r1.2 8), .int (r1.2 9), .int (bz (r1.2 10))]]]) hf hK hw 0 0 rfl rfl in_X3 tyX3_ok nmX3 1 (by decide) q208 (fun _ h => h) rfl rfl rfl (Nat.le_of_ble_eq_true rfl) rfl dX3_pass_105 (fun H locs hw => ?_)
          refine lv_aload_n hx hb dX3_pass_108 rfl (lv_at hl 2 rfl) ?_
          refine lv_iconst (v := 0) hx hb dX3_pass_109 (by decide) ?_
          refine xr_put (LL' := [[ob h0 2 [.int (r1.2 0), .int (r1.2 1 + (imax 0 (imin (r1.2 0 - r1.2 1) ((((r1.2 1 / 4) + r2) + r2) - (x / 3))))), .int (r1.2 2), .int (r1.2 3), .int (r1.2 4), .int (r1.2 5), .int (r1.2 6), .int (r1.2 7), .int 0, .int (r1.2 9), .int (bz (r1.2 10))]]]) hf hK hw 0 0 rfl rfl in_X3 tyX3_ok nmX3 8 (by decide) q222 (fun _ h => h) rfl rfl rfl (Nat.le_of_ble_eq_true rfl) rfl dX3_pass_110 (fun H locs hw => ?_)
          refine lv_aload_n hx hb dX3_pass_113 rfl (lv_at hl 2 rfl) ?_
          refine lv_iconst (v := 0) hx hb dX3_pass_114 (by decide) ?_
          refine xr_put (LL' := [[ob h0 2 [.int (r1.2 0), .int (r1.2 1 + (imax 0 (imin (r1.2 0 - r1.2 1) ((((r1.2 1 / 4) + r2) + r2) - (x / 3))))), .int (r1.2 2), .int (r1.2 3), .int (r1.2 4), .int (r1.2 5), .int (r1.2 6), .int (r1.2 7), .int 0, .int 0, .int (bz (r1.2 10))]]]) hf hK hw 0 0 rfl rfl in_X3 tyX3_ok nmX3 9 (by decide) q224 (fun _ h => h) rfl rfl rfl (Nat.le_of_ble_eq_true rfl) rfl dX3_pass_115 (fun H locs hw => ?_)
          refine lv_iload_n hx hb dX3_pass_118 rfl (lv_at hl 1 rfl) ?_
          refine lv_aload_n hx hb dX3_pass_119 rfl (lv_at hl 2 rfl) ?_
          refine lv_aload_n hx hb dX3_pass_120 rfl (lv_at hl 2 rfl) ?_
          refine xr_get hf hK hw 0 0 rfl rfl in_X3 1 (by decide) q208 (fun _ h => h) rfl dX3_pass_121 ?_
          refine lv_iconst (v := 5) hx hb dX3_pass_124 (by decide) ?_
          refine lv_idiv hx hb dX3_pass_125 (by decide) ?_
          refine xc_V (rest := [.int r1.1]) (As := [.int ((r1.2 1 + (imax 0 (imin (r1.2 0 - r1.2 1) ((((r1.2 1 / 4) + r2) + r2) - (x / 3))))) / 5)]) hf hK hA hAz hst (hw.pick [0] rfl rfl rfl) (k_X3_lose l D dT g z0 h0 (vec [r1.2 0, (r1.2 1 + (imax 0 (imin (r1.2 0 - r1.2 1) ((((r1.2 1 / 4) + r2) + r2) - (x / 3))))), r1.2 2, r1.2 3, r1.2 4, r1.2 5, r1.2 6, r1.2 7, 0, 0, r1.2 10]) ((r1.2 1 + (imax 0 (imin (r1.2 0 - r1.2 1) ((((r1.2 1 / 4) + r2) + r2) - (x / 3))))) / 5)) (cwV 1 hts (lw_V q417 q418 q419 q53 q420) rfl rfl rfl (by decide +kernel) ⟨Nat.le_of_ble_eq_true rfl, Nat.le_of_ble_eq_true rfl⟩) (xr_rv hK hw 0 0 rfl rfl) rfl hl.1 rfl (Nat.le_of_ble_eq_true rfl) dX3_pass_126 ⟨(Nat.le_of_ble_eq_true rfl), (Nat.le_of_ble_eq_true rfl)⟩ (fun _ _ _ _ _ _ h => h.elim) (fun v9 LL1 H locs hp hw => ?_)
          obtain ⟨r3, hr3⟩ : ∃ z, z = f_X3_lose (vec [r1.2 0, (r1.2 1 + (imax 0 (imin (r1.2 0 - r1.2 1) ((((r1.2 1 / 4) + r2) + r2) - (x / 3))))), r1.2 2, r1.2 3, r1.2 4, r1.2 5, r1.2 6, r1.2 7, 0, 0, r1.2 10]) ((r1.2 1 + (imax 0 (imin (r1.2 0 - r1.2 1) ((((r1.2 1 / 4) + r2) + r2) - (x / 3))))) / 5) := ⟨_, rfl⟩
          rw [← hr3] at hp
          obtain ⟨rfl, rfl⟩ := hp
          have hw : Wd D A s.heap _ _ [[ob h0 2 [.int (r3.2 0), .int (r3.2 1), .int (r3.2 2), .int (r3.2 3), .int (r3.2 4), .int (r3.2 5), .int (r3.2 6), .int (r3.2 7), .int (r3.2 8), .int (r3.2 9), .int (bz (r3.2 10))]]] := hw
          refine W.eq (g2 := F0 m 129 ls [.int r3.1, .int r1.1]) rfl ?_
          refine lv_iadd hx hb dX3_pass_129 ?_
          have e9 : f_X3_pass v x = ((r1.1 + r3.1), r3.2) := by
            unfold f_X3_pass
            rw [← hr1]; try dsimp only
            rw [if_neg c_9]
            rw [if_pos c_26]
            rw [if_neg c_48]
            rw [← hr2]; try dsimp only
            rw [if_neg c_65]
            rw [← hr3]; try dsimp only
            try rfl
          have p0 := congrArg (fun z : Int32 × (Nat → Int32) => some (Value.int z.1)) e9.symm
          have p1 := congrArg (fun z : Int32 × (Nat → Int32) => [trS h0 z.2]) e9.symm
          exact xr_iret hf hr hlocks hw (Nat.le_of_ble_eq_true rfl) (Nat.le_of_ble_eq_true rfl) ⟨p0, p1⟩ dX3_pass_130
    · refine lv_aload_n hx hb dX3_pass_29 rfl (lv_at hl 1 rfl) ?_
      refine xr_get hf hK hw 0 0 rfl rfl in_X3 1 (by decide) q208 (fun _ h => h) rfl dX3_pass_30 ?_
      refine lv_iconst (v := 2) hx hb dX3_pass_33 (by decide) ?_
      refine lv_idiv hx hb dX3_pass_34 (by decide) ?_
      refine lv_goto (tgt := 44) hx hb dX3_pass_35 (by decide) ?_
      refine lv_aload_n hx hb dX3_pass_44 rfl (lv_at hl 1 rfl) ?_
      refine xr_get hf hK hw 0 0 rfl rfl in_X3 9 (by decide) q224 (fun _ h => h) rfl dX3_pass_45 ?_
      refine lv_if_le (tgt := 55) hx hb dX3_pass_48 (by decide) (fun c_48 => ?_) (fun c_48 => ?_)
      · refine lv_iconst (v := 0) hx hb dX3_pass_55 (by decide) ?_
        refine xc_SN (rest := [.int (r1.2 1 / 2)]) (As := [.int 0]) hf hK hA hAz hst (hw.pick [] rfl rfl rfl) (k_X1_one l D dT g z0 0) ⟨va_cnB 1 hts (lw_meth q357) rfl rfl rfl (hK.nw q415 rfl) (hts _ q44) (by decide +kernel) ⟨Nat.le_of_ble_eq_true rfl, Nat.le_of_ble_eq_true rfl⟩, hts _ q356⟩ rfl hl.1 rfl (Nat.le_of_ble_eq_true rfl) dX3_pass_56 ⟨(Nat.le_of_ble_eq_true rfl), (Nat.le_of_ble_eq_true rfl)⟩ (fun _ _ _ _ _ _ h => h.elim) (fun v9 LL1 H locs hp hw => ?_)
        obtain ⟨r2, hr2⟩ : ∃ z, z = f_X1_one 0 := ⟨_, rfl⟩
        rw [← hr2] at hp
        obtain ⟨rfl, rfl⟩ := hp
        have hw : Wd D A s.heap _ _ [[ob h0 2 [.int (r1.2 0), .int (r1.2 1), .int (r1.2 2), .int (r1.2 3), .int (r1.2 4), .int (r1.2 5), .int (r1.2 6), .int (r1.2 7), .int (r1.2 8), .int (r1.2 9), .int (bz (r1.2 10))]]] := hw
        refine W.eq (g2 := F0 m 59 ls [.int r2, .int (r1.2 1 / 2)]) rfl ?_
        refine lv_iadd hx hb dX3_pass_59 ?_
        refine lv_aload_n hx hb dX3_pass_60 rfl (lv_at hl 1 rfl) ?_
        refine xr_get hf hK hw 0 0 rfl rfl in_X3 7 (by decide) q220 (fun _ h => h) rfl dX3_pass_61 ?_
        refine lv_iconst (v := 4) hx hb dX3_pass_64 (by decide) ?_
        refine lv_icmp_lt (tgt := 72) hx hb dX3_pass_65 (by decide) (fun c_65 => ?_) (fun c_65 => ?_)
        · refine lv_iconst (v := 0) hx hb dX3_pass_72 (by decide) ?_
          refine xc_SN (rest := [.int ((r1.2 1 / 2) + r2)]) (As := [.int 0]) hf hK hA hAz hst (hw.pick [] rfl rfl rfl) (k_X1_one l D dT g z0 0) ⟨va_cnB 1 hts (lw_meth q357) rfl rfl rfl (hK.nw q415 rfl) (hts _ q44) (by decide +kernel) ⟨Nat.le_of_ble_eq_true rfl, Nat.le_of_ble_eq_true rfl⟩, hts _ q356⟩ rfl hl.1 rfl (Nat.le_of_ble_eq_true rfl) dX3_pass_73 ⟨(Nat.le_of_ble_eq_true rfl), (Nat.le_of_ble_eq_true rfl)⟩ (fun _ _ _ _ _ _ h => h.elim) (fun v9 LL1 H locs hp hw => ?_)
          rw [← hr2] at hp
          obtain ⟨rfl, rfl⟩ := hp
          have hw : Wd D A s.heap _ _ [[ob h0 2 [.int (r1.2 0), .int (r1.2 1), .int (r1.2 2), .int (r1.2 3), .int (r1.2 4), .int (r1.2 5), .int (r1.2 6), .int (r1.2 7), .int (r1.2 8), .int (r1.2 9), .int (bz (r1.2 10))]]] := hw
          refine W.eq (g2 := F0 m 76 ls [.int r2, .int ((r1.2 1 / 2) + r2)]) rfl ?_
          refine lv_iadd hx hb dX3_pass_76 ?_
          refine lv_iload_n hx hb dX3_pass_77 rfl (lv_at hl 2 rfl) ?_
          refine lv_iconst (v := 3) hx hb dX3_pass_78 (by decide) ?_
          refine lv_idiv hx hb dX3_pass_79 (by decide) ?_
          refine lv_isub hx hb dX3_pass_80 ?_
          refine lv_istore_n (lv' := [(3, .int ((((r1.2 1 / 2) + r2) + r2) - (x / 3))), (2, .int r1.1), (0, .ref h0), (1, .int x)]) hx hb dX3_pass_81 rfl hl (by decide) rfl (fun ls hl => ?_)
          refine lv_aload_n hx hb dX3_pass_82 rfl (lv_at hl 2 rfl) ?_
          refine lv_dup hx hb dX3_pass_83 rfl ?_
          refine xr_get hf hK hw 0 0 rfl rfl in_X3 1 (by decide) q208 (fun _ h => h) rfl dX3_pass_84 ?_
          refine lv_iconst (v := 0) hx hb dX3_pass_87 (by decide) ?_
          refine lv_aload_n hx hb dX3_pass_88 rfl (lv_at hl 2 rfl) ?_
          refine xr_get hf hK hw 0 0 rfl rfl in_X3 0 (by decide) q206 (fun _ h => h) rfl dX3_pass_89 ?_
          refine lv_aload_n hx hb dX3_pass_92 rfl (lv_at hl 2 rfl) ?_
          refine xr_get hf hK hw 0 0 rfl rfl in_X3 1 (by decide) q208 (fun _ h => h) rfl dX3_pass_93 ?_
          refine lv_isub hx hb dX3_pass_96 ?_
          refine lv_iload_n hx hb dX3_pass_97 rfl (lv_at hl 0 rfl) ?_
          refine va_mmin hx hb (by rw [hf.2.2.1]; exact hl.1.symm) hf.2.2.2.1 (hts _ q430) (hts _ q193) (hts _ q50) (hts _ q194) (Nat.le_of_ble_eq_true rfl) (Nat.le_of_ble_eq_true rfl) (Nat.le_of_ble_eq_true rfl) (Nat.le_of_ble_eq_true rfl) dX3_pass_98 ?_
          refine lv_as (y := imin (r1.2 0 - r1.2 1) ((((r1.2 1 / 2) + r2) + r2) - (x / 3))) rfl ?_
          refine va_mmax hx hb (by rw [hf.2.2.1]; exact hl.1.symm) hf.2.2.2.1 (hts _ q421) (hts _ q152) (hts _ q50) (hts _ q153) (Nat.le_of_ble_eq_true rfl) (Nat.le_of_ble_eq_true rfl) (Nat.le_of_ble_eq_true rfl) (Nat.le_of_ble_eq_true rfl) dX3_pass_101 ?_
          refine lv_as (y := imax 0 (imin (r1.2 0 - r1.2 1) ((((r1.2 1 / 2) + r2) + r2) - (x / 3)))) rfl ?_
          refine lv_iadd hx hb dX3_pass_104 ?_
          refine xr_put (LL' := [[ob h0 2 [.int (r1.2 0), .int (r1.2 1 + (imax 0 (imin (r1.2 0 - r1.2 1) ((((r1.2 1 / 2) + r2) + r2) - (x / 3))))), .int (r1.2 2), .int (r1.2 3), .int (r1.2 4), .int (r1.2 5), .int (r1.2 6), .int (r1.2 7), .int (r1.2 8), .int (r1.2 9), .int (bz (r1.2 10))]]]) hf hK hw 0 0 rfl rfl in_X3 tyX3_ok nmX3 1 (by decide) q208 (fun _ h => h) rfl rfl rfl (Nat.le_of_ble_eq_true rfl) rfl dX3_pass_105 (fun H locs hw => ?_)
          refine lv_aload_n hx hb dX3_pass_108 rfl (lv_at hl 2 rfl) ?_
          refine lv_iconst (v := 0) hx hb dX3_pass_109 (by decide) ?_
          refine xr_put (LL' := [[ob h0 2 [.int (r1.2 0), .int (r1.2 1 + (imax 0 (imin (r1.2 0 - r1.2 1) ((((r1.2 1 / 2) + r2) + r2) - (x / 3))))), .int (r1.2 2), .int (r1.2 3), .int (r1.2 4), .int (r1.2 5), .int (r1.2 6), .int (r1.2 7), .int 0, .int (r1.2 9), .int (bz (r1.2 10))]]]) hf hK hw 0 0 rfl rfl in_X3 tyX3_ok nmX3 8 (by decide) q222 (fun _ h => h) rfl rfl rfl (Nat.le_of_ble_eq_true rfl) rfl dX3_pass_110 (fun H locs hw => ?_)
          refine lv_aload_n hx hb dX3_pass_113 rfl (lv_at hl 2 rfl) ?_
          refine lv_iconst (v := 0) hx hb dX3_pass_114 (by decide) ?_
          refine xr_put (LL' := [[ob h0 2 [.int (r1.2 0), .int (r1.2 1 + (imax 0 (imin (r1.2 0 - r1.2 1) ((((r1.2 1 / 2) + r2) + r2) - (x / 3))))), .int (r1.2 2), .int (r1.2 3), .int (r1.2 4), .int (r1.2 5), .int (r1.2 6), .int (r1.2 7), .int 0, .int 0, .int (bz (r1.2 10))]]]) hf hK hw 0 0 rfl rfl in_X3 tyX3_ok nmX3 9 (by decide) q224 (fun _ h => h) rfl rfl rfl (Nat.le_of_ble_eq_true rfl) rfl dX3_pass_115 (fun H locs hw => ?_)
          refine lv_iload_n hx hb dX3_pass_118 rfl (lv_at hl 1 rfl) ?_
          refine lv_aload_n hx hb dX3_pass_119 rfl (lv_at hl 2 rfl) ?_
          refine lv_aload_n hx hb dX3_pass_120 rfl (lv_at hl 2 rfl) ?_
          refine xr_get hf hK hw 0 0 rfl rfl in_X3 1 (by decide) q208 (fun _ h => h) rfl dX3_pass_121 ?_
          refine lv_iconst (v := 5) hx hb dX3_pass_124 (by decide) ?_
          refine lv_idiv hx hb dX3_pass_125 (by decide) ?_
          refine xc_V (rest := [.int r1.1]) (As := [.int ((r1.2 1 + (imax 0 (imin (r1.2 0 - r1.2 1) ((((r1.2 1 / 2) + r2) + r2) - (x / 3))))) / 5)]) hf hK hA hAz hst (hw.pick [0] rfl rfl rfl) (k_X3_lose l D dT g z0 h0 (vec [r1.2 0, (r1.2 1 + (imax 0 (imin (r1.2 0 - r1.2 1) ((((r1.2 1 / 2) + r2) + r2) - (x / 3))))), r1.2 2, r1.2 3, r1.2 4, r1.2 5, r1.2 6, r1.2 7, 0, 0, r1.2 10]) ((r1.2 1 + (imax 0 (imin (r1.2 0 - r1.2 1) ((((r1.2 1 / 2) + r2) + r2) - (x / 3))))) / 5)) (cwV 1 hts (lw_V q417 q418 q419 q53 q420) rfl rfl rfl (by decide +kernel) ⟨Nat.le_of_ble_eq_true rfl, Nat.le_of_ble_eq_true rfl⟩) (xr_rv hK hw 0 0 rfl rfl) rfl hl.1 rfl (Nat.le_of_ble_eq_true rfl) dX3_pass_126 ⟨(Nat.le_of_ble_eq_true rfl), (Nat.le_of_ble_eq_true rfl)⟩ (fun _ _ _ _ _ _ h => h.elim) (fun v9 LL1 H locs hp hw => ?_)
          obtain ⟨r3, hr3⟩ : ∃ z, z = f_X3_lose (vec [r1.2 0, (r1.2 1 + (imax 0 (imin (r1.2 0 - r1.2 1) ((((r1.2 1 / 2) + r2) + r2) - (x / 3))))), r1.2 2, r1.2 3, r1.2 4, r1.2 5, r1.2 6, r1.2 7, 0, 0, r1.2 10]) ((r1.2 1 + (imax 0 (imin (r1.2 0 - r1.2 1) ((((r1.2 1 / 2) + r2) + r2) - (x / 3))))) / 5) := ⟨_, rfl⟩
          rw [← hr3] at hp
          obtain ⟨rfl, rfl⟩ := hp
          have hw : Wd D A s.heap _ _ [[ob h0 2 [.int (r3.2 0), .int (r3.2 1), .int (r3.2 2), .int (r3.2 3), .int (r3.2 4), .int (r3.2 5), .int (r3.2 6), .int (r3.2 7), .int (r3.2 8), .int (r3.2 9), .int (bz (r3.2 10))]]] := hw
          refine W.eq (g2 := F0 m 129 ls [.int r3.1, .int r1.1]) rfl ?_
          refine lv_iadd hx hb dX3_pass_129 ?_
          have e9 : f_X3_pass v x = ((r1.1 + r3.1), r3.2) := by
            unfold f_X3_pass
            rw [← hr1]; try dsimp only
            rw [if_neg c_9]
            rw [if_neg c_26]
            rw [if_pos c_48]
            rw [← hr2]; try dsimp only
            rw [if_pos c_65]
            rw [← hr3]; try dsimp only
            try rfl
          have p0 := congrArg (fun z : Int32 × (Nat → Int32) => some (Value.int z.1)) e9.symm
          have p1 := congrArg (fun z : Int32 × (Nat → Int32) => [trS h0 z.2]) e9.symm
          exact xr_iret hf hr hlocks hw (Nat.le_of_ble_eq_true rfl) (Nat.le_of_ble_eq_true rfl) ⟨p0, p1⟩ dX3_pass_130
        · refine lv_iconst (v := 1) hx hb dX3_pass_68 (by decide) ?_
          refine lv_goto (tgt := 73) hx hb dX3_pass_69 (by decide) ?_
          refine xc_SN (rest := [.int ((r1.2 1 / 2) + r2)]) (As := [.int 1]) hf hK hA hAz hst (hw.pick [] rfl rfl rfl) (k_X1_one l D dT g z0 1) ⟨va_cnB 1 hts (lw_meth q357) rfl rfl rfl (hK.nw q415 rfl) (hts _ q44) (by decide +kernel) ⟨Nat.le_of_ble_eq_true rfl, Nat.le_of_ble_eq_true rfl⟩, hts _ q356⟩ rfl hl.1 rfl (Nat.le_of_ble_eq_true rfl) dX3_pass_73 ⟨(Nat.le_of_ble_eq_true rfl), (Nat.le_of_ble_eq_true rfl)⟩ (fun _ _ _ _ _ _ h => h.elim) (fun v9 LL1 H locs hp hw => ?_)
          obtain ⟨r3, hr3⟩ : ∃ z, z = f_X1_one 1 := ⟨_, rfl⟩
          rw [← hr3] at hp
          obtain ⟨rfl, rfl⟩ := hp
          have hw : Wd D A s.heap _ _ [[ob h0 2 [.int (r1.2 0), .int (r1.2 1), .int (r1.2 2), .int (r1.2 3), .int (r1.2 4), .int (r1.2 5), .int (r1.2 6), .int (r1.2 7), .int (r1.2 8), .int (r1.2 9), .int (bz (r1.2 10))]]] := hw
          refine W.eq (g2 := F0 m 76 ls [.int r3, .int ((r1.2 1 / 2) + r2)]) rfl ?_
          refine lv_iadd hx hb dX3_pass_76 ?_
          refine lv_iload_n hx hb dX3_pass_77 rfl (lv_at hl 2 rfl) ?_
          refine lv_iconst (v := 3) hx hb dX3_pass_78 (by decide) ?_
          refine lv_idiv hx hb dX3_pass_79 (by decide) ?_
          refine lv_isub hx hb dX3_pass_80 ?_
          refine lv_istore_n (lv' := [(3, .int ((((r1.2 1 / 2) + r2) + r3) - (x / 3))), (2, .int r1.1), (0, .ref h0), (1, .int x)]) hx hb dX3_pass_81 rfl hl (by decide) rfl (fun ls hl => ?_)
          refine lv_aload_n hx hb dX3_pass_82 rfl (lv_at hl 2 rfl) ?_
          refine lv_dup hx hb dX3_pass_83 rfl ?_
          refine xr_get hf hK hw 0 0 rfl rfl in_X3 1 (by decide) q208 (fun _ h => h) rfl dX3_pass_84 ?_
          refine lv_iconst (v := 0) hx hb dX3_pass_87 (by decide) ?_
          refine lv_aload_n hx hb dX3_pass_88 rfl (lv_at hl 2 rfl) ?_
          refine xr_get hf hK hw 0 0 rfl rfl in_X3 0 (by decide) q206 (fun _ h => h) rfl dX3_pass_89 ?_
          refine lv_aload_n hx hb dX3_pass_92 rfl (lv_at hl 2 rfl) ?_
          refine xr_get hf hK hw 0 0 rfl rfl in_X3 1 (by decide) q208 (fun _ h => h) rfl dX3_pass_93 ?_
          refine lv_isub hx hb dX3_pass_96 ?_
          refine lv_iload_n hx hb dX3_pass_97 rfl (lv_at hl 0 rfl) ?_
          refine va_mmin hx hb (by rw [hf.2.2.1]; exact hl.1.symm) hf.2.2.2.1 (hts _ q430) (hts _ q193) (hts _ q50) (hts _ q194) (Nat.le_of_ble_eq_true rfl) (Nat.le_of_ble_eq_true rfl) (Nat.le_of_ble_eq_true rfl) (Nat.le_of_ble_eq_true rfl) dX3_pass_98 ?_
          refine lv_as (y := imin (r1.2 0 - r1.2 1) ((((r1.2 1 / 2) + r2) + r3) - (x / 3))) rfl ?_
          refine va_mmax hx hb (by rw [hf.2.2.1]; exact hl.1.symm) hf.2.2.2.1 (hts _ q421) (hts _ q152) (hts _ q50) (hts _ q153) (Nat.le_of_ble_eq_true rfl) (Nat.le_of_ble_eq_true rfl) (Nat.le_of_ble_eq_true rfl) (Nat.le_of_ble_eq_true rfl) dX3_pass_101 ?_
          refine lv_as (y := imax 0 (imin (r1.2 0 - r1.2 1) ((((r1.2 1 / 2) + r2) + r3) - (x / 3)))) rfl ?_
          refine lv_iadd hx hb dX3_pass_104 ?_
          refine xr_put (LL' := [[ob h0 2 [.int (r1.2 0), .int (r1.2 1 + (imax 0 (imin (r1.2 0 - r1.2 1) ((((r1.2 1 / 2) + r2) + r3) - (x / 3))))), .int (r1.2 2), .int (r1.2 3), .int (r1.2 4), .int (r1.2 5), .int (r1.2 6), .int (r1.2 7), .int (r1.2 8), .int (r1.2 9), .int (bz (r1.2 10))]]]) hf hK hw 0 0 rfl rfl in_X3 tyX3_ok nmX3 1 (by decide) q208 (fun _ h => h) rfl rfl rfl (Nat.le_of_ble_eq_true rfl) rfl dX3_pass_105 (fun H locs hw => ?_)
          refine lv_aload_n hx hb dX3_pass_108 rfl (lv_at hl 2 rfl) ?_
          refine lv_iconst (v := 0) hx hb dX3_pass_109 (by decide) ?_
          refine xr_put (LL' := [[ob h0 2 [.int (r1.2 0), .int (r1.2 1 + (imax 0 (imin (r1.2 0 - r1.2 1) ((((r1.2 1 / 2) + r2) + r3) - (x / 3))))), .int (r1.2 2), .int (r1.2 3), .int (r1.2 4), .int (r1.2 5), .int (r1.2 6), .int (r1.2 7), .int 0, .int (r1.2 9), .int (bz (r1.2 10))]]]) hf hK hw 0 0 rfl rfl in_X3 tyX3_ok nmX3 8 (by decide) q222 (fun _ h => h) rfl rfl rfl (Nat.le_of_ble_eq_true rfl) rfl dX3_pass_110 (fun H locs hw => ?_)
          refine lv_aload_n hx hb dX3_pass_113 rfl (lv_at hl 2 rfl) ?_
          refine lv_iconst (v := 0) hx hb dX3_pass_114 (by decide) ?_
          refine xr_put (LL' := [[ob h0 2 [.int (r1.2 0), .int (r1.2 1 + (imax 0 (imin (r1.2 0 - r1.2 1) ((((r1.2 1 / 2) + r2) + r3) - (x / 3))))), .int (r1.2 2), .int (r1.2 3), .int (r1.2 4), .int (r1.2 5), .int (r1.2 6), .int (r1.2 7), .int 0, .int 0, .int (bz (r1.2 10))]]]) hf hK hw 0 0 rfl rfl in_X3 tyX3_ok nmX3 9 (by decide) q224 (fun _ h => h) rfl rfl rfl (Nat.le_of_ble_eq_true rfl) rfl dX3_pass_115 (fun H locs hw => ?_)
          refine lv_iload_n hx hb dX3_pass_118 rfl (lv_at hl 1 rfl) ?_
          refine lv_aload_n hx hb dX3_pass_119 rfl (lv_at hl 2 rfl) ?_
          refine lv_aload_n hx hb dX3_pass_120 rfl (lv_at hl 2 rfl) ?_
          refine xr_get hf hK hw 0 0 rfl rfl in_X3 1 (by decide) q208 (fun _ h => h) rfl dX3_pass_121 ?_
          refine lv_iconst (v := 5) hx hb dX3_pass_124 (by decide) ?_
          refine lv_idiv hx hb dX3_pass_125 (by decide) ?_
          refine xc_V (rest := [.int r1.1]) (As := [.int ((r1.2 1 + (imax 0 (imin (r1.2 0 - r1.2 1) ((((r1.2 1 / 2) + r2) + r3) - (x / 3))))) / 5)]) hf hK hA hAz hst (hw.pick [0] rfl rfl rfl) (k_X3_lose l D dT g z0 h0 (vec [r1.2 0, (r1.2 1 + (imax 0 (imin (r1.2 0 - r1.2 1) ((((r1.2 1 / 2) + r2) + r3) - (x / 3))))), r1.2 2, r1.2 3, r1.2 4, r1.2 5, r1.2 6, r1.2 7, 0, 0, r1.2 10]) ((r1.2 1 + (imax 0 (imin (r1.2 0 - r1.2 1) ((((r1.2 1 / 2) + r2) + r3) - (x / 3))))) / 5)) (cwV 1 hts (lw_V q417 q418 q419 q53 q420) rfl rfl rfl (by decide +kernel) ⟨Nat.le_of_ble_eq_true rfl, Nat.le_of_ble_eq_true rfl⟩) (xr_rv hK hw 0 0 rfl rfl) rfl hl.1 rfl (Nat.le_of_ble_eq_true rfl) dX3_pass_126 ⟨(Nat.le_of_ble_eq_true rfl), (Nat.le_of_ble_eq_true rfl)⟩ (fun _ _ _ _ _ _ h => h.elim) (fun v9 LL1 H locs hp hw => ?_)
          obtain ⟨r4, hr4⟩ : ∃ z, z = f_X3_lose (vec [r1.2 0, (r1.2 1 + (imax 0 (imin (r1.2 0 - r1.2 1) ((((r1.2 1 / 2) + r2) + r3) - (x / 3))))), r1.2 2, r1.2 3, r1.2 4, r1.2 5, r1.2 6, r1.2 7, 0, 0, r1.2 10]) ((r1.2 1 + (imax 0 (imin (r1.2 0 - r1.2 1) ((((r1.2 1 / 2) + r2) + r3) - (x / 3))))) / 5) := ⟨_, rfl⟩
          rw [← hr4] at hp
          obtain ⟨rfl, rfl⟩ := hp
          have hw : Wd D A s.heap _ _ [[ob h0 2 [.int (r4.2 0), .int (r4.2 1), .int (r4.2 2), .int (r4.2 3), .int (r4.2 4), .int (r4.2 5), .int (r4.2 6), .int (r4.2 7), .int (r4.2 8), .int (r4.2 9), .int (bz (r4.2 10))]]] := hw
          refine W.eq (g2 := F0 m 129 ls [.int r4.1, .int r1.1]) rfl ?_
          refine lv_iadd hx hb dX3_pass_129 ?_
          have e9 : f_X3_pass v x = ((r1.1 + r4.1), r4.2) := by
            unfold f_X3_pass
            rw [← hr1]; try dsimp only
            rw [if_neg c_9]
            rw [if_neg c_26]
            rw [if_pos c_48]
            rw [← hr2]; try dsimp only
            rw [if_neg c_65]
            rw [← hr3]; try dsimp only
            rw [← hr4]; try dsimp only
            try rfl
          have p0 := congrArg (fun z : Int32 × (Nat → Int32) => some (Value.int z.1)) e9.symm
          have p1 := congrArg (fun z : Int32 × (Nat → Int32) => [trS h0 z.2]) e9.symm
          exact xr_iret hf hr hlocks hw (Nat.le_of_ble_eq_true rfl) (Nat.le_of_ble_eq_true rfl) ⟨p0, p1⟩ dX3_pass_130
      · refine lv_iconst (v := 1) hx hb dX3_pass_51 (by decide) ?_
        refine lv_goto (tgt := 56) hx hb dX3_pass_52 (by decide) ?_
        refine xc_SN (rest := [.int (r1.2 1 / 2)]) (As := [.int 1]) hf hK hA hAz hst (hw.pick [] rfl rfl rfl) (k_X1_one l D dT g z0 1) ⟨va_cnB 1 hts (lw_meth q357) rfl rfl rfl (hK.nw q415 rfl) (hts _ q44) (by decide +kernel) ⟨Nat.le_of_ble_eq_true rfl, Nat.le_of_ble_eq_true rfl⟩, hts _ q356⟩ rfl hl.1 rfl (Nat.le_of_ble_eq_true rfl) dX3_pass_56 ⟨(Nat.le_of_ble_eq_true rfl), (Nat.le_of_ble_eq_true rfl)⟩ (fun _ _ _ _ _ _ h => h.elim) (fun v9 LL1 H locs hp hw => ?_)
        obtain ⟨r2, hr2⟩ : ∃ z, z = f_X1_one 1 := ⟨_, rfl⟩
        rw [← hr2] at hp
        obtain ⟨rfl, rfl⟩ := hp
        have hw : Wd D A s.heap _ _ [[ob h0 2 [.int (r1.2 0), .int (r1.2 1), .int (r1.2 2), .int (r1.2 3), .int (r1.2 4), .int (r1.2 5), .int (r1.2 6), .int (r1.2 7), .int (r1.2 8), .int (r1.2 9), .int (bz (r1.2 10))]]] := hw
        refine W.eq (g2 := F0 m 59 ls [.int r2, .int (r1.2 1 / 2)]) rfl ?_
        refine lv_iadd hx hb dX3_pass_59 ?_
        refine lv_aload_n hx hb dX3_pass_60 rfl (lv_at hl 1 rfl) ?_
        refine xr_get hf hK hw 0 0 rfl rfl in_X3 7 (by decide) q220 (fun _ h => h) rfl dX3_pass_61 ?_
        refine lv_iconst (v := 4) hx hb dX3_pass_64 (by decide) ?_
        refine lv_icmp_lt (tgt := 72) hx hb dX3_pass_65 (by decide) (fun c_65 => ?_) (fun c_65 => ?_)
        · refine lv_iconst (v := 0) hx hb dX3_pass_72 (by decide) ?_
          refine xc_SN (rest := [.int ((r1.2 1 / 2) + r2)]) (As := [.int 0]) hf hK hA hAz hst (hw.pick [] rfl rfl rfl) (k_X1_one l D dT g z0 0) ⟨va_cnB 1 hts (lw_meth q357) rfl rfl rfl (hK.nw q415 rfl) (hts _ q44) (by decide +kernel) ⟨Nat.le_of_ble_eq_true rfl, Nat.le_of_ble_eq_true rfl⟩, hts _ q356⟩ rfl hl.1 rfl (Nat.le_of_ble_eq_true rfl) dX3_pass_73 ⟨(Nat.le_of_ble_eq_true rfl), (Nat.le_of_ble_eq_true rfl)⟩ (fun _ _ _ _ _ _ h => h.elim) (fun v9 LL1 H locs hp hw => ?_)
          obtain ⟨r3, hr3⟩ : ∃ z, z = f_X1_one 0 := ⟨_, rfl⟩
          rw [← hr3] at hp
          obtain ⟨rfl, rfl⟩ := hp
          have hw : Wd D A s.heap _ _ [[ob h0 2 [.int (r1.2 0), .int (r1.2 1), .int (r1.2 2), .int (r1.2 3), .int (r1.2 4), .int (r1.2 5), .int (r1.2 6), .int (r1.2 7), .int (r1.2 8), .int (r1.2 9), .int (bz (r1.2 10))]]] := hw
          refine W.eq (g2 := F0 m 76 ls [.int r3, .int ((r1.2 1 / 2) + r2)]) rfl ?_
          refine lv_iadd hx hb dX3_pass_76 ?_
          refine lv_iload_n hx hb dX3_pass_77 rfl (lv_at hl 2 rfl) ?_
          refine lv_iconst (v := 3) hx hb dX3_pass_78 (by decide) ?_
          refine lv_idiv hx hb dX3_pass_79 (by decide) ?_
          refine lv_isub hx hb dX3_pass_80 ?_
          refine lv_istore_n (lv' := [(3, .int ((((r1.2 1 / 2) + r2) + r3) - (x / 3))), (2, .int r1.1), (0, .ref h0), (1, .int x)]) hx hb dX3_pass_81 rfl hl (by decide) rfl (fun ls hl => ?_)
          refine lv_aload_n hx hb dX3_pass_82 rfl (lv_at hl 2 rfl) ?_
          refine lv_dup hx hb dX3_pass_83 rfl ?_
          refine xr_get hf hK hw 0 0 rfl rfl in_X3 1 (by decide) q208 (fun _ h => h) rfl dX3_pass_84 ?_
          refine lv_iconst (v := 0) hx hb dX3_pass_87 (by decide) ?_
          refine lv_aload_n hx hb dX3_pass_88 rfl (lv_at hl 2 rfl) ?_
          refine xr_get hf hK hw 0 0 rfl rfl in_X3 0 (by decide) q206 (fun _ h => h) rfl dX3_pass_89 ?_
          refine lv_aload_n hx hb dX3_pass_92 rfl (lv_at hl 2 rfl) ?_
          refine xr_get hf hK hw 0 0 rfl rfl in_X3 1 (by decide) q208 (fun _ h => h) rfl dX3_pass_93 ?_
          refine lv_isub hx hb dX3_pass_96 ?_
          refine lv_iload_n hx hb dX3_pass_97 rfl (lv_at hl 0 rfl) ?_
          refine va_mmin hx hb (by rw [hf.2.2.1]; exact hl.1.symm) hf.2.2.2.1 (hts _ q430) (hts _ q193) (hts _ q50) (hts _ q194) (Nat.le_of_ble_eq_true rfl) (Nat.le_of_ble_eq_true rfl) (Nat.le_of_ble_eq_true rfl) (Nat.le_of_ble_eq_true rfl) dX3_pass_98 ?_
          refine lv_as (y := imin (r1.2 0 - r1.2 1) ((((r1.2 1 / 2) + r2) + r3) - (x / 3))) rfl ?_
          refine va_mmax hx hb (by rw [hf.2.2.1]; exact hl.1.symm) hf.2.2.2.1 (hts _ q421) (hts _ q152) (hts _ q50) (hts _ q153) (Nat.le_of_ble_eq_true rfl) (Nat.le_of_ble_eq_true rfl) (Nat.le_of_ble_eq_true rfl) (Nat.le_of_ble_eq_true rfl) dX3_pass_101 ?_
          refine lv_as (y := imax 0 (imin (r1.2 0 - r1.2 1) ((((r1.2 1 / 2) + r2) + r3) - (x / 3)))) rfl ?_
          refine lv_iadd hx hb dX3_pass_104 ?_
          refine xr_put (LL' := [[ob h0 2 [.int (r1.2 0), .int (r1.2 1 + (imax 0 (imin (r1.2 0 - r1.2 1) ((((r1.2 1 / 2) + r2) + r3) - (x / 3))))), .int (r1.2 2), .int (r1.2 3), .int (r1.2 4), .int (r1.2 5), .int (r1.2 6), .int (r1.2 7), .int (r1.2 8), .int (r1.2 9), .int (bz (r1.2 10))]]]) hf hK hw 0 0 rfl rfl in_X3 tyX3_ok nmX3 1 (by decide) q208 (fun _ h => h) rfl rfl rfl (Nat.le_of_ble_eq_true rfl) rfl dX3_pass_105 (fun H locs hw => ?_)
          refine lv_aload_n hx hb dX3_pass_108 rfl (lv_at hl 2 rfl) ?_
          refine lv_iconst (v := 0) hx hb dX3_pass_109 (by decide) ?_
          refine xr_put (LL' := [[ob h0 2 [.int (r1.2 0), .int (r1.2 1 + (imax 0 (imin (r1.2 0 - r1.2 1) ((((r1.2 1 / 2) + r2) + r3) - (x / 3))))), .int (r1.2 2), .int (r1.2 3), .int (r1.2 4), .int (r1.2 5), .int (r1.2 6), .int (r1.2 7), .int 0, .int (r1.2 9), .int (bz (r1.2 10))]]]) hf hK hw 0 0 rfl rfl in_X3 tyX3_ok nmX3 8 (by decide) q222 (fun _ h => h) rfl rfl rfl (Nat.le_of_ble_eq_true rfl) rfl dX3_pass_110 (fun H locs hw => ?_)
          refine lv_aload_n hx hb dX3_pass_113 rfl (lv_at hl 2 rfl) ?_
          refine lv_iconst (v := 0) hx hb dX3_pass_114 (by decide) ?_
          refine xr_put (LL' := [[ob h0 2 [.int (r1.2 0), .int (r1.2 1 + (imax 0 (imin (r1.2 0 - r1.2 1) ((((r1.2 1 / 2) + r2) + r3) - (x / 3))))), .int (r1.2 2), .int (r1.2 3), .int (r1.2 4), .int (r1.2 5), .int (r1.2 6), .int (r1.2 7), .int 0, .int 0, .int (bz (r1.2 10))]]]) hf hK hw 0 0 rfl rfl in_X3 tyX3_ok nmX3 9 (by decide) q224 (fun _ h => h) rfl rfl rfl (Nat.le_of_ble_eq_true rfl) rfl dX3_pass_115 (fun H locs hw => ?_)
          refine lv_iload_n hx hb dX3_pass_118 rfl (lv_at hl 1 rfl) ?_
          refine lv_aload_n hx hb dX3_pass_119 rfl (lv_at hl 2 rfl) ?_
          refine lv_aload_n hx hb dX3_pass_120 rfl (lv_at hl 2 rfl) ?_
          refine xr_get hf hK hw 0 0 rfl rfl in_X3 1 (by decide) q208 (fun _ h => h) rfl dX3_pass_121 ?_
          refine lv_iconst (v := 5) hx hb dX3_pass_124 (by decide) ?_
          refine lv_idiv hx hb dX3_pass_125 (by decide) ?_
          refine xc_V (rest := [.int r1.1]) (As := [.int ((r1.2 1 + (imax 0 (imin (r1.2 0 - r1.2 1) ((((r1.2 1 / 2) + r2) + r3) - (x / 3))))) / 5)]) hf hK hA hAz hst (hw.pick [0] rfl rfl rfl) (k_X3_lose l D dT g z0 h0 (vec [r1.2 0, (r1.2 1 + (imax 0 (imin (r1.2 0 - r1.2 1) ((((r1.2 1 / 2) + r2) + r3) - (x / 3))))), r1.2 2, r1.2 3, r1.2 4, r1.2 5, r1.2 6, r1.2 7, 0, 0, r1.2 10]) ((r1.2 1 + (imax 0 (imin (r1.2 0 - r1.2 1) ((((r1.2 1 / 2) + r2) + r3) - (x / 3))))) / 5)) (cwV 1 hts (lw_V q417 q418 q419 q53 q420) rfl rfl rfl (by decide +kernel) ⟨Nat.le_of_ble_eq_true rfl, Nat.le_of_ble_eq_true rfl⟩) (xr_rv hK hw 0 0 rfl rfl) rfl hl.1 rfl (Nat.le_of_ble_eq_true rfl) dX3_pass_126 ⟨(Nat.le_of_ble_eq_true rfl), (Nat.le_of_ble_eq_true rfl)⟩ (fun _ _ _ _ _ _ h => h.elim) (fun v9 LL1 H locs hp hw => ?_)
          obtain ⟨r4, hr4⟩ : ∃ z, z = f_X3_lose (vec [r1.2 0, (r1.2 1 + (imax 0 (imin (r1.2 0 - r1.2 1) ((((r1.2 1 / 2) + r2) + r3) - (x / 3))))), r1.2 2, r1.2 3, r1.2 4, r1.2 5, r1.2 6, r1.2 7, 0, 0, r1.2 10]) ((r1.2 1 + (imax 0 (imin (r1.2 0 - r1.2 1) ((((r1.2 1 / 2) + r2) + r3) - (x / 3))))) / 5) := ⟨_, rfl⟩
          rw [← hr4] at hp
          obtain ⟨rfl, rfl⟩ := hp
          have hw : Wd D A s.heap _ _ [[ob h0 2 [.int (r4.2 0), .int (r4.2 1), .int (r4.2 2), .int (r4.2 3), .int (r4.2 4), .int (r4.2 5), .int (r4.2 6), .int (r4.2 7), .int (r4.2 8), .int (r4.2 9), .int (bz (r4.2 10))]]] := hw
          refine W.eq (g2 := F0 m 129 ls [.int r4.1, .int r1.1]) rfl ?_
          refine lv_iadd hx hb dX3_pass_129 ?_
          have e9 : f_X3_pass v x = ((r1.1 + r4.1), r4.2) := by
            unfold f_X3_pass
            rw [← hr1]; try dsimp only
            rw [if_neg c_9]
            rw [if_neg c_26]
            rw [if_neg c_48]
            rw [← hr2]; try dsimp only
            rw [if_pos c_65]
            rw [← hr3]; try dsimp only
            rw [← hr4]; try dsimp only
            try rfl
          have p0 := congrArg (fun z : Int32 × (Nat → Int32) => some (Value.int z.1)) e9.symm
          have p1 := congrArg (fun z : Int32 × (Nat → Int32) => [trS h0 z.2]) e9.symm
          exact xr_iret hf hr hlocks hw (Nat.le_of_ble_eq_true rfl) (Nat.le_of_ble_eq_true rfl) ⟨p0, p1⟩ dX3_pass_130
        · refine lv_iconst (v := 1) hx hb dX3_pass_68 (by decide) ?_
          refine lv_goto (tgt := 73) hx hb dX3_pass_69 (by decide) ?_
          refine xc_SN (rest := [.int ((r1.2 1 / 2) + r2)]) (As := [.int 1]) hf hK hA hAz hst (hw.pick [] rfl rfl rfl) (k_X1_one l D dT g z0 1) ⟨va_cnB 1 hts (lw_meth q357) rfl rfl rfl (hK.nw q415 rfl) (hts _ q44) (by decide +kernel) ⟨Nat.le_of_ble_eq_true rfl, Nat.le_of_ble_eq_true rfl⟩, hts _ q356⟩ rfl hl.1 rfl (Nat.le_of_ble_eq_true rfl) dX3_pass_73 ⟨(Nat.le_of_ble_eq_true rfl), (Nat.le_of_ble_eq_true rfl)⟩ (fun _ _ _ _ _ _ h => h.elim) (fun v9 LL1 H locs hp hw => ?_)
          rw [← hr2] at hp
          obtain ⟨rfl, rfl⟩ := hp
          have hw : Wd D A s.heap _ _ [[ob h0 2 [.int (r1.2 0), .int (r1.2 1), .int (r1.2 2), .int (r1.2 3), .int (r1.2 4), .int (r1.2 5), .int (r1.2 6), .int (r1.2 7), .int (r1.2 8), .int (r1.2 9), .int (bz (r1.2 10))]]] := hw
          refine W.eq (g2 := F0 m 76 ls [.int r2, .int ((r1.2 1 / 2) + r2)]) rfl ?_
          refine lv_iadd hx hb dX3_pass_76 ?_
          refine lv_iload_n hx hb dX3_pass_77 rfl (lv_at hl 2 rfl) ?_
          refine lv_iconst (v := 3) hx hb dX3_pass_78 (by decide) ?_
          refine lv_idiv hx hb dX3_pass_79 (by decide) ?_
          refine lv_isub hx hb dX3_pass_80 ?_
          refine lv_istore_n (lv' := [(3, .int ((((r1.2 1 / 2) + r2) + r2) - (x / 3))), (2, .int r1.1), (0, .ref h0), (1, .int x)]) hx hb dX3_pass_81 rfl hl (by decide) rfl (fun ls hl => ?_)
          refine lv_aload_n hx hb dX3_pass_82 rfl (lv_at hl 2 rfl) ?_
          refine lv_dup hx hb dX3_pass_83 rfl ?_
          refine xr_get hf hK hw 0 0 rfl rfl in_X3 1 (by decide) q208 (fun _ h => h) rfl dX3_pass_84 ?_
          refine lv_iconst (v := 0) hx hb dX3_pass_87 (by decide) ?_
          refine lv_aload_n hx hb dX3_pass_88 rfl (lv_at hl 2 rfl) ?_
          refine xr_get hf hK hw 0 0 rfl rfl in_X3 0 (by decide) q206 (fun _ h => h) rfl dX3_pass_89 ?_
          refine lv_aload_n hx hb dX3_pass_92 rfl (lv_at hl 2 rfl) ?_
          refine xr_get hf hK hw 0 0 rfl rfl in_X3 1 (by decide) q208 (fun _ h => h) rfl dX3_pass_93 ?_
          refine lv_isub hx hb dX3_pass_96 ?_
          refine lv_iload_n hx hb dX3_pass_97 rfl (lv_at hl 0 rfl) ?_
          refine va_mmin hx hb (by rw [hf.2.2.1]; exact hl.1.symm) hf.2.2.2.1 (hts _ q430) (hts _ q193) (hts _ q50) (hts _ q194) (Nat.le_of_ble_eq_true rfl) (Nat.le_of_ble_eq_true rfl) (Nat.le_of_ble_eq_true rfl) (Nat.le_of_ble_eq_true rfl) dX3_pass_98 ?_
          refine lv_as (y := imin (r1.2 0 - r1.2 1) ((((r1.2 1 / 2) + r2) + r2) - (x / 3))) rfl ?_
          refine va_mmax hx hb (by rw [hf.2.2.1]; exact hl.1.symm) hf.2.2.2.1 (hts _ q421) (hts _ q152) (hts _ q50) (hts _ q153) (Nat.le_of_ble_eq_true rfl) (Nat.le_of_ble_eq_true rfl) (Nat.le_of_ble_eq_true rfl) (Nat.le_of_ble_eq_true rfl) dX3_pass_101 ?_
          refine lv_as (y := imax 0 (imin (r1.2 0 - r1.2 1) ((((r1.2 1 / 2) + r2) + r2) - (x / 3)))) rfl ?_
          refine lv_iadd hx hb dX3_pass_104 ?_
          refine xr_put (LL' := [[ob h0 2 [.int (r1.2 0), .int (r1.2 1 + (imax 0 (imin (r1.2 0 - r1.2 1) ((((r1.2 1 / 2) + r2) + r2) - (x / 3))))), .int (r1.2 2), .int (r1.2 3), .int (r1.2 4), .int (r1.2 5), .int (r1.2 6), .int (r1.2 7), .int (r1.2 8), .int (r1.2 9), .int (bz (r1.2 10))]]]) hf hK hw 0 0 rfl rfl in_X3 tyX3_ok nmX3 1 (by decide) q208 (fun _ h => h) rfl rfl rfl (Nat.le_of_ble_eq_true rfl) rfl dX3_pass_105 (fun H locs hw => ?_)
          refine lv_aload_n hx hb dX3_pass_108 rfl (lv_at hl 2 rfl) ?_
          refine lv_iconst (v := 0) hx hb dX3_pass_109 (by decide) ?_
          refine xr_put (LL' := [[ob h0 2 [.int (r1.2 0), .int (r1.2 1 + (imax 0 (imin (r1.2 0 - r1.2 1) ((((r1.2 1 / 2) + r2) + r2) - (x / 3))))), .int (r1.2 2), .int (r1.2 3), .int (r1.2 4), .int (r1.2 5), .int (r1.2 6), .int (r1.2 7), .int 0, .int (r1.2 9), .int (bz (r1.2 10))]]]) hf hK hw 0 0 rfl rfl in_X3 tyX3_ok nmX3 8 (by decide) q222 (fun _ h => h) rfl rfl rfl (Nat.le_of_ble_eq_true rfl) rfl dX3_pass_110 (fun H locs hw => ?_)
          refine lv_aload_n hx hb dX3_pass_113 rfl (lv_at hl 2 rfl) ?_
          refine lv_iconst (v := 0) hx hb dX3_pass_114 (by decide) ?_
          refine xr_put (LL' := [[ob h0 2 [.int (r1.2 0), .int (r1.2 1 + (imax 0 (imin (r1.2 0 - r1.2 1) ((((r1.2 1 / 2) + r2) + r2) - (x / 3))))), .int (r1.2 2), .int (r1.2 3), .int (r1.2 4), .int (r1.2 5), .int (r1.2 6), .int (r1.2 7), .int 0, .int 0, .int (bz (r1.2 10))]]]) hf hK hw 0 0 rfl rfl in_X3 tyX3_ok nmX3 9 (by decide) q224 (fun _ h => h) rfl rfl rfl (Nat.le_of_ble_eq_true rfl) rfl dX3_pass_115 (fun H locs hw => ?_)
          refine lv_iload_n hx hb dX3_pass_118 rfl (lv_at hl 1 rfl) ?_
          refine lv_aload_n hx hb dX3_pass_119 rfl (lv_at hl 2 rfl) ?_
          refine lv_aload_n hx hb dX3_pass_120 rfl (lv_at hl 2 rfl) ?_
          refine xr_get hf hK hw 0 0 rfl rfl in_X3 1 (by decide) q208 (fun _ h => h) rfl dX3_pass_121 ?_
          refine lv_iconst (v := 5) hx hb dX3_pass_124 (by decide) ?_
          refine lv_idiv hx hb dX3_pass_125 (by decide) ?_
          refine xc_V (rest := [.int r1.1]) (As := [.int ((r1.2 1 + (imax 0 (imin (r1.2 0 - r1.2 1) ((((r1.2 1 / 2) + r2) + r2) - (x / 3))))) / 5)]) hf hK hA hAz hst (hw.pick [0] rfl rfl rfl) (k_X3_lose l D dT g z0 h0 (vec [r1.2 0, (r1.2 1 + (imax 0 (imin (r1.2 0 - r1.2 1) ((((r1.2 1 / 2) + r2) + r2) - (x / 3))))), r1.2 2, r1.2 3, r1.2 4, r1.2 5, r1.2 6, r1.2 7, 0, 0, r1.2 10]) ((r1.2 1 + (imax 0 (imin (r1.2 0 - r1.2 1) ((((r1.2 1 / 2) + r2) + r2) - (x / 3))))) / 5)) (cwV 1 hts (lw_V q417 q418 q419 q53 q420) rfl rfl rfl (by decide +kernel) ⟨Nat.le_of_ble_eq_true rfl, Nat.le_of_ble_eq_true rfl⟩) (xr_rv hK hw 0 0 rfl rfl) rfl hl.1 rfl (Nat.le_of_ble_eq_true rfl) dX3_pass_126 ⟨(Nat.le_of_ble_eq_true rfl), (Nat.le_of_ble_eq_true rfl)⟩ (fun _ _ _ _ _ _ h => h.elim) (fun v9 LL1 H locs hp hw => ?_)
          obtain ⟨r3, hr3⟩ : ∃ z, z = f_X3_lose (vec [r1.2 0, (r1.2 1 + (imax 0 (imin (r1.2 0 - r1.2 1) ((((r1.2 1 / 2) + r2) + r2) - (x / 3))))), r1.2 2, r1.2 3, r1.2 4, r1.2 5, r1.2 6, r1.2 7, 0, 0, r1.2 10]) ((r1.2 1 + (imax 0 (imin (r1.2 0 - r1.2 1) ((((r1.2 1 / 2) + r2) + r2) - (x / 3))))) / 5) := ⟨_, rfl⟩
          rw [← hr3] at hp
          obtain ⟨rfl, rfl⟩ := hp
          have hw : Wd D A s.heap _ _ [[ob h0 2 [.int (r3.2 0), .int (r3.2 1), .int (r3.2 2), .int (r3.2 3), .int (r3.2 4), .int (r3.2 5), .int (r3.2 6), .int (r3.2 7), .int (r3.2 8), .int (r3.2 9), .int (bz (r3.2 10))]]] := hw
          refine W.eq (g2 := F0 m 129 ls [.int r3.1, .int r1.1]) rfl ?_
          refine lv_iadd hx hb dX3_pass_129 ?_
          have e9 : f_X3_pass v x = ((r1.1 + r3.1), r3.2) := by
            unfold f_X3_pass
            rw [← hr1]; try dsimp only
            rw [if_neg c_9]
            rw [if_neg c_26]
            rw [if_neg c_48]
            rw [← hr2]; try dsimp only
            rw [if_neg c_65]
            rw [← hr3]; try dsimp only
            try rfl
          have p0 := congrArg (fun z : Int32 × (Nat → Int32) => some (Value.int z.1)) e9.symm
          have p1 := congrArg (fun z : Int32 × (Nat → Int32) => [trS h0 z.2]) e9.symm
          exact xr_iret hf hr hlocks hw (Nat.le_of_ble_eq_true rfl) (Nat.le_of_ble_eq_true rfl) ⟨p0, p1⟩ dX3_pass_130
  · refine lv_iload_n hx hb dX3_pass_12 rfl (lv_at hl 0 rfl) ?_
    have e9 : f_X3_pass v x = (r1.1, r1.2) := by
      unfold f_X3_pass
      rw [← hr1]; try dsimp only
      rw [if_pos c_9]
      try rfl
    have p0 := congrArg (fun z : Int32 × (Nat → Int32) => some (Value.int z.1)) e9.symm
    have p1 := congrArg (fun z : Int32 × (Nat → Int32) => [trS h0 z.2]) e9.symm
    exact xr_iret hf hr hlocks hw (Nat.le_of_ble_eq_true rfl) (Nat.le_of_ble_eq_true rfl) ⟨p0, p1⟩ dX3_pass_13

def f_X3_clean (v : Nat → Int32)  : Int32 × (Nat → Int32) :=
  if v 5 ≤ 0 then
    (0, (vec [v 0, v 1, v 2, v 3, v 4, v 5, v 6, 0, v 8, v 9, v 10]))
  else
    (fun r1 : Int32 =>
      (fun r2 : Int32 × (Nat → Int32) =>
        (r2.1, r2.2)) (f_X3_lose (vec [v 0, v 1, v 2, v 3, v 4, v 5, v 6, 0, v 8, v 9, v 10]) r1)) (f_X1_up (v 0) 10)
set_option maxHeartbeats 4000000 in
theorem k_X3_clean (l : Launch) (D : va_G) (dT g : Nat → Nat) (z0 : Nat) (h0 : Nat) (v : Nat → Int32)  : Con l D dT g z0 yX3_clean (ws_ yX3_clean cX3_clean 1 (some .int)) ({ frames := 4, cells := 1, slots := 11, locals := 102 }) [.ref h0] [trS h0 v] (fun r LL => r = some (.int (f_X3_clean v).1) ∧ LL = [trS h0 (f_X3_clean v).2]) noX 1 11 := by
  refine Con.of (maxL := 1) (ret := (some .int)) (by first | exact plainFor_of_name (by decide) | decide +kernel) (Nat.le_of_ble_eq_true rfl) ?_
  intro p e s m args below meth c A ls hf hr hlocks hnm hno hK hA hAz hw hl hst
  have hf : CallFix p m c cX3_clean 1 s args lw_all "SilkRow$Tray" := hf
  have hnm : meth.name = "clean" := hnm
  have hx := hf.1
  have hb := hf.2.1
  have hts := hf.2.2.2.2
  have hl : lv_has ls 1 [(0, .ref h0)] := hl
  have hw : Wd D A s.heap s.heap [] [[ob h0 2 [.int (v 0), .int (v 1), .int (v 2), .int (v 3), .int (v 4), .int (v 5), .int (v 6), .int (v 7), .int (v 8), .int (v 9), .int (bz (v 10))]]] := hw
  refine lv_aload_n hx hb dX3_clean_0 rfl (lv_at hl 0 rfl) ?_
  refine lv_iconst (v := 0) hx hb dX3_clean_1 (by decide) ?_
  refine xr_put (LL' := [[ob h0 2 [.int (v 0), .int (v 1), .int (v 2), .int (v 3), .int (v 4), .int (v 5), .int (v 6), .int 0, .int (v 8), .int (v 9), .int (bz (v 10))]]]) hf hK hw 0 0 rfl rfl in_X3 tyX3_ok nmX3 7 (by decide) q220 (fun _ h => h) rfl rfl rfl (Nat.le_of_ble_eq_true rfl) rfl dX3_clean_2 (fun H locs hw => ?_)
  refine lv_aload_n hx hb dX3_clean_5 rfl (lv_at hl 0 rfl) ?_
  refine xr_get hf hK hw 0 0 rfl rfl in_X3 5 (by decide) q216 (fun _ h => h) rfl dX3_clean_6 ?_
  refine lv_if_le (tgt := 28) hx hb dX3_clean_9 (by decide) (fun c_9 => ?_) (fun c_9 => ?_)
  · refine lv_iconst (v := 0) hx hb dX3_clean_28 (by decide) ?_
    have e9 : f_X3_clean v = (0, (vec [v 0, v 1, v 2, v 3, v 4, v 5, v 6, 0, v 8, v 9, v 10])) := by
      unfold f_X3_clean
      rw [if_pos c_9]
      try rfl
    have p0 := congrArg (fun z : Int32 × (Nat → Int32) => some (Value.int z.1)) e9.symm
    have p1 := congrArg (fun z : Int32 × (Nat → Int32) => [trS h0 z.2]) e9.symm
    exact xr_iret hf hr hlocks hw (Nat.le_of_ble_eq_true rfl) (Nat.le_of_ble_eq_true rfl) ⟨p0, p1⟩ dX3_clean_29
  · refine lv_aload_n hx hb dX3_clean_12 rfl (lv_at hl 0 rfl) ?_
    refine lv_aload_n hx hb dX3_clean_13 rfl (lv_at hl 0 rfl) ?_
    refine xr_get hf hK hw 0 0 rfl rfl in_X3 0 (by decide) q206 (fun _ h => h) rfl dX3_clean_14 ?_
    refine lv_bipush (v := 10) hx hb dX3_clean_17 (by decide) ?_
    refine xc_SN (rest := [.ref h0]) (As := [.int (v 0), .int 10]) hf hK hA hAz hst (hw.pick [] rfl rfl rfl) (k_X1_up l D dT g z0 (v 0) 10 (by decide)) ⟨va_cnB 2 hts (lw_meth q382) rfl rfl rfl (hK.nw q380 rfl) (hts _ q44) (by decide +kernel) ⟨Nat.le_of_ble_eq_true rfl, Nat.le_of_ble_eq_true rfl⟩, hts _ q381⟩ rfl hl.1 rfl (Nat.le_of_ble_eq_true rfl) dX3_clean_19 ⟨(Nat.le_of_ble_eq_true rfl), (Nat.le_of_ble_eq_true rfl)⟩ (fun _ _ _ _ _ _ h => h.elim) (fun v9 LL1 H locs hp hw => ?_)
    obtain ⟨r1, hr1⟩ : ∃ z, z = f_X1_up (v 0) 10 := ⟨_, rfl⟩
    rw [← hr1] at hp
    obtain ⟨rfl, rfl⟩ := hp
    have hw : Wd D A s.heap _ _ [[ob h0 2 [.int (v 0), .int (v 1), .int (v 2), .int (v 3), .int (v 4), .int (v 5), .int (v 6), .int 0, .int (v 8), .int (v 9), .int (bz (v 10))]]] := hw
    refine W.eq (g2 := F0 m 22 ls [.int r1, .ref h0]) rfl ?_
    refine xc_V (rest := []) (As := [.int r1]) hf hK hA hAz hst (hw.pick [0] rfl rfl rfl) (k_X3_lose l D dT g z0 h0 (vec [v 0, v 1, v 2, v 3, v 4, v 5, v 6, 0, v 8, v 9, v 10]) r1) (cwV 1 hts (lw_V q417 q418 q419 q53 q420) rfl rfl rfl (by decide +kernel) ⟨Nat.le_of_ble_eq_true rfl, Nat.le_of_ble_eq_true rfl⟩) (xr_rv hK hw 0 0 rfl rfl) rfl hl.1 rfl (Nat.le_of_ble_eq_true rfl) dX3_clean_22 ⟨(Nat.le_of_ble_eq_true rfl), (Nat.le_of_ble_eq_true rfl)⟩ (fun _ _ _ _ _ _ h => h.elim) (fun v9 LL1 H locs hp hw => ?_)
    obtain ⟨r2, hr2⟩ : ∃ z, z = f_X3_lose (vec [v 0, v 1, v 2, v 3, v 4, v 5, v 6, 0, v 8, v 9, v 10]) r1 := ⟨_, rfl⟩
    rw [← hr2] at hp
    obtain ⟨rfl, rfl⟩ := hp
    have hw : Wd D A s.heap _ _ [[ob h0 2 [.int (r2.2 0), .int (r2.2 1), .int (r2.2 2), .int (r2.2 3), .int (r2.2 4), .int (r2.2 5), .int (r2.2 6), .int (r2.2 7), .int (r2.2 8), .int (r2.2 9), .int (bz (r2.2 10))]]] := hw
    refine W.eq (g2 := F0 m 25 ls [.int r2.1]) rfl ?_
    refine lv_goto (tgt := 29) hx hb dX3_clean_25 (by decide) ?_
    have e9 : f_X3_clean v = (r2.1, r2.2) := by
      unfold f_X3_clean
      rw [if_neg c_9]
      rw [← hr1]; try dsimp only
      rw [← hr2]; try dsimp only
      try rfl
    have p0 := congrArg (fun z : Int32 × (Nat → Int32) => some (Value.int z.1)) e9.symm
    have p1 := congrArg (fun z : Int32 × (Nat → Int32) => [trS h0 z.2]) e9.symm
    exact xr_iret hf hr hlocks hw (Nat.le_of_ble_eq_true rfl) (Nat.le_of_ble_eq_true rfl) ⟨p0, p1⟩ dX3_clean_29

def f_X3_part (v : Nat → Int32) (w : Nat → Int32) (x : Int32) : Int32 × (Nat → Int32) × (Nat → Int32) :=
  (fun r1 : (Nat → Int32) × (Nat → Int32) =>
    (((v 1 * x) / v 0), (vec [(r1.2 0 - x), (r1.2 1 - ((v 1 * x) / v 0)), r1.2 2, r1.2 3, r1.2 4, r1.2 5, r1.2 6, r1.2 7, r1.2 8, r1.2 9, r1.2 10]), (vec [x, ((v 1 * x) / v 0), r1.1 2, r1.1 3, r1.1 4, r1.1 5, r1.1 6, 0, 0, 0, r1.1 10]))) (f_X3_take w v)
set_option maxHeartbeats 4000000 in
theorem k_X3_part (l : Launch) (D : va_G) (dT g : Nat → Nat) (z0 : Nat) (h0 : Nat) (h1 : Nat) (v : Nat → Int32) (w : Nat → Int32) (x : Int32) (hv : ¬ v 0 = 0) : Con l D dT g z0 yX3_part (ws_ yX3_part cX3_part 4 (some .int)) ({ frames := 2, cells := 0, slots := 0, locals := 61 }) [.ref h0, .ref h1, .int x] [trS h0 v, trS h1 w] (fun r LL => r = some (.int (f_X3_part v w x).1) ∧ LL = [trS h0 (f_X3_part v w x).2.1, trS h1 (f_X3_part v w x).2.2]) noX 0 0 := by
  refine Con.of (maxL := 4) (ret := (some .int)) (by first | exact plainFor_of_name (by decide) | decide +kernel) (Nat.le_of_ble_eq_true rfl) ?_
  intro p e s m args below meth c A ls hf hr hlocks hnm hno hK hA hAz hw hl hst
  have hf : CallFix p m c cX3_part 4 s args lw_all "SilkRow$Tray" := hf
  have hnm : meth.name = "part" := hnm
  have hx := hf.1
  have hb := hf.2.1
  have hts := hf.2.2.2.2
  have hl : lv_has ls 4 [(0, .ref h0), (1, .ref h1), (2, .int x)] := hl
  have hw : Wd D A s.heap s.heap [] [[ob h0 2 [.int (v 0), .int (v 1), .int (v 2), .int (v 3), .int (v 4), .int (v 5), .int (v 6), .int (v 7), .int (v 8), .int (v 9), .int (bz (v 10))]], [ob h1 2 [.int (w 0), .int (w 1), .int (w 2), .int (w 3), .int (w 4), .int (w 5), .int (w 6), .int (w 7), .int (w 8), .int (w 9), .int (bz (w 10))]]] := hw
  refine lv_aload_n hx hb dX3_part_0 rfl (lv_at hl 0 rfl) ?_
  refine xr_get hf hK hw 0 0 rfl rfl in_X3 1 (by decide) q208 (fun _ h => h) rfl dX3_part_1 ?_
  refine lv_iload_n hx hb dX3_part_4 rfl (lv_at hl 2 rfl) ?_
  refine lv_imul hx hb dX3_part_5 ?_
  refine lv_aload_n hx hb dX3_part_6 rfl (lv_at hl 0 rfl) ?_
  refine xr_get hf hK hw 0 0 rfl rfl in_X3 0 (by decide) q206 (fun _ h => h) rfl dX3_part_7 ?_
  refine lv_idiv hx hb dX3_part_10 hv ?_
  refine lv_istore_n (lv' := [(3, .int ((v 1 * x) / v 0)), (0, .ref h0), (1, .ref h1), (2, .int x)]) hx hb dX3_part_11 rfl hl (by decide) rfl (fun ls hl => ?_)
  refine lv_aload_n hx hb dX3_part_12 rfl (lv_at hl 2 rfl) ?_
  refine lv_aload_n hx hb dX3_part_13 rfl (lv_at hl 1 rfl) ?_
  refine xc_V (rest := []) (As := [.ref h0]) hf hK hA hAz hst (hw.pick [1, 0] rfl rfl rfl) (k_X3_take l D dT g z0 h1 h0 w v) (cwV 1 hts (lw_V q426 q427 q428 q53 q429) rfl rfl rfl (by decide +kernel) ⟨Nat.le_of_ble_eq_true rfl, Nat.le_of_ble_eq_true rfl⟩) (xr_rv hK hw 1 0 rfl rfl) rfl hl.1 rfl (Nat.le_of_ble_eq_true rfl) dX3_part_14 ⟨(Nat.le_of_ble_eq_true rfl), (Nat.le_of_ble_eq_true rfl)⟩ (fun _ _ _ _ _ _ h => h.elim) (fun v9 LL1 H locs hp hw => ?_)
  obtain ⟨r1, hr1⟩ : ∃ z, z = f_X3_take w v := ⟨_, rfl⟩
  rw [← hr1] at hp
  obtain ⟨rfl, rfl⟩ := hp
  have hw : Wd D A s.heap _ _ [[ob h1 2 [.int (r1.1 0), .int (r1.1 1), .int (r1.1 2), .int (r1.1 3), .int (r1.1 4), .int (r1.1 5), .int (r1.1 6), .int (r1.1 7), .int (r1.1 8), .int (r1.1 9), .int (bz (r1.1 10))]], [ob h0 2 [.int (r1.2 0), .int (r1.2 1), .int (r1.2 2), .int (r1.2 3), .int (r1.2 4), .int (r1.2 5), .int (r1.2 6), .int (r1.2 7), .int (r1.2 8), .int (r1.2 9), .int (bz (r1.2 10))]]] := hw
  refine W.eq (g2 := F0 m 17 ls []) rfl ?_
  refine lv_aload_n hx hb dX3_part_17 rfl (lv_at hl 2 rfl) ?_
  refine lv_iload_n hx hb dX3_part_18 rfl (lv_at hl 3 rfl) ?_
  refine xr_put (LL' := [[ob h1 2 [.int x, .int (r1.1 1), .int (r1.1 2), .int (r1.1 3), .int (r1.1 4), .int (r1.1 5), .int (r1.1 6), .int (r1.1 7), .int (r1.1 8), .int (r1.1 9), .int (bz (r1.1 10))]], [ob h0 2 [.int (r1.2 0), .int (r1.2 1), .int (r1.2 2), .int (r1.2 3), .int (r1.2 4), .int (r1.2 5), .int (r1.2 6), .int (r1.2 7), .int (r1.2 8), .int (r1.2 9), .int (bz (r1.2 10))]]]) hf hK hw 0 0 rfl rfl in_X3 tyX3_ok nmX3 0 (by decide) q206 (fun _ h => h) rfl rfl rfl (Nat.le_of_ble_eq_true rfl) rfl dX3_part_19 (fun H locs hw => ?_)
  refine lv_aload_n hx hb dX3_part_22 rfl (lv_at hl 2 rfl) ?_
  refine lv_iload_n hx hb dX3_part_23 rfl (lv_at hl 0 rfl) ?_
  refine xr_put (LL' := [[ob h1 2 [.int x, .int ((v 1 * x) / v 0), .int (r1.1 2), .int (r1.1 3), .int (r1.1 4), .int (r1.1 5), .int (r1.1 6), .int (r1.1 7), .int (r1.1 8), .int (r1.1 9), .int (bz (r1.1 10))]], [ob h0 2 [.int (r1.2 0), .int (r1.2 1), .int (r1.2 2), .int (r1.2 3), .int (r1.2 4), .int (r1.2 5), .int (r1.2 6), .int (r1.2 7), .int (r1.2 8), .int (r1.2 9), .int (bz (r1.2 10))]]]) hf hK hw 0 0 rfl rfl in_X3 tyX3_ok nmX3 1 (by decide) q208 (fun _ h => h) rfl rfl rfl (Nat.le_of_ble_eq_true rfl) rfl dX3_part_24 (fun H locs hw => ?_)
  refine lv_aload_n hx hb dX3_part_27 rfl (lv_at hl 2 rfl) ?_
  refine lv_iconst (v := 0) hx hb dX3_part_28 (by decide) ?_
  refine xr_put (LL' := [[ob h1 2 [.int x, .int ((v 1 * x) / v 0), .int (r1.1 2), .int (r1.1 3), .int (r1.1 4), .int (r1.1 5), .int (r1.1 6), .int (r1.1 7), .int 0, .int (r1.1 9), .int (bz (r1.1 10))]], [ob h0 2 [.int (r1.2 0), .int (r1.2 1), .int (r1.2 2), .int (r1.2 3), .int (r1.2 4), .int (r1.2 5), .int (r1.2 6), .int (r1.2 7), .int (r1.2 8), .int (r1.2 9), .int (bz (r1.2 10))]]]) hf hK hw 0 0 rfl rfl in_X3 tyX3_ok nmX3 8 (by decide) q222 (fun _ h => h) rfl rfl rfl (Nat.le_of_ble_eq_true rfl) rfl dX3_part_29 (fun H locs hw => ?_)
  refine lv_aload_n hx hb dX3_part_32 rfl (lv_at hl 2 rfl) ?_
  refine lv_iconst (v := 0) hx hb dX3_part_33 (by decide) ?_
  refine xr_put (LL' := [[ob h1 2 [.int x, .int ((v 1 * x) / v 0), .int (r1.1 2), .int (r1.1 3), .int (r1.1 4), .int (r1.1 5), .int (r1.1 6), .int (r1.1 7), .int 0, .int 0, .int (bz (r1.1 10))]], [ob h0 2 [.int (r1.2 0), .int (r1.2 1), .int (r1.2 2), .int (r1.2 3), .int (r1.2 4), .int (r1.2 5), .int (r1.2 6), .int (r1.2 7), .int (r1.2 8), .int (r1.2 9), .int (bz (r1.2 10))]]]) hf hK hw 0 0 rfl rfl in_X3 tyX3_ok nmX3 9 (by decide) q224 (fun _ h => h) rfl rfl rfl (Nat.le_of_ble_eq_true rfl) rfl dX3_part_34 (fun H locs hw => ?_)
  refine lv_aload_n hx hb dX3_part_37 rfl (lv_at hl 2 rfl) ?_
  refine lv_iconst (v := 0) hx hb dX3_part_38 (by decide) ?_
  refine xr_put (LL' := [[ob h1 2 [.int x, .int ((v 1 * x) / v 0), .int (r1.1 2), .int (r1.1 3), .int (r1.1 4), .int (r1.1 5), .int (r1.1 6), .int 0, .int 0, .int 0, .int (bz (r1.1 10))]], [ob h0 2 [.int (r1.2 0), .int (r1.2 1), .int (r1.2 2), .int (r1.2 3), .int (r1.2 4), .int (r1.2 5), .int (r1.2 6), .int (r1.2 7), .int (r1.2 8), .int (r1.2 9), .int (bz (r1.2 10))]]]) hf hK hw 0 0 rfl rfl in_X3 tyX3_ok nmX3 7 (by decide) q220 (fun _ h => h) rfl rfl rfl (Nat.le_of_ble_eq_true rfl) rfl dX3_part_39 (fun H locs hw => ?_)
  refine lv_aload_n hx hb dX3_part_42 rfl (lv_at hl 1 rfl) ?_
  refine lv_dup hx hb dX3_part_43 rfl ?_
  refine xr_get hf hK hw 1 0 rfl rfl in_X3 0 (by decide) q206 (fun _ h => h) rfl dX3_part_44 ?_
  refine lv_iload_n hx hb dX3_part_47 rfl (lv_at hl 3 rfl) ?_
  refine lv_isub hx hb dX3_part_48 ?_
  refine xr_put (LL' := [[ob h1 2 [.int x, .int ((v 1 * x) / v 0), .int (r1.1 2), .int (r1.1 3), .int (r1.1 4), .int (r1.1 5), .int (r1.1 6), .int 0, .int 0, .int 0, .int (bz (r1.1 10))]], [ob h0 2 [.int (r1.2 0 - x), .int (r1.2 1), .int (r1.2 2), .int (r1.2 3), .int (r1.2 4), .int (r1.2 5), .int (r1.2 6), .int (r1.2 7), .int (r1.2 8), .int (r1.2 9), .int (bz (r1.2 10))]]]) hf hK hw 1 0 rfl rfl in_X3 tyX3_ok nmX3 0 (by decide) q206 (fun _ h => h) rfl rfl rfl (Nat.le_of_ble_eq_true rfl) rfl dX3_part_49 (fun H locs hw => ?_)
  refine lv_aload_n hx hb dX3_part_52 rfl (lv_at hl 1 rfl) ?_
  refine lv_dup hx hb dX3_part_53 rfl ?_
  refine xr_get hf hK hw 1 0 rfl rfl in_X3 1 (by decide) q208 (fun _ h => h) rfl dX3_part_54 ?_
  refine lv_iload_n hx hb dX3_part_57 rfl (lv_at hl 0 rfl) ?_
  refine lv_isub hx hb dX3_part_58 ?_
  refine xr_put (LL' := [[ob h1 2 [.int x, .int ((v 1 * x) / v 0), .int (r1.1 2), .int (r1.1 3), .int (r1.1 4), .int (r1.1 5), .int (r1.1 6), .int 0, .int 0, .int 0, .int (bz (r1.1 10))]], [ob h0 2 [.int (r1.2 0 - x), .int (r1.2 1 - ((v 1 * x) / v 0)), .int (r1.2 2), .int (r1.2 3), .int (r1.2 4), .int (r1.2 5), .int (r1.2 6), .int (r1.2 7), .int (r1.2 8), .int (r1.2 9), .int (bz (r1.2 10))]]]) hf hK hw 1 0 rfl rfl in_X3 tyX3_ok nmX3 1 (by decide) q208 (fun _ h => h) rfl rfl rfl (Nat.le_of_ble_eq_true rfl) rfl dX3_part_59 (fun H locs hw => ?_)
  refine lv_iload_n hx hb dX3_part_62 rfl (lv_at hl 0 rfl) ?_
  have hw := Wd.take (L2 := [[ob h0 2 [.int (r1.2 0 - x), .int (r1.2 1 - ((v 1 * x) / v 0)), .int (r1.2 2), .int (r1.2 3), .int (r1.2 4), .int (r1.2 5), .int (r1.2 6), .int (r1.2 7), .int (r1.2 8), .int (r1.2 9), .int (bz (r1.2 10))]], [ob h1 2 [.int x, .int ((v 1 * x) / v 0), .int (r1.1 2), .int (r1.1 3), .int (r1.1 4), .int (r1.1 5), .int (r1.1 6), .int 0, .int 0, .int 0, .int (bz (r1.1 10))]]]) hw [1, 0] rfl rfl
  have e9 : f_X3_part v w x = (((v 1 * x) / v 0), (vec [(r1.2 0 - x), (r1.2 1 - ((v 1 * x) / v 0)), r1.2 2, r1.2 3, r1.2 4, r1.2 5, r1.2 6, r1.2 7, r1.2 8, r1.2 9, r1.2 10]), (vec [x, ((v 1 * x) / v 0), r1.1 2, r1.1 3, r1.1 4, r1.1 5, r1.1 6, 0, 0, 0, r1.1 10])) := by
    unfold f_X3_part
    rw [← hr1]; try dsimp only
    try rfl
  have p0 := congrArg (fun z : Int32 × (Nat → Int32) × (Nat → Int32) => some (Value.int z.1)) e9.symm
  have p1 := congrArg (fun z : Int32 × (Nat → Int32) × (Nat → Int32) => [trS h0 z.2.1, trS h1 z.2.2]) e9.symm
  exact xr_iret hf hr hlocks hw (Nat.le_of_ble_eq_true rfl) (Nat.le_of_ble_eq_true rfl) ⟨p0, p1⟩ dX3_part_63

