/-! LEAVES: 21.mtrays (printed by gen/leaves.py) -/
set_option maxRecDepth 100000
def f_X4_up  (x : Int32) (y : Int32) : Int32 :=
  (((x + y) - 1) / y)
set_option maxHeartbeats 4000000 in
theorem k_X4_up (l : Launch) (D : va_G) (dT g : Nat → Nat) (z0 : Nat)   (x : Int32) (y : Int32) (hy : ¬ y = 0) : Con l D dT g z0 yX4_up (ws_ yX4_up cX4_up 2 (some .int)) ({ frames := 1, cells := 0, slots := 0, locals := 40 }) [.int x, .int y] [] (fun r LL => r = some (.int (f_X4_up x y)) ∧ LL = []) noX 0 0 := by
  refine Con.of (maxL := 2) (ret := (some .int)) (by first | exact plainFor_of_name (by decide) | decide +kernel) (Nat.le_of_ble_eq_true rfl) ?_
  intro p e s m args below meth c A ls hf hr hlocks hnm hno hK hA hAz hw hl hst
  have hf : CallFix p m c cX4_up 2 s args lw_all "SilkRowModel" := hf
  have hnm : meth.name = "up" := hnm
  have hx := hf.1
  have hb := hf.2.1
  have hts := hf.2.2.2.2
  have hl : lv_has ls 2 [(0, .int x), (1, .int y)] := hl
  have hw : Wd D A s.heap s.heap [] [] := hw
  refine lv_iload_n hx hb dX4_up_0 rfl (lv_at hl 0 rfl) ?_
  refine lv_iload_n hx hb dX4_up_1 rfl (lv_at hl 1 rfl) ?_
  refine lv_iadd hx hb dX4_up_2 ?_
  refine lv_iconst (v := 1) hx hb dX4_up_3 (by decide) ?_
  refine lv_isub hx hb dX4_up_4 ?_
  refine lv_iload_n hx hb dX4_up_5 rfl (lv_at hl 1 rfl) ?_
  refine lv_idiv hx hb dX4_up_6 hy ?_
  have e9 : f_X4_up x y = (((x + y) - 1) / y) := by
    unfold f_X4_up
    try rfl
  have p0 := congrArg (fun z : Int32 => some (Value.int z)) e9.symm
  exact xr_iret hf hr hlocks hw (Nat.le_of_ble_eq_true rfl) (Nat.le_of_ble_eq_true rfl) ⟨p0, rfl⟩ dX4_up_7

def f_X7_init (v : Nat → Int32)  : (Nat → Int32) :=
  (vec [v 0, v 1, (-1), v 3, v 4, v 5, v 6, v 7, v 8, v 9, v 10])
set_option maxHeartbeats 4000000 in
theorem k_X7_init (l : Launch) (D : va_G) (dT g : Nat → Nat) (z0 : Nat) (h0 : Nat) (v : Nat → Int32)  : Con l D dT g z0 yX7_init (ws_ yX7_init cX7_init 1 none) ({ frames := 1, cells := 0, slots := 0, locals := 40 }) [.ref h0] [mtS h0 v] (fun r LL => r = none ∧ LL = [mtS h0 (f_X7_init v)]) noX 0 0 := by
  refine Con.of (maxL := 1) (ret := none) (by first | exact plainFor_of_name (by decide) | decide +kernel) (Nat.le_of_ble_eq_true rfl) ?_
  intro p e s m args below meth c A ls hf hr hlocks hnm hno hK hA hAz hw hl hst
  have hf : CallFix p m c cX7_init 1 s args lw_all "SilkRowModel$Tray" := hf
  have hnm : meth.name = "<init>" := hnm
  have hx := hf.1
  have hb := hf.2.1
  have hts := hf.2.2.2.2
  have hl : lv_has ls 1 [(0, .ref h0)] := hl
  have hw : Wd D A s.heap s.heap [] [[ob h0 6 [.int (v 0), .int (v 1), .int (v 2), .int (v 3), .int (v 4), .int (v 5), .int (v 6), .int (v 7), .int (v 8), .int (v 9), .int (bz (v 10))]]] := hw
  refine lv_aload_n hx hb dX7_init_0 rfl (lv_at hl 0 rfl) ?_
  refine W.objInit hx hb hf.2.2.2.1 (hts _ q1134) (hts _ q83) (hts _ q84) rfl (by rw [hf.2.2.1]; exact hl.1) rfl dX7_init_1 (Nat.le_of_ble_eq_true rfl) (Nat.le_of_ble_eq_true rfl) ?_
  refine W.eq (g2 := F0 m 4 ls []) rfl ?_
  refine lv_aload_n hx hb dX7_init_4 rfl (lv_at hl 0 rfl) ?_
  refine lv_iconst (v := (-1)) hx hb dX7_init_5 (by decide) ?_
  refine xr_put (LL' := [[ob h0 6 [.int (v 0), .int (v 1), .int (-1), .int (v 3), .int (v 4), .int (v 5), .int (v 6), .int (v 7), .int (v 8), .int (v 9), .int (bz (v 10))]]]) hf hK hw 0 0 rfl rfl in_X7 tyX7_ok nmX7 2 (by decide) q1139 (fun _ h => h) rfl rfl rfl (Nat.le_of_ble_eq_true rfl) rfl dX7_init_6 (fun H locs hw => ?_)
  have e9 : f_X7_init v = (vec [v 0, v 1, (-1), v 3, v 4, v 5, v 6, v 7, v 8, v 9, v 10]) := by
    unfold f_X7_init
    try rfl
  have p1 := congrArg (fun z : (Nat → Int32) => [mtS h0 z]) e9.symm
  exact xr_vret hf hr hlocks hw (Nat.le_of_ble_eq_true rfl) (Nat.le_of_ble_eq_true rfl) ⟨rfl, p1⟩ dX7_init_9

def f_X7_need (v : Nat → Int32)  : Int32 × (Nat → Int32) :=
  (fun r1 : Int32 =>
    (r1, v)) (f_X4_up (v 0 * v 3) 4)
set_option maxHeartbeats 4000000 in
theorem k_X7_need (l : Launch) (D : va_G) (dT g : Nat → Nat) (z0 : Nat) (h0 : Nat) (v : Nat → Int32)  : Con l D dT g z0 yX7_need (ws_ yX7_need cX7_need 1 (some .int)) ({ frames := 2, cells := 0, slots := 0, locals := 61 }) [.ref h0] [mtS h0 v] (fun r LL => r = some (.int (f_X7_need v).1) ∧ LL = [mtS h0 (f_X7_need v).2]) noX 0 0 := by
  refine Con.of (maxL := 1) (ret := (some .int)) (by first | exact plainFor_of_name (by decide) | decide +kernel) (Nat.le_of_ble_eq_true rfl) ?_
  intro p e s m args below meth c A ls hf hr hlocks hnm hno hK hA hAz hw hl hst
  have hf : CallFix p m c cX7_need 1 s args lw_all "SilkRowModel$Tray" := hf
  have hnm : meth.name = "need" := hnm
  have hx := hf.1
  have hb := hf.2.1
  have hts := hf.2.2.2.2
  have hl : lv_has ls 1 [(0, .ref h0)] := hl
  have hw : Wd D A s.heap s.heap [] [[ob h0 6 [.int (v 0), .int (v 1), .int (v 2), .int (v 3), .int (v 4), .int (v 5), .int (v 6), .int (v 7), .int (v 8), .int (v 9), .int (bz (v 10))]]] := hw
  refine lv_aload_n hx hb dX7_need_0 rfl (lv_at hl 0 rfl) ?_
  refine xr_get hf hK hw 0 0 rfl rfl in_X7 0 (by decide) q1135 (fun _ h => h) rfl dX7_need_1 ?_
  refine lv_aload_n hx hb dX7_need_4 rfl (lv_at hl 0 rfl) ?_
  refine xr_get hf hK hw 0 0 rfl rfl in_X7 3 (by decide) q1141 (fun _ h => h) rfl dX7_need_5 ?_
  refine lv_imul hx hb dX7_need_8 ?_
  refine lv_iconst (v := 4) hx hb dX7_need_9 (by decide) ?_
  refine xc_SN (rest := []) (As := [.int (v 0 * v 3), .int 4]) hf hK hA hAz hst (hw.pick [] rfl rfl rfl) (k_X4_up l D dT g z0 (v 0 * v 3) 4 (by decide)) ⟨va_cnB 2 hts (lw_meth q1299) rfl rfl rfl (hK.nw q1297 rfl) (hts _ q54) (by decide +kernel) ⟨Nat.le_of_ble_eq_true rfl, Nat.le_of_ble_eq_true rfl⟩, hts _ q1298⟩ rfl hl.1 rfl (Nat.le_of_ble_eq_true rfl) dX7_need_10 ⟨(Nat.le_of_ble_eq_true rfl), (Nat.le_of_ble_eq_true rfl)⟩ (fun _ _ _ _ _ _ h => h.elim) (fun v9 LL1 H locs hp hw => ?_)
  obtain ⟨r1, hr1⟩ : ∃ z, z = f_X4_up (v 0 * v 3) 4 := ⟨_, rfl⟩
  rw [← hr1] at hp
  obtain ⟨rfl, rfl⟩ := hp
  have hw : Wd D A s.heap _ _ [[ob h0 6 [.int (v 0), .int (v 1), .int (v 2), .int (v 3), .int (v 4), .int (v 5), .int (v 6), .int (v 7), .int (v 8), .int (v 9), .int (bz (v 10))]]] := hw
  refine W.eq (g2 := F0 m 13 ls [.int r1]) rfl ?_
  have e9 : f_X7_need v = (r1, v) := by
    unfold f_X7_need
    rw [← hr1]; try dsimp only
    try rfl
  have p0 := congrArg (fun z : Int32 × (Nat → Int32) => some (Value.int z.1)) e9.symm
  have p1 := congrArg (fun z : Int32 × (Nat → Int32) => [mtS h0 z.2]) e9.symm
  exact xr_iret hf hr hlocks hw (Nat.le_of_ble_eq_true rfl) (Nat.le_of_ble_eq_true rfl) ⟨p0, p1⟩ dX7_need_13
theorem fs_X7_need (v : Nat → Int32) : (f_X7_need v).2 = v := by
  unfold f_X7_need
  repeat (first | rfl | split)

def f_X7_copy (v : Nat → Int32)  : (Nat → Int32) × (Nat → Int32) :=
  (fun r2 : (Nat → Int32) =>
    (v, v)) (f_X7_init (vec [0, 0, 0, 0, 0, 0, 0, 0, 0, 0, 0]))
set_option maxHeartbeats 4000000 in
theorem k_X7_copy (l : Launch) (D : va_G) (dT g : Nat → Nat) (z0 : Nat) (h0 : Nat) (v : Nat → Int32)  : Con l D dT g z0 yX7_copy (ws_ yX7_copy cX7_copy 2 (some (.object "SilkRowModel$Tray"))) ({ frames := 2, cells := 1, slots := 11, locals := 60 }) [.ref h0] [mtS h0 v] (fun r LL => ∃ a0 : Nat, r = some (.ref a0) ∧ LL = [mtS h0 (f_X7_copy v).1, mtS a0 (f_X7_copy v).2]) noX 1 11 := by
  refine Con.of (maxL := 2) (ret := (some (.object "SilkRowModel$Tray"))) (by first | exact plainFor_of_name (by decide) | decide +kernel) (Nat.le_of_ble_eq_true rfl) ?_
  intro p e s m args below meth c A ls hf hr hlocks hnm hno hK hA hAz hw hl hst
  have hf : CallFix p m c cX7_copy 2 s args lw_all "SilkRowModel$Tray" := hf
  have hnm : meth.name = "copy" := hnm
  have hx := hf.1
  have hb := hf.2.1
  have hts := hf.2.2.2.2
  have hl : lv_has ls 2 [(0, .ref h0)] := hl
  have hw : Wd D A s.heap s.heap [] [[ob h0 6 [.int (v 0), .int (v 1), .int (v 2), .int (v 3), .int (v 4), .int (v 5), .int (v 6), .int (v 7), .int (v 8), .int (v 9), .int (bz (v 10))]]] := hw
  refine xr_new (LL' := [[ob h0 6 [.int (v 0), .int (v 1), .int (v 2), .int (v 3), .int (v 4), .int (v 5), .int (v 6), .int (v 7), .int (v 8), .int (v 9), .int (bz (v 10))]]]) (fs := [.int 0, .int 0, .int 0, .int 0, .int 0, .int 0, .int 0, .int 0, .int 0, .int 0, .int 0]) hf hK hw hA 6 rfl in_X7 tyX7_ok q1376 q1130 q57 rfl (Nat.le_of_ble_eq_true rfl) (Nat.le_of_ble_eq_true rfl) (fun _ => rfl) dX7_copy_0 (fun qa1 H hw => ?_)
  have hw : Wd D A s.heap _ _ [[ob h0 6 [.int (v 0), .int (v 1), .int (v 2), .int (v 3), .int (v 4), .int (v 5), .int (v 6), .int (v 7), .int (v 8), .int (v 9), .int (bz (v 10))]], [ob qa1 6 [.int 0, .int 0, .int 0, .int 0, .int 0, .int 0, .int 0, .int 0, .int 0, .int 0, .int 0]]] := hw
  refine lv_dup hx hb dX7_copy_3 rfl ?_
  refine xc_I (rest := [.ref qa1]) (As := []) hf hK hA hAz hst (hw.pick [1] rfl rfl rfl) (k_X7_init l D dT g z0 qa1 (vec [0, 0, 0, 0, 0, 0, 0, 0, 0, 0, 0])) (cwI 0 hts (lw_meth q1133) rfl rfl rfl (hts _ q57) (hts _ q1377) (hts _ q1132) rfl (by decide +kernel) ⟨Nat.le_of_ble_eq_true rfl, Nat.le_of_ble_eq_true rfl⟩) rfl hl.1 rfl (Nat.le_of_ble_eq_true rfl) dX7_copy_4 ⟨(Nat.le_of_ble_eq_true rfl), (Nat.le_of_ble_eq_true rfl)⟩ (fun _ _ _ _ _ _ h => h.elim) (fun v9 LL1 H locs hp hw => ?_)
  obtain ⟨r2, hr2⟩ : ∃ z, z = f_X7_init (vec [0, 0, 0, 0, 0, 0, 0, 0, 0, 0, 0]) := ⟨_, rfl⟩
  rw [← hr2] at hp
  obtain ⟨rfl, rfl⟩ := hp
  have hw : Wd D A s.heap _ _ [[ob qa1 6 [.int (r2 0), .int (r2 1), .int (r2 2), .int (r2 3), .int (r2 4), .int (r2 5), .int (r2 6), .int (r2 7), .int (r2 8), .int (r2 9), .int (bz (r2 10))]], [ob h0 6 [.int (v 0), .int (v 1), .int (v 2), .int (v 3), .int (v 4), .int (v 5), .int (v 6), .int (v 7), .int (v 8), .int (v 9), .int (bz (v 10))]]] := hw
  refine W.eq (g2 := F0 m 7 ls [.ref qa1]) rfl ?_
  refine lv_astore_n (lv' := [(1, .ref qa1), (0, .ref h0)]) hx hb dX7_copy_7 rfl hl (by decide) rfl (fun ls hl => ?_)
  refine lv_aload_n hx hb dX7_copy_8 rfl (lv_at hl 0 rfl) ?_
  refine lv_aload_n hx hb dX7_copy_9 rfl (lv_at hl 1 rfl) ?_
  refine xr_get hf hK hw 1 0 rfl rfl in_X7 0 (by decide) q1135 (fun _ h => h) rfl dX7_copy_10 ?_
  refine xr_put (LL' := [[ob qa1 6 [.int (v 0), .int (r2 1), .int (r2 2), .int (r2 3), .int (r2 4), .int (r2 5), .int (r2 6), .int (r2 7), .int (r2 8), .int (r2 9), .int (bz (r2 10))]], [ob h0 6 [.int (v 0), .int (v 1), .int (v 2), .int (v 3), .int (v 4), .int (v 5), .int (v 6), .int (v 7), .int (v 8), .int (v 9), .int (bz (v 10))]]]) hf hK hw 0 0 rfl rfl in_X7 tyX7_ok nmX7 0 (by decide) q1135 (fun _ h => h) rfl rfl rfl (Nat.le_of_ble_eq_true rfl) rfl dX7_copy_13 (fun H locs hw => ?_)
  refine lv_aload_n hx hb dX7_copy_16 rfl (lv_at hl 0 rfl) ?_
  refine lv_aload_n hx hb dX7_copy_17 rfl (lv_at hl 1 rfl) ?_
  refine xr_get hf hK hw 1 0 rfl rfl in_X7 1 (by decide) q1137 (fun _ h => h) rfl dX7_copy_18 ?_
  refine xr_put (LL' := [[ob qa1 6 [.int (v 0), .int (v 1), .int (r2 2), .int (r2 3), .int (r2 4), .int (r2 5), .int (r2 6), .int (r2 7), .int (r2 8), .int (r2 9), .int (bz (r2 10))]], [ob h0 6 [.int (v 0), .int (v 1), .int (v 2), .int (v 3), .int (v 4), .int (v 5), .int (v 6), .int (v 7), .int (v 8), .int (v 9), .int (bz (v 10))]]]) hf hK hw 0 0 rfl rfl in_X7 tyX7_ok nmX7 1 (by decide) q1137 (fun _ h => h) rfl rfl rfl (Nat.le_of_ble_eq_true rfl) rfl dX7_copy_21 (fun H locs hw => ?_)
  refine lv_aload_n hx hb dX7_copy_24 rfl (lv_at hl 0 rfl) ?_
  refine lv_aload_n hx hb dX7_copy_25 rfl (lv_at hl 1 rfl) ?_
  refine xr_get hf hK hw 1 0 rfl rfl in_X7 2 (by decide) q1139 (fun _ h => h) rfl dX7_copy_26 ?_
  refine xr_put (LL' := [[ob qa1 6 [.int (v 0), .int (v 1), .int (v 2), .int (r2 3), .int (r2 4), .int (r2 5), .int (r2 6), .int (r2 7), .int (r2 8), .int (r2 9), .int (bz (r2 10))]], [ob h0 6 [.int (v 0), .int (v 1), .int (v 2), .int (v 3), .int (v 4), .int (v 5), .int (v 6), .int (v 7), .int (v 8), .int (v 9), .int (bz (v 10))]]]) hf hK hw 0 0 rfl rfl in_X7 tyX7_ok nmX7 2 (by decide) q1139 (fun _ h => h) rfl rfl rfl (Nat.le_of_ble_eq_true rfl) rfl dX7_copy_29 (fun H locs hw => ?_)
  refine lv_aload_n hx hb dX7_copy_32 rfl (lv_at hl 0 rfl) ?_
  refine lv_aload_n hx hb dX7_copy_33 rfl (lv_at hl 1 rfl) ?_
  refine xr_get hf hK hw 1 0 rfl rfl in_X7 3 (by decide) q1141 (fun _ h => h) rfl dX7_copy_34 ?_
  refine xr_put (LL' := [[ob qa1 6 [.int (v 0), .int (v 1), .int (v 2), .int (v 3), .int (r2 4), .int (r2 5), .int (r2 6), .int (r2 7), .int (r2 8), .int (r2 9), .int (bz (r2 10))]], [ob h0 6 [.int (v 0), .int (v 1), .int (v 2), .int (v 3), .int (v 4), .int (v 5), .int (v 6), .int (v 7), .int (v 8), .int (v 9), .int (bz (v 10))]]]) hf hK hw 0 0 rfl rfl in_X7 tyX7_ok nmX7 3 (by decide) q1141 (fun _ h => h) rfl rfl rfl (Nat.le_of_ble_eq_true rfl) rfl dX7_copy_37 (fun H locs hw => ?_)
  refine lv_aload_n hx hb dX7_copy_40 rfl (lv_at hl 0 rfl) ?_
  refine lv_aload_n hx hb dX7_copy_41 rfl (lv_at hl 1 rfl) ?_
  refine xr_get hf hK hw 1 0 rfl rfl in_X7 4 (by decide) q1143 (fun _ h => h) rfl dX7_copy_42 ?_
  refine xr_put (LL' := [[ob qa1 6 [.int (v 0), .int (v 1), .int (v 2), .int (v 3), .int (v 4), .int (r2 5), .int (r2 6), .int (r2 7), .int (r2 8), .int (r2 9), .int (bz (r2 10))]], [ob h0 6 [.int (v 0), .int (v 1), .int (v 2), .int (v 3), .int (v 4), .int (v 5), .int (v 6), .int (v 7), .int (v 8), .int (v 9), .int (bz (v 10))]]]) hf hK hw 0 0 rfl rfl in_X7 tyX7_ok nmX7 4 (by decide) q1143 (fun _ h => h) rfl rfl rfl (Nat.le_of_ble_eq_true rfl) rfl dX7_copy_45 (fun H locs hw => ?_)
  refine lv_aload_n hx hb dX7_copy_48 rfl (lv_at hl 0 rfl) ?_
  refine lv_aload_n hx hb dX7_copy_49 rfl (lv_at hl 1 rfl) ?_
  refine xr_get hf hK hw 1 0 rfl rfl in_X7 5 (by decide) q1145 (fun _ h => h) rfl dX7_copy_50 ?_
  refine xr_put (LL' := [[ob qa1 6 [.int (v 0), .int (v 1), .int (v 2), .int (v 3), .int (v 4), .int (v 5), .int (r2 6), .int (r2 7), .int (r2 8), .int (r2 9), .int (bz (r2 10))]], [ob h0 6 [.int (v 0), .int (v 1), .int (v 2), .int (v 3), .int (v 4), .int (v 5), .int (v 6), .int (v 7), .int (v 8), .int (v 9), .int (bz (v 10))]]]) hf hK hw 0 0 rfl rfl in_X7 tyX7_ok nmX7 5 (by decide) q1145 (fun _ h => h) rfl rfl rfl (Nat.le_of_ble_eq_true rfl) rfl dX7_copy_53 (fun H locs hw => ?_)
  refine lv_aload_n hx hb dX7_copy_56 rfl (lv_at hl 0 rfl) ?_
  refine lv_aload_n hx hb dX7_copy_57 rfl (lv_at hl 1 rfl) ?_
  refine xr_get hf hK hw 1 0 rfl rfl in_X7 6 (by decide) q1147 (fun _ h => h) rfl dX7_copy_58 ?_
  refine xr_put (LL' := [[ob qa1 6 [.int (v 0), .int (v 1), .int (v 2), .int (v 3), .int (v 4), .int (v 5), .int (v 6), .int (r2 7), .int (r2 8), .int (r2 9), .int (bz (r2 10))]], [ob h0 6 [.int (v 0), .int (v 1), .int (v 2), .int (v 3), .int (v 4), .int (v 5), .int (v 6), .int (v 7), .int (v 8), .int (v 9), .int (bz (v 10))]]]) hf hK hw 0 0 rfl rfl in_X7 tyX7_ok nmX7 6 (by decide) q1147 (fun _ h => h) rfl rfl rfl (Nat.le_of_ble_eq_true rfl) rfl dX7_copy_61 (fun H locs hw => ?_)
  refine lv_aload_n hx hb dX7_copy_64 rfl (lv_at hl 0 rfl) ?_
  refine lv_aload_n hx hb dX7_copy_65 rfl (lv_at hl 1 rfl) ?_
  refine xr_get hf hK hw 1 0 rfl rfl in_X7 7 (by decide) q1149 (fun _ h => h) rfl dX7_copy_66 ?_
  refine xr_put (LL' := [[ob qa1 6 [.int (v 0), .int (v 1), .int (v 2), .int (v 3), .int (v 4), .int (v 5), .int (v 6), .int (v 7), .int (r2 8), .int (r2 9), .int (bz (r2 10))]], [ob h0 6 [.int (v 0), .int (v 1), .int (v 2), .int (v 3), .int (v 4), .int (v 5), .int (v 6), .int (v 7), .int (v 8), .int (v 9), .int (bz (v 10))]]]) hf hK hw 0 0 rfl rfl in_X7 tyX7_ok nmX7 7 (by decide) q1149 (fun _ h => h) rfl rfl rfl (Nat.le_of_ble_eq_true rfl) rfl dX7_copy_69 (fun H locs hw => ?_)
  refine lv_aload_n hx hb dX7_copy_72 rfl (lv_at hl 0 rfl) ?_
  refine lv_aload_n hx hb dX7_copy_73 rfl (lv_at hl 1 rfl) ?_
  refine xr_get hf hK hw 1 0 rfl rfl in_X7 8 (by decide) q1151 (fun _ h => h) rfl dX7_copy_74 ?_
  refine xr_put (LL' := [[ob qa1 6 [.int (v 0), .int (v 1), .int (v 2), .int (v 3), .int (v 4), .int (v 5), .int (v 6), .int (v 7), .int (v 8), .int (r2 9), .int (bz (r2 10))]], [ob h0 6 [.int (v 0), .int (v 1), .int (v 2), .int (v 3), .int (v 4), .int (v 5), .int (v 6), .int (v 7), .int (v 8), .int (v 9), .int (bz (v 10))]]]) hf hK hw 0 0 rfl rfl in_X7 tyX7_ok nmX7 8 (by decide) q1151 (fun _ h => h) rfl rfl rfl (Nat.le_of_ble_eq_true rfl) rfl dX7_copy_77 (fun H locs hw => ?_)
  refine lv_aload_n hx hb dX7_copy_80 rfl (lv_at hl 0 rfl) ?_
  refine lv_aload_n hx hb dX7_copy_81 rfl (lv_at hl 1 rfl) ?_
  refine xr_get hf hK hw 1 0 rfl rfl in_X7 9 (by decide) q1153 (fun _ h => h) rfl dX7_copy_82 ?_
  refine xr_put (LL' := [[ob qa1 6 [.int (v 0), .int (v 1), .int (v 2), .int (v 3), .int (v 4), .int (v 5), .int (v 6), .int (v 7), .int (v 8), .int (v 9), .int (bz (r2 10))]], [ob h0 6 [.int (v 0), .int (v 1), .int (v 2), .int (v 3), .int (v 4), .int (v 5), .int (v 6), .int (v 7), .int (v 8), .int (v 9), .int (bz (v 10))]]]) hf hK hw 0 0 rfl rfl in_X7 tyX7_ok nmX7 9 (by decide) q1153 (fun _ h => h) rfl rfl rfl (Nat.le_of_ble_eq_true rfl) rfl dX7_copy_85 (fun H locs hw => ?_)
  refine lv_aload_n hx hb dX7_copy_88 rfl (lv_at hl 0 rfl) ?_
  refine lv_aload_n hx hb dX7_copy_89 rfl (lv_at hl 1 rfl) ?_
  refine xr_get hf hK hw 1 0 rfl rfl in_X7 10 (by decide) q1155 (fun _ h => h) rfl dX7_copy_90 ?_
  refine xr_put (LL' := [[ob qa1 6 [.int (v 0), .int (v 1), .int (v 2), .int (v 3), .int (v 4), .int (v 5), .int (v 6), .int (v 7), .int (v 8), .int (v 9), .int (bz (v 10))]], [ob h0 6 [.int (v 0), .int (v 1), .int (v 2), .int (v 3), .int (v 4), .int (v 5), .int (v 6), .int (v 7), .int (v 8), .int (v 9), .int (bz (v 10))]]]) hf hK hw 0 0 rfl rfl in_X7 tyX7_ok nmX7 10 (by decide) q1155 (fun _ h => h) rfl (nbz _) (fbz _) (Nat.le_of_ble_eq_true rfl) rfl dX7_copy_93 (fun H locs hw => ?_)
  refine lv_aload_n hx hb dX7_copy_96 rfl (lv_at hl 0 rfl) ?_
  have hw := Wd.take (L2 := [[ob h0 6 [.int (v 0), .int (v 1), .int (v 2), .int (v 3), .int (v 4), .int (v 5), .int (v 6), .int (v 7), .int (v 8), .int (v 9), .int (bz (v 10))]], [ob qa1 6 [.int (v 0), .int (v 1), .int (v 2), .int (v 3), .int (v 4), .int (v 5), .int (v 6), .int (v 7), .int (v 8), .int (v 9), .int (bz (v 10))]]]) hw [1, 0] rfl rfl
  have e9 : f_X7_copy v = (v, v) := by
    unfold f_X7_copy
    rw [← hr2]; try dsimp only
    try rfl
  have hw : Wd D A s.heap _ _ [[ob h0 6 [.int (v 0), .int (v 1), .int (v 2), .int (v 3), .int (v 4), .int (v 5), .int (v 6), .int (v 7), .int (v 8), .int (v 9), .int (bz (v 10))]], [ob qa1 6 [.int (v 0), .int (v 1), .int (v 2), .int (v 3), .int (v 4), .int (v 5), .int (v 6), .int (v 7), .int (v 8), .int (v 9), .int (bz (v 10))]]] := hw.eq rfl
  have p1 := congrArg (fun z : (Nat → Int32) × (Nat → Int32) => [mtS h0 z.1, mtS qa1 z.2]) e9.symm
  exact xr_aret hf hr (by first | exact Or.inl ⟨_, rfl⟩ | exact Or.inr ⟨_, rfl⟩) (Or.inr ⟨_, rfl⟩) hlocks hw (Nat.le_of_ble_eq_true rfl) (Nat.le_of_ble_eq_true rfl) ⟨qa1, rfl, p1⟩ dX7_copy_97

def f_X7_die (v : Nat → Int32) (x : Int32) : Int32 × (Nat → Int32) :=
  ((imin x (v 0)), (vec [(v 0 - (imin x (v 0))), (v 1 - (imin (v 1) (imin x (v 0)))), v 2, v 3, v 4, v 5, v 6, v 7, v 8, v 9, v 10]))
set_option maxHeartbeats 4000000 in
theorem k_X7_die (l : Launch) (D : va_G) (dT g : Nat → Nat) (z0 : Nat) (h0 : Nat) (v : Nat → Int32) (x : Int32) : Con l D dT g z0 yX7_die (ws_ yX7_die cX7_die 3 (some .int)) ({ frames := 1, cells := 0, slots := 0, locals := 40 }) [.ref h0, .int x] [mtS h0 v] (fun r LL => r = some (.int (f_X7_die v x).1) ∧ LL = [mtS h0 (f_X7_die v x).2]) noX 0 0 := by
  refine Con.of (maxL := 3) (ret := (some .int)) (by first | exact plainFor_of_name (by decide) | decide +kernel) (Nat.le_of_ble_eq_true rfl) ?_
  intro p e s m args below meth c A ls hf hr hlocks hnm hno hK hA hAz hw hl hst
  have hf : CallFix p m c cX7_die 3 s args lw_all "SilkRowModel$Tray" := hf
  have hnm : meth.name = "die" := hnm
  have hx := hf.1
  have hb := hf.2.1
  have hts := hf.2.2.2.2
  have hl : lv_has ls 3 [(0, .ref h0), (1, .int x)] := hl
  have hw : Wd D A s.heap s.heap [] [[ob h0 6 [.int (v 0), .int (v 1), .int (v 2), .int (v 3), .int (v 4), .int (v 5), .int (v 6), .int (v 7), .int (v 8), .int (v 9), .int (bz (v 10))]]] := hw
  refine lv_iload_n hx hb dX7_die_0 rfl (lv_at hl 1 rfl) ?_
  refine lv_aload_n hx hb dX7_die_1 rfl (lv_at hl 0 rfl) ?_
  refine xr_get hf hK hw 0 0 rfl rfl in_X7 0 (by decide) q1135 (fun _ h => h) rfl dX7_die_2 ?_
  refine va_mmin hx hb (by rw [hf.2.2.1]; exact hl.1.symm) hf.2.2.2.1 (hts _ q1304) (hts _ q193) (hts _ q50) (hts _ q194) (Nat.le_of_ble_eq_true rfl) (Nat.le_of_ble_eq_true rfl) (Nat.le_of_ble_eq_true rfl) (Nat.le_of_ble_eq_true rfl) dX7_die_5 ?_
  refine lv_as (y := imin x (v 0)) rfl ?_
  refine lv_istore_n (lv' := [(2, .int (imin x (v 0))), (0, .ref h0), (1, .int x)]) hx hb dX7_die_8 rfl hl (by decide) rfl (fun ls hl => ?_)
  refine lv_aload_n hx hb dX7_die_9 rfl (lv_at hl 1 rfl) ?_
  refine lv_dup hx hb dX7_die_10 rfl ?_
  refine xr_get hf hK hw 0 0 rfl rfl in_X7 1 (by decide) q1137 (fun _ h => h) rfl dX7_die_11 ?_
  refine lv_aload_n hx hb dX7_die_14 rfl (lv_at hl 1 rfl) ?_
  refine xr_get hf hK hw 0 0 rfl rfl in_X7 1 (by decide) q1137 (fun _ h => h) rfl dX7_die_15 ?_
  refine lv_iload_n hx hb dX7_die_18 rfl (lv_at hl 0 rfl) ?_
  refine va_mmin hx hb (by rw [hf.2.2.1]; exact hl.1.symm) hf.2.2.2.1 (hts _ q1304) (hts _ q193) (hts _ q50) (hts _ q194) (Nat.le_of_ble_eq_true rfl) (Nat.le_of_ble_eq_true rfl) (Nat.le_of_ble_eq_true rfl) (Nat.le_of_ble_eq_true rfl) dX7_die_19 ?_
  refine lv_as (y := imin (v 1) (imin x (v 0))) rfl ?_
  refine lv_isub hx hb dX7_die_22 ?_
  refine xr_put (LL' := [[ob h0 6 [.int (v 0), .int (v 1 - (imin (v 1) (imin x (v 0)))), .int (v 2), .int (v 3), .int (v 4), .int (v 5), .int (v 6), .int (v 7), .int (v 8), .int (v 9), .int (bz (v 10))]]]) hf hK hw 0 0 rfl rfl in_X7 tyX7_ok nmX7 1 (by decide) q1137 (fun _ h => h) rfl rfl rfl (Nat.le_of_ble_eq_true rfl) rfl dX7_die_23 (fun H locs hw => ?_)
  refine lv_aload_n hx hb dX7_die_26 rfl (lv_at hl 1 rfl) ?_
  refine lv_dup hx hb dX7_die_27 rfl ?_
  refine xr_get hf hK hw 0 0 rfl rfl in_X7 0 (by decide) q1135 (fun _ h => h) rfl dX7_die_28 ?_
  refine lv_iload_n hx hb dX7_die_31 rfl (lv_at hl 0 rfl) ?_
  refine lv_isub hx hb dX7_die_32 ?_
  refine xr_put (LL' := [[ob h0 6 [.int (v 0 - (imin x (v 0))), .int (v 1 - (imin (v 1) (imin x (v 0)))), .int (v 2), .int (v 3), .int (v 4), .int (v 5), .int (v 6), .int (v 7), .int (v 8), .int (v 9), .int (bz (v 10))]]]) hf hK hw 0 0 rfl rfl in_X7 tyX7_ok nmX7 0 (by decide) q1135 (fun _ h => h) rfl rfl rfl (Nat.le_of_ble_eq_true rfl) rfl dX7_die_33 (fun H locs hw => ?_)
  refine lv_iload_n hx hb dX7_die_36 rfl (lv_at hl 0 rfl) ?_
  have e9 : f_X7_die v x = ((imin x (v 0)), (vec [(v 0 - (imin x (v 0))), (v 1 - (imin (v 1) (imin x (v 0)))), v 2, v 3, v 4, v 5, v 6, v 7, v 8, v 9, v 10])) := by
    unfold f_X7_die
    try rfl
  have p0 := congrArg (fun z : Int32 × (Nat → Int32) => some (Value.int z.1)) e9.symm
  have p1 := congrArg (fun z : Int32 × (Nat → Int32) => [mtS h0 z.2]) e9.symm
  exact xr_iret hf hr hlocks hw (Nat.le_of_ble_eq_true rfl) (Nat.le_of_ble_eq_true rfl) ⟨p0, p1⟩ dX7_die_37

def f_X7_moulted (v : Nat → Int32)  : Int32 × (Nat → Int32) :=
  if (v 5 - 1) = 0 then
    (0, (vec [v 0, v 1, v 2, (v 3 + 1), v 4, (v 5 - 1), v 6, v 7, v 8, v 9, v 10]))
  else
    (0, (vec [v 0, v 1, v 2, v 3, v 4, (v 5 - 1), v 6, v 7, v 8, v 9, v 10]))
set_option maxHeartbeats 4000000 in
theorem k_X7_moulted (l : Launch) (D : va_G) (dT g : Nat → Nat) (z0 : Nat) (h0 : Nat) (v : Nat → Int32)  : Con l D dT g z0 yX7_moulted (ws_ yX7_moulted cX7_moulted 1 (some .int)) ({ frames := 1, cells := 0, slots := 0, locals := 40 }) [.ref h0] [mtS h0 v] (fun r LL => r = some (.int (f_X7_moulted v).1) ∧ LL = [mtS h0 (f_X7_moulted v).2]) noX 0 0 := by
  refine Con.of (maxL := 1) (ret := (some .int)) (by first | exact plainFor_of_name (by decide) | decide +kernel) (Nat.le_of_ble_eq_true rfl) ?_
  intro p e s m args below meth c A ls hf hr hlocks hnm hno hK hA hAz hw hl hst
  have hf : CallFix p m c cX7_moulted 1 s args lw_all "SilkRowModel$Tray" := hf
  have hnm : meth.name = "moulted" := hnm
  have hx := hf.1
  have hb := hf.2.1
  have hts := hf.2.2.2.2
  have hl : lv_has ls 1 [(0, .ref h0)] := hl
  have hw : Wd D A s.heap s.heap [] [[ob h0 6 [.int (v 0), .int (v 1), .int (v 2), .int (v 3), .int (v 4), .int (v 5), .int (v 6), .int (v 7), .int (v 8), .int (v 9), .int (bz (v 10))]]] := hw
  refine lv_aload_n hx hb dX7_moulted_0 rfl (lv_at hl 0 rfl) ?_
  refine lv_dup hx hb dX7_moulted_1 rfl ?_
  refine xr_get hf hK hw 0 0 rfl rfl in_X7 5 (by decide) q1145 (fun _ h => h) rfl dX7_moulted_2 ?_
  refine lv_iconst (v := 1) hx hb dX7_moulted_5 (by decide) ?_
  refine lv_isub hx hb dX7_moulted_6 ?_
  refine xr_put (LL' := [[ob h0 6 [.int (v 0), .int (v 1), .int (v 2), .int (v 3), .int (v 4), .int (v 5 - 1), .int (v 6), .int (v 7), .int (v 8), .int (v 9), .int (bz (v 10))]]]) hf hK hw 0 0 rfl rfl in_X7 tyX7_ok nmX7 5 (by decide) q1145 (fun _ h => h) rfl rfl rfl (Nat.le_of_ble_eq_true rfl) rfl dX7_moulted_7 (fun H locs hw => ?_)
  refine lv_aload_n hx hb dX7_moulted_10 rfl (lv_at hl 0 rfl) ?_
  refine xr_get hf hK hw 0 0 rfl rfl in_X7 5 (by decide) q1145 (fun _ h => h) rfl dX7_moulted_11 ?_
  refine lv_if_ne (tgt := 27) hx hb dX7_moulted_14 (by decide) (fun c_14 => ?_) (fun c_14 => ?_)
  · refine lv_iconst (v := 0) hx hb dX7_moulted_27 (by decide) ?_
    have e9 : f_X7_moulted v = (0, (vec [v 0, v 1, v 2, v 3, v 4, (v 5 - 1), v 6, v 7, v 8, v 9, v 10])) := by
      unfold f_X7_moulted
      rw [if_neg c_14]
      try rfl
    have p0 := congrArg (fun z : Int32 × (Nat → Int32) => some (Value.int z.1)) e9.symm
    have p1 := congrArg (fun z : Int32 × (Nat → Int32) => [mtS h0 z.2]) e9.symm
    exact xr_iret hf hr hlocks hw (Nat.le_of_ble_eq_true rfl) (Nat.le_of_ble_eq_true rfl) ⟨p0, p1⟩ dX7_moulted_28
  · refine lv_aload_n hx hb dX7_moulted_17 rfl (lv_at hl 0 rfl) ?_
    refine lv_dup hx hb dX7_moulted_18 rfl ?_
    refine xr_get hf hK hw 0 0 rfl rfl in_X7 3 (by decide) q1141 (fun _ h => h) rfl dX7_moulted_19 ?_
    refine lv_iconst (v := 1) hx hb dX7_moulted_22 (by decide) ?_
    refine lv_iadd hx hb dX7_moulted_23 ?_
    refine xr_put (LL' := [[ob h0 6 [.int (v 0), .int (v 1), .int (v 2), .int (v 3 + 1), .int (v 4), .int (v 5 - 1), .int (v 6), .int (v 7), .int (v 8), .int (v 9), .int (bz (v 10))]]]) hf hK hw 0 0 rfl rfl in_X7 tyX7_ok nmX7 3 (by decide) q1141 (fun _ h => h) rfl rfl rfl (Nat.le_of_ble_eq_true rfl) rfl dX7_moulted_24 (fun H locs hw => ?_)
    refine lv_iconst (v := 0) hx hb dX7_moulted_27 (by decide) ?_
    have e9 : f_X7_moulted v = (0, (vec [v 0, v 1, v 2, (v 3 + 1), v 4, (v 5 - 1), v 6, v 7, v 8, v 9, v 10])) := by
      unfold f_X7_moulted
      rw [if_pos c_14]
      try rfl
    have p0 := congrArg (fun z : Int32 × (Nat → Int32) => some (Value.int z.1)) e9.symm
    have p1 := congrArg (fun z : Int32 × (Nat → Int32) => [mtS h0 z.2]) e9.symm
    exact xr_iret hf hr hlocks hw (Nat.le_of_ble_eq_true rfl) (Nat.le_of_ble_eq_true rfl) ⟨p0, p1⟩ dX7_moulted_28

def f_X7_ate (v : Nat → Int32)  : Int32 × (Nat → Int32) :=
  (fun r1 : Int32 × (Nat → Int32) =>
    if v 8 < r1.1 then
      if (v 6 + 1) ≤ 1 then
        if v 3 = 5 then
          if 5 ≤ v 4 then
            (0, (vec [v 0, v 1, v 2, v 3, 0, v 5, (v 6 + 1), v 7, v 8, v 9, 1]))
          else
            (0, (vec [v 0, v 1, v 2, v 3, v 4, v 5, (v 6 + 1), v 7, v 8, v 9, v 10]))
        else
          if 3 ≤ v 4 then
            (0, (vec [v 0, v 1, v 2, v 3, 0, 2, (v 6 + 1), v 7, v 8, v 9, v 10]))
          else
            (0, (vec [v 0, v 1, v 2, v 3, v 4, v 5, (v 6 + 1), v 7, v 8, v 9, v 10]))
      else
        (fun r2 : Int32 =>
          (fun r3 : Int32 × (Nat → Int32) =>
            if r3.2 3 = 5 then
              if 5 ≤ r3.2 4 then
                (r3.1, (vec [r3.2 0, r3.2 1, r3.2 2, r3.2 3, 0, r3.2 5, r3.2 6, r3.2 7, r3.2 8, r3.2 9, 1]))
              else
                (r3.1, r3.2)
            else
              if 3 ≤ r3.2 4 then
                (r3.1, (vec [r3.2 0, r3.2 1, r3.2 2, r3.2 3, 0, 2, r3.2 6, r3.2 7, r3.2 8, r3.2 9, r3.2 10]))
              else
                (r3.1, r3.2)) (f_X7_die (vec [v 0, v 1, v 2, v 3, v 4, v 5, (v 6 + 1), v 7, v 8, v 9, v 10]) r2)) (f_X4_up (v 0) 10)
    else
      if v 3 = 5 then
        if 5 ≤ (v 4 + 1) then
          (0, (vec [v 0, v 1, v 2, v 3, 0, v 5, 0, (v 7 + 1), v 8, v 9, 1]))
        else
          (0, (vec [v 0, v 1, v 2, v 3, (v 4 + 1), v 5, 0, (v 7 + 1), v 8, v 9, v 10]))
      else
        if 3 ≤ (v 4 + 1) then
          (0, (vec [v 0, v 1, v 2, v 3, 0, 2, 0, (v 7 + 1), v 8, v 9, v 10]))
        else
          (0, (vec [v 0, v 1, v 2, v 3, (v 4 + 1), v 5, 0, (v 7 + 1), v 8, v 9, v 10]))) (f_X7_need v)
set_option maxHeartbeats 4000000 in
theorem k_X7_ate (l : Launch) (D : va_G) (dT g : Nat → Nat) (z0 : Nat) (h0 : Nat) (v : Nat → Int32)  : Con l D dT g z0 yX7_ate (ws_ yX7_ate cX7_ate 2 (some .int)) ({ frames := 3, cells := 0, slots := 0, locals := 81 }) [.ref h0] [mtS h0 v] (fun r LL => r = some (.int (f_X7_ate v).1) ∧ LL = [mtS h0 (f_X7_ate v).2]) noX 0 0 := by
  refine Con.of (maxL := 2) (ret := (some .int)) (by first | exact plainFor_of_name (by decide) | decide +kernel) (Nat.le_of_ble_eq_true rfl) ?_
  intro p e s m args below meth c A ls hf hr hlocks hnm hno hK hA hAz hw hl hst
  have hf : CallFix p m c cX7_ate 2 s args lw_all "SilkRowModel$Tray" := hf
  have hnm : meth.name = "ate" := hnm
  have hx := hf.1
  have hb := hf.2.1
  have hts := hf.2.2.2.2
  have hl : lv_has ls 2 [(0, .ref h0)] := hl
  have hw : Wd D A s.heap s.heap [] [[ob h0 6 [.int (v 0), .int (v 1), .int (v 2), .int (v 3), .int (v 4), .int (v 5), .int (v 6), .int (v 7), .int (v 8), .int (v 9), .int (bz (v 10))]]] := hw
  refine lv_iconst (v := 0) hx hb dX7_ate_0 (by decide) ?_
  refine lv_istore_n (lv' := [(1, .int 0), (0, .ref h0)]) hx hb dX7_ate_1 rfl hl (by decide) rfl (fun ls hl => ?_)
  refine lv_aload_n hx hb dX7_ate_2 rfl (lv_at hl 1 rfl) ?_
  refine xr_get hf hK hw 0 0 rfl rfl in_X7 8 (by decide) q1151 (fun _ h => h) rfl dX7_ate_3 ?_
  refine lv_aload_n hx hb dX7_ate_6 rfl (lv_at hl 1 rfl) ?_
  refine xc_V (rest := [.int (v 8)]) (As := []) hf hK hA hAz hst (hw.pick [0] rfl rfl rfl) (k_X7_need l D dT g z0 h0 v) (cwV 0 hts (lw_V q1293 q1294 q1295 q57 q1296) rfl rfl rfl (by decide +kernel) ⟨Nat.le_of_ble_eq_true rfl, Nat.le_of_ble_eq_true rfl⟩) (xr_rv hK hw 0 0 rfl rfl) rfl hl.1 rfl (Nat.le_of_ble_eq_true rfl) dX7_ate_7 ⟨(Nat.le_of_ble_eq_true rfl), (Nat.le_of_ble_eq_true rfl)⟩ (fun _ _ _ _ _ _ h => h.elim) (fun v9 LL1 H locs hp hw => ?_)
  rw [fs_X7_need] at hp
  obtain ⟨r1, hr1⟩ : ∃ z, z = f_X7_need v := ⟨_, rfl⟩
  rw [← hr1] at hp
  obtain ⟨rfl, rfl⟩ := hp
  have hw : Wd D A s.heap _ _ [[ob h0 6 [.int (v 0), .int (v 1), .int (v 2), .int (v 3), .int (v 4), .int (v 5), .int (v 6), .int (v 7), .int (v 8), .int (v 9), .int (bz (v 10))]]] := hw
  refine W.eq (g2 := F0 m 10 ls [.int r1.1, .int (v 8)]) rfl ?_
  refine lv_icmp_lt (tgt := 41) hx hb dX7_ate_10 (by decide) (fun c_10 => ?_) (fun c_10 => ?_)
  · refine lv_aload_n hx hb dX7_ate_41 rfl (lv_at hl 1 rfl) ?_
    refine lv_dup hx hb dX7_ate_42 rfl ?_
    refine xr_get hf hK hw 0 0 rfl rfl in_X7 6 (by decide) q1147 (fun _ h => h) rfl dX7_ate_43 ?_
    refine lv_iconst (v := 1) hx hb dX7_ate_46 (by decide) ?_
    refine lv_iadd hx hb dX7_ate_47 ?_
    refine xr_put (LL' := [[ob h0 6 [.int (v 0), .int (v 1), .int (v 2), .int (v 3), .int (v 4), .int (v 5), .int (v 6 + 1), .int (v 7), .int (v 8), .int (v 9), .int (bz (v 10))]]]) hf hK hw 0 0 rfl rfl in_X7 tyX7_ok nmX7 6 (by decide) q1147 (fun _ h => h) rfl rfl rfl (Nat.le_of_ble_eq_true rfl) rfl dX7_ate_48 (fun H locs hw => ?_)
    refine lv_aload_n hx hb dX7_ate_51 rfl (lv_at hl 1 rfl) ?_
    refine xr_get hf hK hw 0 0 rfl rfl in_X7 6 (by decide) q1147 (fun _ h => h) rfl dX7_ate_52 ?_
    refine lv_iconst (v := 1) hx hb dX7_ate_55 (by decide) ?_
    refine lv_icmp_le (tgt := 73) hx hb dX7_ate_56 (by decide) (fun c_56 => ?_) (fun c_56 => ?_)
    · refine lv_aload_n hx hb dX7_ate_73 rfl (lv_at hl 1 rfl) ?_
      refine xr_get hf hK hw 0 0 rfl rfl in_X7 4 (by decide) q1143 (fun _ h => h) rfl dX7_ate_74 ?_
      refine lv_aload_n hx hb dX7_ate_77 rfl (lv_at hl 1 rfl) ?_
      refine xr_get hf hK hw 0 0 rfl rfl in_X7 3 (by decide) q1141 (fun _ h => h) rfl dX7_ate_78 ?_
      refine lv_iconst (v := 5) hx hb dX7_ate_81 (by decide) ?_
      refine lv_icmp_ne (tgt := 89) hx hb dX7_ate_82 (by decide) (fun c_82 => ?_) (fun c_82 => ?_)
      · refine lv_iconst (v := 3) hx hb dX7_ate_89 (by decide) ?_
        refine lv_icmp_ge (tgt := 95) hx hb dX7_ate_90 (by decide) (fun c_90 => ?_) (fun c_90 => ?_)
        · refine lv_aload_n hx hb dX7_ate_95 rfl (lv_at hl 1 rfl) ?_
          refine lv_iconst (v := 0) hx hb dX7_ate_96 (by decide) ?_
          refine xr_put (LL' := [[ob h0 6 [.int (v 0), .int (v 1), .int (v 2), .int (v 3), .int 0, .int (v 5), .int (v 6 + 1), .int (v 7), .int (v 8), .int (v 9), .int (bz (v 10))]]]) hf hK hw 0 0 rfl rfl in_X7 tyX7_ok nmX7 4 (by decide) q1143 (fun _ h => h) rfl rfl rfl (Nat.le_of_ble_eq_true rfl) rfl dX7_ate_97 (fun H locs hw => ?_)
          refine lv_aload_n hx hb dX7_ate_100 rfl (lv_at hl 1 rfl) ?_
          refine xr_get hf hK hw 0 0 rfl rfl in_X7 3 (by decide) q1141 (fun _ h => h) rfl dX7_ate_101 ?_
          refine lv_iconst (v := 5) hx hb dX7_ate_104 (by decide) ?_
          refine lv_icmp_ne (tgt := 116) hx hb dX7_ate_105 (by decide) (fun _ => ?_) (fun c9 => absurd c9 c_82)
          refine lv_aload_n hx hb dX7_ate_116 rfl (lv_at hl 1 rfl) ?_
          refine lv_iconst (v := 2) hx hb dX7_ate_117 (by decide) ?_
          refine xr_put (LL' := [[ob h0 6 [.int (v 0), .int (v 1), .int (v 2), .int (v 3), .int 0, .int 2, .int (v 6 + 1), .int (v 7), .int (v 8), .int (v 9), .int (bz (v 10))]]]) hf hK hw 0 0 rfl rfl in_X7 tyX7_ok nmX7 5 (by decide) q1145 (fun _ h => h) rfl rfl rfl (Nat.le_of_ble_eq_true rfl) rfl dX7_ate_118 (fun H locs hw => ?_)
          refine lv_iload_n hx hb dX7_ate_121 rfl (lv_at hl 0 rfl) ?_
          have e9 : f_X7_ate v = (0, (vec [v 0, v 1, v 2, v 3, 0, 2, (v 6 + 1), v 7, v 8, v 9, v 10])) := by
            unfold f_X7_ate
            rw [← hr1]; try dsimp only
            rw [if_pos c_10]
            rw [if_pos c_56]
            rw [if_neg c_82]
            rw [if_pos c_90]
            try rfl
          have p0 := congrArg (fun z : Int32 × (Nat → Int32) => some (Value.int z.1)) e9.symm
          have p1 := congrArg (fun z : Int32 × (Nat → Int32) => [mtS h0 z.2]) e9.symm
          exact xr_iret hf hr hlocks hw (Nat.le_of_ble_eq_true rfl) (Nat.le_of_ble_eq_true rfl) ⟨p0, p1⟩ dX7_ate_122
        · refine lv_iload_n hx hb dX7_ate_93 rfl (lv_at hl 0 rfl) ?_
          have e9 : f_X7_ate v = (0, (vec [v 0, v 1, v 2, v 3, v 4, v 5, (v 6 + 1), v 7, v 8, v 9, v 10])) := by
            unfold f_X7_ate
            rw [← hr1]; try dsimp only
            rw [if_pos c_10]
            rw [if_pos c_56]
            rw [if_neg c_82]
            rw [if_neg c_90]
            try rfl
          have p0 := congrArg (fun z : Int32 × (Nat → Int32) => some (Value.int z.1)) e9.symm
          have p1 := congrArg (fun z : Int32 × (Nat → Int32) => [mtS h0 z.2]) e9.symm
          exact xr_iret hf hr hlocks hw (Nat.le_of_ble_eq_true rfl) (Nat.le_of_ble_eq_true rfl) ⟨p0, p1⟩ dX7_ate_94
      · refine lv_iconst (v := 5) hx hb dX7_ate_85 (by decide) ?_
        refine lv_goto (tgt := 90) hx hb dX7_ate_86 (by decide) ?_
        refine lv_icmp_ge (tgt := 95) hx hb dX7_ate_90 (by decide) (fun c_90 => ?_) (fun c_90 => ?_)
        · refine lv_aload_n hx hb dX7_ate_95 rfl (lv_at hl 1 rfl) ?_
          refine lv_iconst (v := 0) hx hb dX7_ate_96 (by decide) ?_
          refine xr_put (LL' := [[ob h0 6 [.int (v 0), .int (v 1), .int (v 2), .int (v 3), .int 0, .int (v 5), .int (v 6 + 1), .int (v 7), .int (v 8), .int (v 9), .int (bz (v 10))]]]) hf hK hw 0 0 rfl rfl in_X7 tyX7_ok nmX7 4 (by decide) q1143 (fun _ h => h) rfl rfl rfl (Nat.le_of_ble_eq_true rfl) rfl dX7_ate_97 (fun H locs hw => ?_)
          refine lv_aload_n hx hb dX7_ate_100 rfl (lv_at hl 1 rfl) ?_
          refine xr_get hf hK hw 0 0 rfl rfl in_X7 3 (by decide) q1141 (fun _ h => h) rfl dX7_ate_101 ?_
          refine lv_iconst (v := 5) hx hb dX7_ate_104 (by decide) ?_
          refine lv_icmp_ne (tgt := 116) hx hb dX7_ate_105 (by decide) (fun c9 => absurd c_82 c9) (fun _ => ?_)
          refine lv_aload_n hx hb dX7_ate_108 rfl (lv_at hl 1 rfl) ?_
          refine lv_iconst (v := 1) hx hb dX7_ate_109 (by decide) ?_
          refine xr_put (LL' := [[ob h0 6 [.int (v 0), .int (v 1), .int (v 2), .int (v 3), .int 0, .int (v 5), .int (v 6 + 1), .int (v 7), .int (v 8), .int (v 9), .int 1]]]) hf hK hw 0 0 rfl rfl in_X7 tyX7_ok nmX7 10 (by decide) q1155 (fun _ h => h) rfl rfl rfl (Nat.le_of_ble_eq_true rfl) rfl dX7_ate_110 (fun H locs hw => ?_)
          refine lv_goto (tgt := 121) hx hb dX7_ate_113 (by decide) ?_
          refine lv_iload_n hx hb dX7_ate_121 rfl (lv_at hl 0 rfl) ?_
          have e9 : f_X7_ate v = (0, (vec [v 0, v 1, v 2, v 3, 0, v 5, (v 6 + 1), v 7, v 8, v 9, 1])) := by
            unfold f_X7_ate
            rw [← hr1]; try dsimp only
            rw [if_pos c_10]
            rw [if_pos c_56]
            rw [if_pos c_82]
            rw [if_pos c_90]
            try rfl
          have p0 := congrArg (fun z : Int32 × (Nat → Int32) => some (Value.int z.1)) e9.symm
          have p1 := congrArg (fun z : Int32 × (Nat → Int32) => [mtS h0 z.2]) e9.symm
          exact xr_iret hf hr hlocks hw (Nat.le_of_ble_eq_true rfl) (Nat.le_of_ble_eq_true rfl) ⟨p0, p1⟩ dX7_ate_122
        · refine lv_iload_n hx hb dX7_ate_93 rfl (lv_at hl 0 rfl) ?_
          have e9 : f_X7_ate v = (0, (vec [v 0, v 1, v 2, v 3, v 4, v 5, (v 6 + 1), v 7, v 8, v 9, v 10])) := by
            unfold f_X7_ate
            rw [← hr1]; try dsimp only
            rw [if_pos c_10]
            rw [if_pos c_56]
            rw [if_pos c_82]
            rw [if_neg c_90]
            try rfl
          have p0 := congrArg (fun z : Int32 × (Nat → Int32) => some (Value.int z.1)) e9.symm
          have p1 := congrArg (fun z : Int32 × (Nat → Int32) => [mtS h0 z.2]) e9.symm
          exact xr_iret hf hr hlocks hw (Nat.le_of_ble_eq_true rfl) (Nat.le_of_ble_eq_true rfl) ⟨p0, p1⟩ dX7_ate_94
    · refine lv_aload_n hx hb dX7_ate_59 rfl (lv_at hl 1 rfl) ?_
      refine lv_aload_n hx hb dX7_ate_60 rfl (lv_at hl 1 rfl) ?_
      refine xr_get hf hK hw 0 0 rfl rfl in_X7 0 (by decide) q1135 (fun _ h => h) rfl dX7_ate_61 ?_
      refine lv_bipush (v := 10) hx hb dX7_ate_64 (by decide) ?_
      refine xc_SN (rest := [.ref h0]) (As := [.int (v 0), .int 10]) hf hK hA hAz hst (hw.pick [] rfl rfl rfl) (k_X4_up l D dT g z0 (v 0) 10 (by decide)) ⟨va_cnB 2 hts (lw_meth q1299) rfl rfl rfl (hK.nw q1297 rfl) (hts _ q54) (by decide +kernel) ⟨Nat.le_of_ble_eq_true rfl, Nat.le_of_ble_eq_true rfl⟩, hts _ q1298⟩ rfl hl.1 rfl (Nat.le_of_ble_eq_true rfl) dX7_ate_66 ⟨(Nat.le_of_ble_eq_true rfl), (Nat.le_of_ble_eq_true rfl)⟩ (fun _ _ _ _ _ _ h => h.elim) (fun v9 LL1 H locs hp hw => ?_)
      obtain ⟨r2, hr2⟩ : ∃ z, z = f_X4_up (v 0) 10 := ⟨_, rfl⟩
      rw [← hr2] at hp
      obtain ⟨rfl, rfl⟩ := hp
      have hw : Wd D A s.heap _ _ [[ob h0 6 [.int (v 0), .int (v 1), .int (v 2), .int (v 3), .int (v 4), .int (v 5), .int (v 6 + 1), .int (v 7), .int (v 8), .int (v 9), .int (bz (v 10))]]] := hw
      refine W.eq (g2 := F0 m 69 ls [.int r2, .ref h0]) rfl ?_
      refine xc_V (rest := []) (As := [.int r2]) hf hK hA hAz hst (hw.pick [0] rfl rfl rfl) (k_X7_die l D dT g z0 h0 (vec [v 0, v 1, v 2, v 3, v 4, v 5, (v 6 + 1), v 7, v 8, v 9, v 10]) r2) (cwV 1 hts (lw_V q1300 q1301 q1302 q57 q1303) rfl rfl rfl (by decide +kernel) ⟨Nat.le_of_ble_eq_true rfl, Nat.le_of_ble_eq_true rfl⟩) (xr_rv hK hw 0 0 rfl rfl) rfl hl.1 rfl (Nat.le_of_ble_eq_true rfl) dX7_ate_69 ⟨(Nat.le_of_ble_eq_true rfl), (Nat.le_of_ble_eq_true rfl)⟩ (fun _ _ _ _ _ _ h => h.elim) (fun v9 LL1 H locs hp hw => ?_)
      obtain ⟨r3, hr3⟩ : ∃ z, z = f_X7_die (vec [v 0, v 1, v 2, v 3, v 4, v 5, (v 6 + 1), v 7, v 8, v 9, v 10]) r2 := ⟨_, rfl⟩
      rw [← hr3] at hp
      obtain ⟨rfl, rfl⟩ := hp
      have hw : Wd D A s.heap _ _ [[ob h0 6 [.int (r3.2 0), .int (r3.2 1), .int (r3.2 2), .int (r3.2 3), .int (r3.2 4), .int (r3.2 5), .int (r3.2 6), .int (r3.2 7), .int (r3.2 8), .int (r3.2 9), .int (bz (r3.2 10))]]] := hw
      refine W.eq (g2 := F0 m 72 ls [.int r3.1]) rfl ?_
      refine lv_istore_n (lv' := [(1, .int r3.1), (0, .ref h0)]) hx hb dX7_ate_72 rfl hl (by decide) rfl (fun ls hl => ?_)
      refine lv_aload_n hx hb dX7_ate_73 rfl (lv_at hl 1 rfl) ?_
      refine xr_get hf hK hw 0 0 rfl rfl in_X7 4 (by decide) q1143 (fun _ h => h) rfl dX7_ate_74 ?_
      refine lv_aload_n hx hb dX7_ate_77 rfl (lv_at hl 1 rfl) ?_
      refine xr_get hf hK hw 0 0 rfl rfl in_X7 3 (by decide) q1141 (fun _ h => h) rfl dX7_ate_78 ?_
      refine lv_iconst (v := 5) hx hb dX7_ate_81 (by decide) ?_
      refine lv_icmp_ne (tgt := 89) hx hb dX7_ate_82 (by decide) (fun c_82 => ?_) (fun c_82 => ?_)
      · refine lv_iconst (v := 3) hx hb dX7_ate_89 (by decide) ?_
        refine lv_icmp_ge (tgt := 95) hx hb dX7_ate_90 (by decide) (fun c_90 => ?_) (fun c_90 => ?_)
        · refine lv_aload_n hx hb dX7_ate_95 rfl (lv_at hl 1 rfl) ?_
          refine lv_iconst (v := 0) hx hb dX7_ate_96 (by decide) ?_
          refine xr_put (LL' := [[ob h0 6 [.int (r3.2 0), .int (r3.2 1), .int (r3.2 2), .int (r3.2 3), .int 0, .int (r3.2 5), .int (r3.2 6), .int (r3.2 7), .int (r3.2 8), .int (r3.2 9), .int (bz (r3.2 10))]]]) hf hK hw 0 0 rfl rfl in_X7 tyX7_ok nmX7 4 (by decide) q1143 (fun _ h => h) rfl rfl rfl (Nat.le_of_ble_eq_true rfl) rfl dX7_ate_97 (fun H locs hw => ?_)
          refine lv_aload_n hx hb dX7_ate_100 rfl (lv_at hl 1 rfl) ?_
          refine xr_get hf hK hw 0 0 rfl rfl in_X7 3 (by decide) q1141 (fun _ h => h) rfl dX7_ate_101 ?_
          refine lv_iconst (v := 5) hx hb dX7_ate_104 (by decide) ?_
          refine lv_icmp_ne (tgt := 116) hx hb dX7_ate_105 (by decide) (fun _ => ?_) (fun c9 => absurd c9 c_82)
          refine lv_aload_n hx hb dX7_ate_116 rfl (lv_at hl 1 rfl) ?_
          refine lv_iconst (v := 2) hx hb dX7_ate_117 (by decide) ?_
          refine xr_put (LL' := [[ob h0 6 [.int (r3.2 0), .int (r3.2 1), .int (r3.2 2), .int (r3.2 3), .int 0, .int 2, .int (r3.2 6), .int (r3.2 7), .int (r3.2 8), .int (r3.2 9), .int (bz (r3.2 10))]]]) hf hK hw 0 0 rfl rfl in_X7 tyX7_ok nmX7 5 (by decide) q1145 (fun _ h => h) rfl rfl rfl (Nat.le_of_ble_eq_true rfl) rfl dX7_ate_118 (fun H locs hw => ?_)
          refine lv_iload_n hx hb dX7_ate_121 rfl (lv_at hl 0 rfl) ?_
          have e9 : f_X7_ate v = (r3.1, (vec [r3.2 0, r3.2 1, r3.2 2, r3.2 3, 0, 2, r3.2 6, r3.2 7, r3.2 8, r3.2 9, r3.2 10])) := by
            unfold f_X7_ate
            rw [← hr1]; try dsimp only
            rw [if_pos c_10]
            rw [if_neg c_56]
            rw [← hr2]; try dsimp only
            rw [← hr3]; try dsimp only
            rw [if_neg c_82]
            rw [if_pos c_90]
            try rfl
          have p0 := congrArg (fun z : Int32 × (Nat → Int32) => some (Value.int z.1)) e9.symm
          have p1 := congrArg (fun z : Int32 × (Nat → Int32) => [mtS h0 z.2]) e9.symm
          exact xr_iret hf hr hlocks hw (Nat.le_of_ble_eq_true rfl) (Nat.le_of_ble_eq_true rfl) ⟨p0, p1⟩ dX7_ate_122
        · refine lv_iload_n hx hb dX7_ate_93 rfl (lv_at hl 0 rfl) ?_
          have e9 : f_X7_ate v = (r3.1, r3.2) := by
            unfold f_X7_ate
            rw [← hr1]; try dsimp only
            rw [if_pos c_10]
            rw [if_neg c_56]
            rw [← hr2]; try dsimp only
            rw [← hr3]; try dsimp only
            rw [if_neg c_82]
            rw [if_neg c_90]
            try rfl
          have p0 := congrArg (fun z : Int32 × (Nat → Int32) => some (Value.int z.1)) e9.symm
          have p1 := congrArg (fun z : Int32 × (Nat → Int32) => [mtS h0 z.2]) e9.symm
          exact xr_iret hf hr hlocks hw (Nat.le_of_ble_eq_true rfl) (Nat.le_of_ble_eq_true rfl) ⟨p0, p1⟩ dX7_ate_94
      · refine lv_iconst (v := 5) hx hb dX7_ate_85 (by decide) ?_
        refine lv_goto (tgt := 90) hx hb dX7_ate_86 (by decide) ?_
        refine lv_icmp_ge (tgt := 95) hx hb dX7_ate_90 (by decide) (fun c_90 => ?_) (fun c_90 => ?_)
        · refine lv_aload_n hx hb dX7_ate_95 rfl (lv_at hl 1 rfl) ?_
          refine lv_iconst (v := 0) hx hb dX7_ate_96 (by decide) ?_
          refine xr_put (LL' := [[ob h0 6 [.int (r3.2 0), .int (r3.2 1), .int (r3.2 2), .int (r3.2 3), .int 0, .int (r3.2 5), .int (r3.2 6), .int (r3.2 7), .int (r3.2 8), .int (r3.2 9), .int (bz (r3.2 10))]]]) hf hK hw 0 0 rfl rfl in_X7 tyX7_ok nmX7 4 (by decide) q1143 (fun _ h => h) rfl rfl rfl (Nat.le_of_ble_eq_true rfl) rfl dX7_ate_97 (fun H locs hw => ?_)
          refine lv_aload_n hx hb dX7_ate_100 rfl (lv_at hl 1 rfl) ?_
          refine xr_get hf hK hw 0 0 rfl rfl in_X7 3 (by decide) q1141 (fun _ h => h) rfl dX7_ate_101 ?_
          refine lv_iconst (v := 5) hx hb dX7_ate_104 (by decide) ?_
          refine lv_icmp_ne (tgt := 116) hx hb dX7_ate_105 (by decide) (fun c9 => absurd c_82 c9) (fun _ => ?_)
          refine lv_aload_n hx hb dX7_ate_108 rfl (lv_at hl 1 rfl) ?_
          refine lv_iconst (v := 1) hx hb dX7_ate_109 (by decide) ?_
          refine xr_put (LL' := [[ob h0 6 [.int (r3.2 0), .int (r3.2 1), .int (r3.2 2), .int (r3.2 3), .int 0, .int (r3.2 5), .int (r3.2 6), .int (r3.2 7), .int (r3.2 8), .int (r3.2 9), .int 1]]]) hf hK hw 0 0 rfl rfl in_X7 tyX7_ok nmX7 10 (by decide) q1155 (fun _ h => h) rfl rfl rfl (Nat.le_of_ble_eq_true rfl) rfl dX7_ate_110 (fun H locs hw => ?_)
          refine lv_goto (tgt := 121) hx hb dX7_ate_113 (by decide) ?_
          refine lv_iload_n hx hb dX7_ate_121 rfl (lv_at hl 0 rfl) ?_
          have e9 : f_X7_ate v = (r3.1, (vec [r3.2 0, r3.2 1, r3.2 2, r3.2 3, 0, r3.2 5, r3.2 6, r3.2 7, r3.2 8, r3.2 9, 1])) := by
            unfold f_X7_ate
            rw [← hr1]; try dsimp only
            rw [if_pos c_10]
            rw [if_neg c_56]
            rw [← hr2]; try dsimp only
            rw [← hr3]; try dsimp only
            rw [if_pos c_82]
            rw [if_pos c_90]
            try rfl
          have p0 := congrArg (fun z : Int32 × (Nat → Int32) => some (Value.int z.1)) e9.symm
          have p1 := congrArg (fun z : Int32 × (Nat → Int32) => [mtS h0 z.2]) e9.symm
          exact xr_iret hf hr hlocks hw (Nat.le_of_ble_eq_true rfl) (Nat.le_of_ble_eq_true rfl) ⟨p0, p1⟩ dX7_ate_122
        · refine lv_iload_n hx hb dX7_ate_93 rfl (lv_at hl 0 rfl) ?_
          have e9 : f_X7_ate v = (r3.1, r3.2) := by
            unfold f_X7_ate
            rw [← hr1]; try dsimp only
            rw [if_pos c_10]
            rw [if_neg c_56]
            rw [← hr2]; try dsimp only
            rw [← hr3]; try dsimp only
            rw [if_pos c_82]
            rw [if_neg c_90]
            try rfl
          have p0 := congrArg (fun z : Int32 × (Nat → Int32) => some (Value.int z.1)) e9.symm
          have p1 := congrArg (fun z : Int32 × (Nat → Int32) => [mtS h0 z.2]) e9.symm
          exact xr_iret hf hr hlocks hw (Nat.le_of_ble_eq_true rfl) (Nat.le_of_ble_eq_true rfl) ⟨p0, p1⟩ dX7_ate_94
  · refine lv_aload_n hx hb dX7_ate_13 rfl (lv_at hl 1 rfl) ?_
    refine lv_dup hx hb dX7_ate_14 rfl ?_
    refine xr_get hf hK hw 0 0 rfl rfl in_X7 4 (by decide) q1143 (fun _ h => h) rfl dX7_ate_15 ?_
    refine lv_iconst (v := 1) hx hb dX7_ate_18 (by decide) ?_
    refine lv_iadd hx hb dX7_ate_19 ?_
    refine xr_put (LL' := [[ob h0 6 [.int (v 0), .int (v 1), .int (v 2), .int (v 3), .int (v 4 + 1), .int (v 5), .int (v 6), .int (v 7), .int (v 8), .int (v 9), .int (bz (v 10))]]]) hf hK hw 0 0 rfl rfl in_X7 tyX7_ok nmX7 4 (by decide) q1143 (fun _ h => h) rfl rfl rfl (Nat.le_of_ble_eq_true rfl) rfl dX7_ate_20 (fun H locs hw => ?_)
    refine lv_aload_n hx hb dX7_ate_23 rfl (lv_at hl 1 rfl) ?_
    refine lv_iconst (v := 0) hx hb dX7_ate_24 (by decide) ?_
    refine xr_put (LL' := [[ob h0 6 [.int (v 0), .int (v 1), .int (v 2), .int (v 3), .int (v 4 + 1), .int (v 5), .int 0, .int (v 7), .int (v 8), .int (v 9), .int (bz (v 10))]]]) hf hK hw 0 0 rfl rfl in_X7 tyX7_ok nmX7 6 (by decide) q1147 (fun _ h => h) rfl rfl rfl (Nat.le_of_ble_eq_true rfl) rfl dX7_ate_25 (fun H locs hw => ?_)
    refine lv_aload_n hx hb dX7_ate_28 rfl (lv_at hl 1 rfl) ?_
    refine lv_dup hx hb dX7_ate_29 rfl ?_
    refine xr_get hf hK hw 0 0 rfl rfl in_X7 7 (by decide) q1149 (fun _ h => h) rfl dX7_ate_30 ?_
    refine lv_iconst (v := 1) hx hb dX7_ate_33 (by decide) ?_
    refine lv_iadd hx hb dX7_ate_34 ?_
    refine xr_put (LL' := [[ob h0 6 [.int (v 0), .int (v 1), .int (v 2), .int (v 3), .int (v 4 + 1), .int (v 5), .int 0, .int (v 7 + 1), .int (v 8), .int (v 9), .int (bz (v 10))]]]) hf hK hw 0 0 rfl rfl in_X7 tyX7_ok nmX7 7 (by decide) q1149 (fun _ h => h) rfl rfl rfl (Nat.le_of_ble_eq_true rfl) rfl dX7_ate_35 (fun H locs hw => ?_)
    refine lv_goto (tgt := 73) hx hb dX7_ate_38 (by decide) ?_
    refine lv_aload_n hx hb dX7_ate_73 rfl (lv_at hl 1 rfl) ?_
    refine xr_get hf hK hw 0 0 rfl rfl in_X7 4 (by decide) q1143 (fun _ h => h) rfl dX7_ate_74 ?_
    refine lv_aload_n hx hb dX7_ate_77 rfl (lv_at hl 1 rfl) ?_
    refine xr_get hf hK hw 0 0 rfl rfl in_X7 3 (by decide) q1141 (fun _ h => h) rfl dX7_ate_78 ?_
    refine lv_iconst (v := 5) hx hb dX7_ate_81 (by decide) ?_
    refine lv_icmp_ne (tgt := 89) hx hb dX7_ate_82 (by decide) (fun c_82 => ?_) (fun c_82 => ?_)
    · refine lv_iconst (v := 3) hx hb dX7_ate_89 (by decide) ?_
      refine lv_icmp_ge (tgt := 95) hx hb dX7_ate_90 (by decide) (fun c_90 => ?_) (fun c_90 => ?_)
      · refine lv_aload_n hx hb dX7_ate_95 rfl (lv_at hl 1 rfl) ?_
        refine lv_iconst (v := 0) hx hb dX7_ate_96 (by decide) ?_
        refine xr_put (LL' := [[ob h0 6 [.int (v 0), .int (v 1), .int (v 2), .int (v 3), .int 0, .int (v 5), .int 0, .int (v 7 + 1), .int (v 8), .int (v 9), .int (bz (v 10))]]]) hf hK hw 0 0 rfl rfl in_X7 tyX7_ok nmX7 4 (by decide) q1143 (fun _ h => h) rfl rfl rfl (Nat.le_of_ble_eq_true rfl) rfl dX7_ate_97 (fun H locs hw => ?_)
        refine lv_aload_n hx hb dX7_ate_100 rfl (lv_at hl 1 rfl) ?_
        refine xr_get hf hK hw 0 0 rfl rfl in_X7 3 (by decide) q1141 (fun _ h => h) rfl dX7_ate_101 ?_
        refine lv_iconst (v := 5) hx hb dX7_ate_104 (by decide) ?_
        refine lv_icmp_ne (tgt := 116) hx hb dX7_ate_105 (by decide) (fun _ => ?_) (fun c9 => absurd c9 c_82)
        refine lv_aload_n hx hb dX7_ate_116 rfl (lv_at hl 1 rfl) ?_
        refine lv_iconst (v := 2) hx hb dX7_ate_117 (by decide) ?_
        refine xr_put (LL' := [[ob h0 6 [.int (v 0), .int (v 1), .int (v 2), .int (v 3), .int 0, .int 2, .int 0, .int (v 7 + 1), .int (v 8), .int (v 9), .int (bz (v 10))]]]) hf hK hw 0 0 rfl rfl in_X7 tyX7_ok nmX7 5 (by decide) q1145 (fun _ h => h) rfl rfl rfl (Nat.le_of_ble_eq_true rfl) rfl dX7_ate_118 (fun H locs hw => ?_)
        refine lv_iload_n hx hb dX7_ate_121 rfl (lv_at hl 0 rfl) ?_
        have e9 : f_X7_ate v = (0, (vec [v 0, v 1, v 2, v 3, 0, 2, 0, (v 7 + 1), v 8, v 9, v 10])) := by
          unfold f_X7_ate
          rw [← hr1]; try dsimp only
          rw [if_neg c_10]
          rw [if_neg c_82]
          rw [if_pos c_90]
          try rfl
        have p0 := congrArg (fun z : Int32 × (Nat → Int32) => some (Value.int z.1)) e9.symm
        have p1 := congrArg (fun z : Int32 × (Nat → Int32) => [mtS h0 z.2]) e9.symm
        exact xr_iret hf hr hlocks hw (Nat.le_of_ble_eq_true rfl) (Nat.le_of_ble_eq_true rfl) ⟨p0, p1⟩ dX7_ate_122
      · refine lv_iload_n hx hb dX7_ate_93 rfl (lv_at hl 0 rfl) ?_
        have e9 : f_X7_ate v = (0, (vec [v 0, v 1, v 2, v 3, (v 4 + 1), v 5, 0, (v 7 + 1), v 8, v 9, v 10])) := by
          unfold f_X7_ate
          rw [← hr1]; try dsimp only
          rw [if_neg c_10]
          rw [if_neg c_82]
          rw [if_neg c_90]
          try rfl
        have p0 := congrArg (fun z : Int32 × (Nat → Int32) => some (Value.int z.1)) e9.symm
        have p1 := congrArg (fun z : Int32 × (Nat → Int32) => [mtS h0 z.2]) e9.symm
        exact xr_iret hf hr hlocks hw (Nat.le_of_ble_eq_true rfl) (Nat.le_of_ble_eq_true rfl) ⟨p0, p1⟩ dX7_ate_94
    · refine lv_iconst (v := 5) hx hb dX7_ate_85 (by decide) ?_
      refine lv_goto (tgt := 90) hx hb dX7_ate_86 (by decide) ?_
      refine lv_icmp_ge (tgt := 95) hx hb dX7_ate_90 (by decide) (fun c_90 => ?_) (fun c_90 => ?_)
      · refine lv_aload_n hx hb dX7_ate_95 rfl (lv_at hl 1 rfl) ?_
        refine lv_iconst (v := 0) hx hb dX7_ate_96 (by decide) ?_
        refine xr_put (LL' := [[ob h0 6 [.int (v 0), .int (v 1), .int (v 2), .int (v 3), .int 0, .int (v 5), .int 0, .int (v 7 + 1), .int (v 8), .int (v 9), .int (bz (v 10))]]]) hf hK hw 0 0 rfl rfl in_X7 tyX7_ok nmX7 4 (by decide) q1143 (fun _ h => h) rfl rfl rfl (Nat.le_of_ble_eq_true rfl) rfl dX7_ate_97 (fun H locs hw => ?_)
        refine lv_aload_n hx hb dX7_ate_100 rfl (lv_at hl 1 rfl) ?_
        refine xr_get hf hK hw 0 0 rfl rfl in_X7 3 (by decide) q1141 (fun _ h => h) rfl dX7_ate_101 ?_
        refine lv_iconst (v := 5) hx hb dX7_ate_104 (by decide) ?_
        refine lv_icmp_ne (tgt := 116) hx hb dX7_ate_105 (by decide) (fun c9 => absurd c_82 c9) (fun _ => ?_)
        refine lv_aload_n hx hb dX7_ate_108 rfl (lv_at hl 1 rfl) ?_
        refine lv_iconst (v := 1) hx hb dX7_ate_109 (by decide) ?_
        refine xr_put (LL' := [[ob h0 6 [.int (v 0), .int (v 1), .int (v 2), .int (v 3), .int 0, .int (v 5), .int 0, .int (v 7 + 1), .int (v 8), .int (v 9), .int 1]]]) hf hK hw 0 0 rfl rfl in_X7 tyX7_ok nmX7 10 (by decide) q1155 (fun _ h => h) rfl rfl rfl (Nat.le_of_ble_eq_true rfl) rfl dX7_ate_110 (fun H locs hw => ?_)
        refine lv_goto (tgt := 121) hx hb dX7_ate_113 (by decide) ?_
        refine lv_iload_n hx hb dX7_ate_121 rfl (lv_at hl 0 rfl) ?_
        have e9 : f_X7_ate v = (0, (vec [v 0, v 1, v 2, v 3, 0, v 5, 0, (v 7 + 1), v 8, v 9, 1])) := by
          unfold f_X7_ate
          rw [← hr1]; try dsimp only
          rw [if_neg c_10]
          rw [if_pos c_82]
          rw [if_pos c_90]
          try rfl
        have p0 := congrArg (fun z : Int32 × (Nat → Int32) => some (Value.int z.1)) e9.symm
        have p1 := congrArg (fun z : Int32 × (Nat → Int32) => [mtS h0 z.2]) e9.symm
        exact xr_iret hf hr hlocks hw (Nat.le_of_ble_eq_true rfl) (Nat.le_of_ble_eq_true rfl) ⟨p0, p1⟩ dX7_ate_122
      · refine lv_iload_n hx hb dX7_ate_93 rfl (lv_at hl 0 rfl) ?_
        have e9 : f_X7_ate v = (0, (vec [v 0, v 1, v 2, v 3, (v 4 + 1), v 5, 0, (v 7 + 1), v 8, v 9, v 10])) := by
          unfold f_X7_ate
          rw [← hr1]; try dsimp only
          rw [if_neg c_10]
          rw [if_pos c_82]
          rw [if_neg c_90]
          try rfl
        have p0 := congrArg (fun z : Int32 × (Nat → Int32) => some (Value.int z.1)) e9.symm
        have p1 := congrArg (fun z : Int32 × (Nat → Int32) => [mtS h0 z.2]) e9.symm
        exact xr_iret hf hr hlocks hw (Nat.le_of_ble_eq_true rfl) (Nat.le_of_ble_eq_true rfl) ⟨p0, p1⟩ dX7_ate_94

def f_X7_day (v : Nat → Int32) (x : Int32) : Int32 × (Nat → Int32) :=
  if v 5 ≤ 0 then
    (fun r1 : Int32 × (Nat → Int32) =>
      if r1.2 0 = 0 then
        (r1.1, r1.2)
      else
        if (r1.2 0 * r1.2 3) ≤ 200 then
          if r1.2 9 ≤ 0 then
            if r1.2 7 < 4 then
              (fun r2 : Int32 × (Nat → Int32) =>
                ((r1.1 + r2.1), (vec [r2.2 0, r2.2 1, r2.2 2, r2.2 3, r2.2 4, r2.2 5, r2.2 6, r2.2 7, 0, 0, r2.2 10]))) (f_X7_die (vec [r1.2 0, (r1.2 1 + (imin (r1.2 0 - r1.2 1) (imax 0 ((r1.2 1 / 4) + (0 - (x / 3)))))), r1.2 2, r1.2 3, r1.2 4, r1.2 5, r1.2 6, r1.2 7, r1.2 8, r1.2 9, r1.2 10]) ((r1.2 1 + (imin (r1.2 0 - r1.2 1) (imax 0 ((r1.2 1 / 4) + (0 - (x / 3)))))) / 5))
            else
              (fun r2 : Int32 × (Nat → Int32) =>
                ((r1.1 + r2.1), (vec [r2.2 0, r2.2 1, r2.2 2, r2.2 3, r2.2 4, r2.2 5, r2.2 6, r2.2 7, 0, 0, r2.2 10]))) (f_X7_die (vec [r1.2 0, (r1.2 1 + (imin (r1.2 0 - r1.2 1) (imax 0 ((r1.2 1 / 4) + (1 - (x / 3)))))), r1.2 2, r1.2 3, r1.2 4, r1.2 5, r1.2 6, r1.2 7, r1.2 8, r1.2 9, r1.2 10]) ((r1.2 1 + (imin (r1.2 0 - r1.2 1) (imax 0 ((r1.2 1 / 4) + (1 - (x / 3)))))) / 5))
          else
            if r1.2 7 < 4 then
              (fun r2 : Int32 × (Nat → Int32) =>
                ((r1.1 + r2.1), (vec [r2.2 0, r2.2 1, r2.2 2, r2.2 3, r2.2 4, r2.2 5, r2.2 6, r2.2 7, 0, 0, r2.2 10]))) (f_X7_die (vec [r1.2 0, (r1.2 1 + (imin (r1.2 0 - r1.2 1) (imax 0 ((r1.2 1 / 4) + (1 - (x / 3)))))), r1.2 2, r1.2 3, r1.2 4, r1.2 5, r1.2 6, r1.2 7, r1.2 8, r1.2 9, r1.2 10]) ((r1.2 1 + (imin (r1.2 0 - r1.2 1) (imax 0 ((r1.2 1 / 4) + (1 - (x / 3)))))) / 5))
            else
              (fun r2 : Int32 × (Nat → Int32) =>
                ((r1.1 + r2.1), (vec [r2.2 0, r2.2 1, r2.2 2, r2.2 3, r2.2 4, r2.2 5, r2.2 6, r2.2 7, 0, 0, r2.2 10]))) (f_X7_die (vec [r1.2 0, (r1.2 1 + (imin (r1.2 0 - r1.2 1) (imax 0 ((r1.2 1 / 4) + (2 - (x / 3)))))), r1.2 2, r1.2 3, r1.2 4, r1.2 5, r1.2 6, r1.2 7, r1.2 8, r1.2 9, r1.2 10]) ((r1.2 1 + (imin (r1.2 0 - r1.2 1) (imax 0 ((r1.2 1 / 4) + (2 - (x / 3)))))) / 5))
        else
          if r1.2 9 ≤ 0 then
            if r1.2 7 < 4 then
              (fun r2 : Int32 × (Nat → Int32) =>
                ((r1.1 + r2.1), (vec [r2.2 0, r2.2 1, r2.2 2, r2.2 3, r2.2 4, r2.2 5, r2.2 6, r2.2 7, 0, 0, r2.2 10]))) (f_X7_die (vec [r1.2 0, (r1.2 1 + (imin (r1.2 0 - r1.2 1) (imax 0 ((r1.2 1 / 2) + (0 - (x / 3)))))), r1.2 2, r1.2 3, r1.2 4, r1.2 5, r1.2 6, r1.2 7, r1.2 8, r1.2 9, r1.2 10]) ((r1.2 1 + (imin (r1.2 0 - r1.2 1) (imax 0 ((r1.2 1 / 2) + (0 - (x / 3)))))) / 5))
            else
              (fun r2 : Int32 × (Nat → Int32) =>
                ((r1.1 + r2.1), (vec [r2.2 0, r2.2 1, r2.2 2, r2.2 3, r2.2 4, r2.2 5, r2.2 6, r2.2 7, 0, 0, r2.2 10]))) (f_X7_die (vec [r1.2 0, (r1.2 1 + (imin (r1.2 0 - r1.2 1) (imax 0 ((r1.2 1 / 2) + (1 - (x / 3)))))), r1.2 2, r1.2 3, r1.2 4, r1.2 5, r1.2 6, r1.2 7, r1.2 8, r1.2 9, r1.2 10]) ((r1.2 1 + (imin (r1.2 0 - r1.2 1) (imax 0 ((r1.2 1 / 2) + (1 - (x / 3)))))) / 5))
          else
            if r1.2 7 < 4 then
              (fun r2 : Int32 × (Nat → Int32) =>
                ((r1.1 + r2.1), (vec [r2.2 0, r2.2 1, r2.2 2, r2.2 3, r2.2 4, r2.2 5, r2.2 6, r2.2 7, 0, 0, r2.2 10]))) (f_X7_die (vec [r1.2 0, (r1.2 1 + (imin (r1.2 0 - r1.2 1) (imax 0 ((r1.2 1 / 2) + (1 - (x / 3)))))), r1.2 2, r1.2 3, r1.2 4, r1.2 5, r1.2 6, r1.2 7, r1.2 8, r1.2 9, r1.2 10]) ((r1.2 1 + (imin (r1.2 0 - r1.2 1) (imax 0 ((r1.2 1 / 2) + (1 - (x / 3)))))) / 5))
            else
              (fun r2 : Int32 × (Nat → Int32) =>
                ((r1.1 + r2.1), (vec [r2.2 0, r2.2 1, r2.2 2, r2.2 3, r2.2 4, r2.2 5, r2.2 6, r2.2 7, 0, 0, r2.2 10]))) (f_X7_die (vec [r1.2 0, (r1.2 1 + (imin (r1.2 0 - r1.2 1) (imax 0 ((r1.2 1 / 2) + (2 - (x / 3)))))), r1.2 2, r1.2 3, r1.2 4, r1.2 5, r1.2 6, r1.2 7, r1.2 8, r1.2 9, r1.2 10]) ((r1.2 1 + (imin (r1.2 0 - r1.2 1) (imax 0 ((r1.2 1 / 2) + (2 - (x / 3)))))) / 5))) (f_X7_ate v)
  else
    (fun r1 : Int32 × (Nat → Int32) =>
      if r1.2 0 = 0 then
        (r1.1, r1.2)
      else
        if (r1.2 0 * r1.2 3) ≤ 200 then
          if r1.2 9 ≤ 0 then
            if r1.2 7 < 4 then
              (fun r2 : Int32 × (Nat → Int32) =>
                ((r1.1 + r2.1), (vec [r2.2 0, r2.2 1, r2.2 2, r2.2 3, r2.2 4, r2.2 5, r2.2 6, r2.2 7, 0, 0, r2.2 10]))) (f_X7_die (vec [r1.2 0, (r1.2 1 + (imin (r1.2 0 - r1.2 1) (imax 0 ((r1.2 1 / 4) + (0 - (x / 3)))))), r1.2 2, r1.2 3, r1.2 4, r1.2 5, r1.2 6, r1.2 7, r1.2 8, r1.2 9, r1.2 10]) ((r1.2 1 + (imin (r1.2 0 - r1.2 1) (imax 0 ((r1.2 1 / 4) + (0 - (x / 3)))))) / 5))
            else
              (fun r2 : Int32 × (Nat → Int32) =>
                ((r1.1 + r2.1), (vec [r2.2 0, r2.2 1, r2.2 2, r2.2 3, r2.2 4, r2.2 5, r2.2 6, r2.2 7, 0, 0, r2.2 10]))) (f_X7_die (vec [r1.2 0, (r1.2 1 + (imin (r1.2 0 - r1.2 1) (imax 0 ((r1.2 1 / 4) + (1 - (x / 3)))))), r1.2 2, r1.2 3, r1.2 4, r1.2 5, r1.2 6, r1.2 7, r1.2 8, r1.2 9, r1.2 10]) ((r1.2 1 + (imin (r1.2 0 - r1.2 1) (imax 0 ((r1.2 1 / 4) + (1 - (x / 3)))))) / 5))
          else
            if r1.2 7 < 4 then
              (fun r2 : Int32 × (Nat → Int32) =>
                ((r1.1 + r2.1), (vec [r2.2 0, r2.2 1, r2.2 2, r2.2 3, r2.2 4, r2.2 5, r2.2 6, r2.2 7, 0, 0, r2.2 10]))) (f_X7_die (vec [r1.2 0, (r1.2 1 + (imin (r1.2 0 - r1.2 1) (imax 0 ((r1.2 1 / 4) + (1 - (x / 3)))))), r1.2 2, r1.2 3, r1.2 4, r1.2 5, r1.2 6, r1.2 7, r1.2 8, r1.2 9, r1.2 10]) ((r1.2 1 + (imin (r1.2 0 - r1.2 1) (imax 0 ((r1.2 1 / 4) + (1 - (x / 3)))))) / 5))
            else
              (fun r2 : Int32 × (Nat → Int32) =>
                ((r1.1 + r2.1), (vec [r2.2 0, r2.2 1, r2.2 2, r2.2 3, r2.2 4, r2.2 5, r2.2 6, r2.2 7, 0, 0, r2.2 10]))) (f_X7_die (vec [r1.2 0, (r1.2 1 + (imin (r1.2 0 - r1.2 1) (imax 0 ((r1.2 1 / 4) + (2 - (x / 3)))))), r1.2 2, r1.2 3, r1.2 4, r1.2 5, r1.2 6, r1.2 7, r1.2 8, r1.2 9, r1.2 10]) ((r1.2 1 + (imin (r1.2 0 - r1.2 1) (imax 0 ((r1.2 1 / 4) + (2 - (x / 3)))))) / 5))
        else
          if r1.2 9 ≤ 0 then
            if r1.2 7 < 4 then
              (fun r2 : Int32 × (Nat → Int32) =>
                ((r1.1 + r2.1), (vec [r2.2 0, r2.2 1, r2.2 2, r2.2 3, r2.2 4, r2.2 5, r2.2 6, r2.2 7, 0, 0, r2.2 10]))) (f_X7_die (vec [r1.2 0, (r1.2 1 + (imin (r1.2 0 - r1.2 1) (imax 0 ((r1.2 1 / 2) + (0 - (x / 3)))))), r1.2 2, r1.2 3, r1.2 4, r1.2 5, r1.2 6, r1.2 7, r1.2 8, r1.2 9, r1.2 10]) ((r1.2 1 + (imin (r1.2 0 - r1.2 1) (imax 0 ((r1.2 1 / 2) + (0 - (x / 3)))))) / 5))
            else
              (fun r2 : Int32 × (Nat → Int32) =>
                ((r1.1 + r2.1), (vec [r2.2 0, r2.2 1, r2.2 2, r2.2 3, r2.2 4, r2.2 5, r2.2 6, r2.2 7, 0, 0, r2.2 10]))) (f_X7_die (vec [r1.2 0, (r1.2 1 + (imin (r1.2 0 - r1.2 1) (imax 0 ((r1.2 1 / 2) + (1 - (x / 3)))))), r1.2 2, r1.2 3, r1.2 4, r1.2 5, r1.2 6, r1.2 7, r1.2 8, r1.2 9, r1.2 10]) ((r1.2 1 + (imin (r1.2 0 - r1.2 1) (imax 0 ((r1.2 1 / 2) + (1 - (x / 3)))))) / 5))
          else
            if r1.2 7 < 4 then
              (fun r2 : Int32 × (Nat → Int32) =>
                ((r1.1 + r2.1), (vec [r2.2 0, r2.2 1, r2.2 2, r2.2 3, r2.2 4, r2.2 5, r2.2 6, r2.2 7, 0, 0, r2.2 10]))) (f_X7_die (vec [r1.2 0, (r1.2 1 + (imin (r1.2 0 - r1.2 1) (imax 0 ((r1.2 1 / 2) + (1 - (x / 3)))))), r1.2 2, r1.2 3, r1.2 4, r1.2 5, r1.2 6, r1.2 7, r1.2 8, r1.2 9, r1.2 10]) ((r1.2 1 + (imin (r1.2 0 - r1.2 1) (imax 0 ((r1.2 1 / 2) + (1 - (x / 3)))))) / 5))
            else
              (fun r2 : Int32 × (Nat → Int32) =>
                ((r1.1 + r2.1), (vec [r2.2 0, r2.2 1, r2.2 2, r2.2 3, r2.2 4, r2.2 5, r2.2 6, r2.2 7, 0, 0, r2.2 10]))) (f_X7_die (vec [r1.2 0, (r1.2 1 + (imin (r1.2 0 - r1.2 1) (imax 0 ((r1.2 1 / 2) + (2 - (x / 3)))))), r1.2 2, r1.2 3, r1.2 4, r1.2 5, r1.2 6, r1.2 7, r1.2 8, r1.2 9, r1.2 10]) ((r1.2 1 + (imin (r1.2 0 - r1.2 1) (imax 0 ((r1.2 1 / 2) + (2 - (x / 3)))))) / 5))) (f_X7_moulted v)
set_option maxHeartbeats 4000000 in
theorem k_X7_day (l : Launch) (D : va_G) (dT g : Nat → Nat) (z0 : Nat) (h0 : Nat) (v : Nat → Int32) (x : Int32) : Con l D dT g z0 yX7_day (ws_ yX7_day cX7_day 4 (some .int)) ({ frames := 4, cells := 0, slots := 0, locals := 102 }) [.ref h0, .int x] [mtS h0 v] (fun r LL => r = some (.int (f_X7_day v x).1) ∧ LL = [mtS h0 (f_X7_day v x).2]) noX 0 0 := by
  refine Con.of (maxL := 4) (ret := (some .int)) (by first | exact plainFor_of_name (by decide) | decide +kernel) (Nat.le_of_ble_eq_true rfl) ?_
  intro p e s m args below meth c A ls hf hr hlocks hnm hno hK hA hAz hw hl hst
  have hf : CallFix p m c cX7_day 4 s args lw_all "SilkRowModel$Tray" := hf
  have hnm : meth.name = "day" := hnm
  have hx := hf.1
  have hb := hf.2.1
  have hts := hf.2.2.2.2
  have hl : lv_has ls 4 [(0, .ref h0), (1, .int x)] := hl
  have hw : Wd D A s.heap s.heap [] [[ob h0 6 [.int (v 0), .int (v 1), .int (v 2), .int (v 3), .int (v 4), .int (v 5), .int (v 6), .int (v 7), .int (v 8), .int (v 9), .int (bz (v 10))]]] := hw
  refine lv_aload_n hx hb dX7_day_0 rfl (lv_at hl 0 rfl) ?_
  refine xr_get hf hK hw 0 0 rfl rfl in_X7 5 (by decide) q1145 (fun _ h => h) rfl dX7_day_1 ?_
  refine lv_if_le (tgt := 14) hx hb dX7_day_4 (by decide) (fun c_4 => ?_) (fun c_4 => ?_)
  · refine lv_aload_n hx hb dX7_day_14 rfl (lv_at hl 0 rfl) ?_
    refine xc_V (rest := []) (As := []) hf hK hA hAz hst (hw.pick [0] rfl rfl rfl) (k_X7_ate l D dT g z0 h0 v) (cwV 0 hts (lw_V q1289 q1291 qs23 q57 q1292) rfl rfl rfl (by decide +kernel) ⟨Nat.le_of_ble_eq_true rfl, Nat.le_of_ble_eq_true rfl⟩) (xr_rv hK hw 0 0 rfl rfl) rfl hl.1 rfl (Nat.le_of_ble_eq_true rfl) dX7_day_15 ⟨(Nat.le_of_ble_eq_true rfl), (Nat.le_of_ble_eq_true rfl)⟩ (fun _ _ _ _ _ _ h => h.elim) (fun v9 LL1 H locs hp hw => ?_)
    obtain ⟨r1, hr1⟩ : ∃ z, z = f_X7_ate v := ⟨_, rfl⟩
    rw [← hr1] at hp
    obtain ⟨rfl, rfl⟩ := hp
    have hw : Wd D A s.heap _ _ [[ob h0 6 [.int (r1.2 0), .int (r1.2 1), .int (r1.2 2), .int (r1.2 3), .int (r1.2 4), .int (r1.2 5), .int (r1.2 6), .int (r1.2 7), .int (r1.2 8), .int (r1.2 9), .int (bz (r1.2 10))]]] := hw
    refine W.eq (g2 := F0 m 18 ls [.int r1.1]) rfl ?_
    refine lv_istore_n (lv' := [(2, .int r1.1), (0, .ref h0), (1, .int x)]) hx hb dX7_day_18 rfl hl (by decide) rfl (fun ls hl => ?_)
    refine lv_aload_n hx hb dX7_day_19 rfl (lv_at hl 1 rfl) ?_
    refine xr_get hf hK hw 0 0 rfl rfl in_X7 0 (by decide) q1135 (fun _ h => h) rfl dX7_day_20 ?_
    refine lv_if_ne (tgt := 28) hx hb dX7_day_23 (by decide) (fun c_23 => ?_) (fun c_23 => ?_)
    · refine lv_aload_n hx hb dX7_day_28 rfl (lv_at hl 1 rfl) ?_
      refine xr_get hf hK hw 0 0 rfl rfl in_X7 0 (by decide) q1135 (fun _ h => h) rfl dX7_day_29 ?_
      refine lv_aload_n hx hb dX7_day_32 rfl (lv_at hl 1 rfl) ?_
      refine xr_get hf hK hw 0 0 rfl rfl in_X7 3 (by decide) q1141 (fun _ h => h) rfl dX7_day_33 ?_
      refine lv_imul hx hb dX7_day_36 ?_
      refine lv_sipush (v := 200) hx hb dX7_day_37 (by decide) ?_
      refine lv_icmp_le (tgt := 52) hx hb dX7_day_40 (by decide) (fun c_40 => ?_) (fun c_40 => ?_)
      · refine lv_aload_n hx hb dX7_day_52 rfl (lv_at hl 1 rfl) ?_
        refine xr_get hf hK hw 0 0 rfl rfl in_X7 1 (by decide) q1137 (fun _ h => h) rfl dX7_day_53 ?_
        refine lv_iconst (v := 4) hx hb dX7_day_56 (by decide) ?_
        refine lv_idiv hx hb dX7_day_57 (by decide) ?_
        refine lv_istore_n (lv' := [(3, .int (r1.2 1 / 4)), (2, .int r1.1), (0, .ref h0), (1, .int x)]) hx hb dX7_day_58 rfl hl (by decide) rfl (fun ls hl => ?_)
        refine lv_iload_n hx hb dX7_day_59 rfl (lv_at hl 0 rfl) ?_
        refine lv_aload_n hx hb dX7_day_60 rfl (lv_at hl 2 rfl) ?_
        refine xr_get hf hK hw 0 0 rfl rfl in_X7 9 (by decide) q1153 (fun _ h => h) rfl dX7_day_61 ?_
        refine lv_if_le (tgt := 71) hx hb dX7_day_64 (by decide) (fun c_64 => ?_) (fun c_64 => ?_)
        · refine lv_iconst (v := 0) hx hb dX7_day_71 (by decide) ?_
          refine lv_aload_n hx hb dX7_day_72 rfl (lv_at hl 2 rfl) ?_
          refine xr_get hf hK hw 0 0 rfl rfl in_X7 7 (by decide) q1149 (fun _ h => h) rfl dX7_day_73 ?_
          refine lv_iconst (v := 4) hx hb dX7_day_76 (by decide) ?_
          refine lv_icmp_lt (tgt := 84) hx hb dX7_day_77 (by decide) (fun c_77 => ?_) (fun c_77 => ?_)
          · refine lv_iconst (v := 0) hx hb dX7_day_84 (by decide) ?_
            refine lv_iadd hx hb dX7_day_85 ?_
            refine lv_as (y := 0) (by decide) ?_
            refine lv_iload_n hx hb dX7_day_86 rfl (lv_at hl 3 rfl) ?_
            refine lv_iconst (v := 3) hx hb dX7_day_87 (by decide) ?_
            refine lv_idiv hx hb dX7_day_88 (by decide) ?_
            refine lv_isub hx hb dX7_day_89 ?_
            refine lv_iadd hx hb dX7_day_90 ?_
            refine lv_istore_n (lv' := [(3, .int ((r1.2 1 / 4) + (0 - (x / 3)))), (2, .int r1.1), (0, .ref h0), (1, .int x)]) hx hb dX7_day_91 rfl hl (by decide) rfl (fun ls hl => ?_)
            refine lv_aload_n hx hb dX7_day_92 rfl (lv_at hl 2 rfl) ?_
            refine lv_dup hx hb dX7_day_93 rfl ?_
            refine xr_get hf hK hw 0 0 rfl rfl in_X7 1 (by decide) q1137 (fun _ h => h) rfl dX7_day_94 ?_
            refine lv_aload_n hx hb dX7_day_97 rfl (lv_at hl 2 rfl) ?_
            refine xr_get hf hK hw 0 0 rfl rfl in_X7 0 (by decide) q1135 (fun _ h => h) rfl dX7_day_98 ?_
            refine lv_aload_n hx hb dX7_day_101 rfl (lv_at hl 2 rfl) ?_
            refine xr_get hf hK hw 0 0 rfl rfl in_X7 1 (by decide) q1137 (fun _ h => h) rfl dX7_day_102 ?_
            refine lv_isub hx hb dX7_day_105 ?_
            refine lv_iconst (v := 0) hx hb dX7_day_106 (by decide) ?_
            refine lv_iload_n hx hb dX7_day_107 rfl (lv_at hl 0 rfl) ?_
            refine va_mmax hx hb (by rw [hf.2.2.1]; exact hl.1.symm) hf.2.2.2.1 (hts _ q1305) (hts _ q152) (hts _ q50) (hts _ q153) (Nat.le_of_ble_eq_true rfl) (Nat.le_of_ble_eq_true rfl) (Nat.le_of_ble_eq_true rfl) (Nat.le_of_ble_eq_true rfl) dX7_day_108 ?_
            refine lv_as (y := imax 0 ((r1.2 1 / 4) + (0 - (x / 3)))) rfl ?_
            refine va_mmin hx hb (by rw [hf.2.2.1]; exact hl.1.symm) hf.2.2.2.1 (hts _ q1304) (hts _ q193) (hts _ q50) (hts _ q194) (Nat.le_of_ble_eq_true rfl) (Nat.le_of_ble_eq_true rfl) (Nat.le_of_ble_eq_true rfl) (Nat.le_of_ble_eq_true rfl) dX7_day_111 ?_
            refine lv_as (y := imin (r1.2 0 - r1.2 1) (imax 0 ((r1.2 1 / 4) + (0 - (x / 3))))) rfl ?_
            refine lv_iadd hx hb dX7_day_114 ?_
            refine xr_put (LL' := [[ob h0 6 [.int (r1.2 0), .int (r1.2 1 + (imin (r1.2 0 - r1.2 1) (imax 0 ((r1.2 1 / 4) + (0 - (x / 3)))))), .int (r1.2 2), .int (r1.2 3), .int (r1.2 4), .int (r1.2 5), .int (r1.2 6), .int (r1.2 7), .int (r1.2 8), .int (r1.2 9), .int (bz (r1.2 10))]]]) hf hK hw 0 0 rfl rfl in_X7 tyX7_ok nmX7 1 (by decide) q1137 (fun _ h => h) rfl rfl rfl (Nat.le_of_ble_eq_true rfl) rfl dX7_day_115 (fun H locs hw => ?_)
            refine lv_iload_n hx hb dX7_day_118 rfl (lv_at hl 1 rfl) ?_
            refine lv_aload_n hx hb dX7_day_119 rfl (lv_at hl 2 rfl) ?_
            refine lv_aload_n hx hb dX7_day_120 rfl (lv_at hl 2 rfl) ?_
            refine xr_get hf hK hw 0 0 rfl rfl in_X7 1 (by decide) q1137 (fun _ h => h) rfl dX7_day_121 ?_
            refine lv_iconst (v := 5) hx hb dX7_day_124 (by decide) ?_
            refine lv_idiv hx hb dX7_day_125 (by decide) ?_
            refine xc_V (rest := [.int r1.1]) (As := [.int ((r1.2 1 + (imin (r1.2 0 - r1.2 1) (imax 0 ((r1.2 1 / 4) + (0 - (x / 3)))))) / 5)]) hf hK hA hAz hst (hw.pick [0] rfl rfl rfl) (k_X7_die l D dT g z0 h0 (vec [r1.2 0, (r1.2 1 + (imin (r1.2 0 - r1.2 1) (imax 0 ((r1.2 1 / 4) + (0 - (x / 3)))))), r1.2 2, r1.2 3, r1.2 4, r1.2 5, r1.2 6, r1.2 7, r1.2 8, r1.2 9, r1.2 10]) ((r1.2 1 + (imin (r1.2 0 - r1.2 1) (imax 0 ((r1.2 1 / 4) + (0 - (x / 3)))))) / 5)) (cwV 1 hts (lw_V q1300 q1301 q1302 q57 q1303) rfl rfl rfl (by decide +kernel) ⟨Nat.le_of_ble_eq_true rfl, Nat.le_of_ble_eq_true rfl⟩) (xr_rv hK hw 0 0 rfl rfl) rfl hl.1 rfl (Nat.le_of_ble_eq_true rfl) dX7_day_126 ⟨(Nat.le_of_ble_eq_true rfl), (Nat.le_of_ble_eq_true rfl)⟩ (fun _ _ _ _ _ _ h => h.elim) (fun v9 LL1 H locs hp hw => ?_)
            obtain ⟨r2, hr2⟩ : ∃ z, z = f_X7_die (vec [r1.2 0, (r1.2 1 + (imin (r1.2 0 - r1.2 1) (imax 0 ((r1.2 1 / 4) + (0 - (x / 3)))))), r1.2 2, r1.2 3, r1.2 4, r1.2 5, r1.2 6, r1.2 7, r1.2 8, r1.2 9, r1.2 10]) ((r1.2 1 + (imin (r1.2 0 - r1.2 1) (imax 0 ((r1.2 1 / 4) + (0 - (x / 3)))))) / 5) := ⟨_, rfl⟩
            rw [← hr2] at hp
            obtain ⟨rfl, rfl⟩ := hp
            have hw : Wd D A s.heap _ _ [[ob h0 6 [.int (r2.2 0), .int (r2.2 1), .int (r2.2 2), .int (r2.2 3), .int (r2.2 4), .int (r2.2 5), .int (r2.2 6), .int (r2.2 7), .int (r2.2 8), .int (r2.2 9), .int (bz (r2.2 10))]]] := hw
            refine W.eq (g2 := F0 m 129 ls [.int r2.1, .int r1.1]) rfl ?_
            refine lv_iadd hx hb dX7_day_129 ?_
            refine lv_istore_n (lv' := [(2, .int (r1.1 + r2.1)), (3, .int ((r1.2 1 / 4) + (0 - (x / 3)))), (0, .ref h0), (1, .int x)]) hx hb dX7_day_130 rfl hl (by decide) rfl (fun ls hl => ?_)
            refine lv_aload_n hx hb dX7_day_131 rfl (lv_at hl 2 rfl) ?_
            refine lv_iconst (v := 0) hx hb dX7_day_132 (by decide) ?_
            refine xr_put (LL' := [[ob h0 6 [.int (r2.2 0), .int (r2.2 1), .int (r2.2 2), .int (r2.2 3), .int (r2.2 4), .int (r2.2 5), .int (r2.2 6), .int (r2.2 7), .int 0, .int (r2.2 9), .int (bz (r2.2 10))]]]) hf hK hw 0 0 rfl rfl in_X7 tyX7_ok nmX7 8 (by decide) q1151 (fun _ h => h) rfl rfl rfl (Nat.le_of_ble_eq_true rfl) rfl dX7_day_133 (fun H locs hw => ?_)
            refine lv_aload_n hx hb dX7_day_136 rfl (lv_at hl 2 rfl) ?_
            refine lv_iconst (v := 0) hx hb dX7_day_137 (by decide) ?_
            refine xr_put (LL' := [[ob h0 6 [.int (r2.2 0), .int (r2.2 1), .int (r2.2 2), .int (r2.2 3), .int (r2.2 4), .int (r2.2 5), .int (r2.2 6), .int (r2.2 7), .int 0, .int 0, .int (bz (r2.2 10))]]]) hf hK hw 0 0 rfl rfl in_X7 tyX7_ok nmX7 9 (by decide) q1153 (fun _ h => h) rfl rfl rfl (Nat.le_of_ble_eq_true rfl) rfl dX7_day_138 (fun H locs hw => ?_)
            refine lv_iload_n hx hb dX7_day_141 rfl (lv_at hl 0 rfl) ?_
            have e9 : f_X7_day v x = ((r1.1 + r2.1), (vec [r2.2 0, r2.2 1, r2.2 2, r2.2 3, r2.2 4, r2.2 5, r2.2 6, r2.2 7, 0, 0, r2.2 10])) := by
              unfold f_X7_day
              rw [if_pos c_4]
              rw [← hr1]; try dsimp only
              rw [if_neg c_23]
              rw [if_pos c_40]
              rw [if_pos c_64]
              rw [if_pos c_77]
              rw [← hr2]; try dsimp only
              try rfl
            have p0 := congrArg (fun z : Int32 × (Nat → Int32) => some (Value.int z.1)) e9.symm
            have p1 := congrArg (fun z : Int32 × (Nat → Int32) => [mtS h0 z.2]) e9.symm
            exact xr_iret hf hr hlocks hw (Nat.le_of_ble_eq_true rfl) (Nat.le_of_ble_eq_true rfl) ⟨p0, p1⟩ dX7_day_142
          · refine lv_iconst (v := 1) hx hb dX7_day_80 (by decide) ?_
            refine lv_goto (tgt := 85) hx hb dX7_day_81 (by decide) ?_
            refine lv_iadd hx hb dX7_day_85 ?_
            refine lv_as (y := 1) (by decide) ?_
            refine lv_iload_n hx hb dX7_day_86 rfl (lv_at hl 3 rfl) ?_
            refine lv_iconst (v := 3) hx hb dX7_day_87 (by decide) ?_
            refine lv_idiv hx hb dX7_day_88 (by decide) ?_
            refine lv_isub hx hb dX7_day_89 ?_
            refine lv_iadd hx hb dX7_day_90 ?_
            refine lv_istore_n (lv' := [(3, .int ((r1.2 1 / 4) + (1 - (x / 3)))), (2, .int r1.1), (0, .ref h0), (1, .int x)]) hx hb dX7_day_91 rfl hl (by decide) rfl (fun ls hl => ?_)
            refine lv_aload_n hx hb dX7_day_92 rfl (lv_at hl 2 rfl) ?_
            refine lv_dup hx hb dX7_day_93 rfl ?_
            refine xr_get hf hK hw 0 0 rfl rfl in_X7 1 (by decide) q1137 (fun _ h => h) rfl dX7_day_94 ?_
            refine lv_aload_n hx hb dX7_day_97 rfl (lv_at hl 2 rfl) ?_
            refine xr_get hf hK hw 0 0 rfl rfl in_X7 0 (by decide) q1135 (fun _ h => h) rfl dX7_day_98 ?_
            refine lv_aload_n hx hb dX7_day_101 rfl (lv_at hl 2 rfl) ?_
            refine xr_get hf hK hw 0 0 rfl rfl in_X7 1 (by decide) q1137 (fun _ h => h) rfl dX7_day_102 ?_
            refine lv_isub hx hb dX7_day_105 ?_
            refine lv_iconst (v := 0) hx hb dX7_day_106 (by decide) ?_
            refine lv_iload_n hx hb dX7_day_107 rfl (lv_at hl 0 rfl) ?_
            refine va_mmax hx hb (by rw [hf.2.2.1]; exact hl.1.symm) hf.2.2.2.1 (hts _ q1305) (hts _ q152) (hts _ q50) (hts _ q153) (Nat.le_of_ble_eq_true rfl) (Nat.le_of_ble_eq_true rfl) (Nat.le_of_ble_eq_true rfl) (Nat.le_of_ble_eq_true rfl) dX7_day_108 ?_
            refine lv_as (y := imax 0 ((r1.2 1 / 4) + (1 - (x / 3)))) rfl ?_
            refine va_mmin hx hb (by rw [hf.2.2.1]; exact hl.1.symm) hf.2.2.2.1 (hts _ q1304) (hts _ q193) (hts _ q50) (hts _ q194) (Nat.le_of_ble_eq_true rfl) (Nat.le_of_ble_eq_true rfl) (Nat.le_of_ble_eq_true rfl) (Nat.le_of_ble_eq_true rfl) dX7_day_111 ?_
            refine lv_as (y := imin (r1.2 0 - r1.2 1) (imax 0 ((r1.2 1 / 4) + (1 - (x / 3))))) rfl ?_
            refine lv_iadd hx hb dX7_day_114 ?_
            refine xr_put (LL' := [[ob h0 6 [.int (r1.2 0), .int (r1.2 1 + (imin (r1.2 0 - r1.2 1) (imax 0 ((r1.2 1 / 4) + (1 - (x / 3)))))), .int (r1.2 2), .int (r1.2 3), .int (r1.2 4), .int (r1.2 5), .int (r1.2 6), .int (r1.2 7), .int (r1.2 8), .int (r1.2 9), .int (bz (r1.2 10))]]]) hf hK hw 0 0 rfl rfl in_X7 tyX7_ok nmX7 1 (by decide) q1137 (fun _ h => h) rfl rfl rfl (Nat.le_of_ble_eq_true rfl) rfl dX7_day_115 (fun H locs hw => ?_)
            refine lv_iload_n hx hb dX7_day_118 rfl (lv_at hl 1 rfl) ?_
            refine lv_aload_n hx hb dX7_day_119 rfl (lv_at hl 2 rfl) ?_
            refine lv_aload_n hx hb dX7_day_120 rfl (lv_at hl 2 rfl) ?_
            refine xr_get hf hK hw 0 0 rfl rfl in_X7 1 (by decide) q1137 (fun _ h => h) rfl dX7_day_121 ?_
            refine lv_iconst (v := 5) hx hb dX7_day_124 (by decide) ?_
            refine lv_idiv hx hb dX7_day_125 (by decide) ?_
            refine xc_V (rest := [.int r1.1]) (As := [.int ((r1.2 1 + (imin (r1.2 0 - r1.2 1) (imax 0 ((r1.2 1 / 4) + (1 - (x / 3)))))) / 5)]) hf hK hA hAz hst (hw.pick [0] rfl rfl rfl) (k_X7_die l D dT g z0 h0 (vec [r1.2 0, (r1.2 1 + (imin (r1.2 0 - r1.2 1) (imax 0 ((r1.2 1 / 4) + (1 - (x / 3)))))), r1.2 2, r1.2 3, r1.2 4, r1.2 5, r1.2 6, r1.2 7, r1.2 8, r1.2 9, r1.2 10]) ((r1.2 1 + (imin (r1.2 0 - r1.2 1) (imax 0 ((r1.2 1 / 4) + (1 - (x / 3)))))) / 5)) (cwV 1 hts (lw_V q1300 q1301 q1302 q57 q1303) rfl rfl rfl (by decide +kernel) ⟨Nat.le_of_ble_eq_true rfl, Nat.le_of_ble_eq_true rfl⟩) (xr_rv hK hw 0 0 rfl rfl) rfl hl.1 rfl (Nat.le_of_ble_eq_true rfl) dX7_day_126 ⟨(Nat.le_of_ble_eq_true rfl), (Nat.le_of_ble_eq_true rfl)⟩ (fun _ _ _ _ _ _ h => h.elim) (fun v9 LL1 H locs hp hw => ?_)
            obtain ⟨r2, hr2⟩ : ∃ z, z = f_X7_die (vec [r1.2 0, (r1.2 1 + (imin (r1.2 0 - r1.2 1) (imax 0 ((r1.2 1 / 4) + (1 - (x / 3)))))), r1.2 2, r1.2 3, r1.2 4, r1.2 5, r1.2 6, r1.2 7, r1.2 8, r1.2 9, r1.2 10]) ((r1.2 1 + (imin (r1.2 0 - r1.2 1) (imax 0 ((r1.2 1 / 4) + (1 - (x / 3)))))) / 5) := ⟨_, rfl⟩
            rw [← hr2] at hp
            obtain ⟨rfl, rfl⟩ := hp
            have hw : Wd D A s.heap _ _ [[ob h0 6 [.int (r2.2 0), .int (r2.2 1), .int (r2.2 2), .int (r2.2 3), .int (r2.2 4), .int (r2.2 5), .int (r2.2 6), .int (r2.2 7), .int (r2.2 8), .int (r2.2 9), .int (bz (r2.2 10))]]] := hw
            refine W.eq (g2 := F0 m 129 ls [.int r2.1, .int r1.1]) rfl ?_
            refine lv_iadd hx hb dX7_day_129 ?_
            refine lv_istore_n (lv' := [(2, .int (r1.1 + r2.1)), (3, .int ((r1.2 1 / 4) + (1 - (x / 3)))), (0, .ref h0), (1, .int x)]) hx hb dX7_day_130 rfl hl (by decide) rfl (fun ls hl => ?_)
            refine lv_aload_n hx hb dX7_day_131 rfl (lv_at hl 2 rfl) ?_
            refine lv_iconst (v := 0) hx hb dX7_day_132 (by decide) ?_
            refine xr_put (LL' := [[ob h0 6 [.int (r2.2 0), .int (r2.2 1), .int (r2.2 2), .int (r2.2 3), .int (r2.2 4), .int (r2.2 5), .int (r2.2 6), .int (r2.2 7), .int 0, .int (r2.2 9), .int (bz (r2.2 10))]]]) hf hK hw 0 0 rfl rfl in_X7 tyX7_ok nmX7 8 (by decide) q1151 (fun _ h => h) rfl rfl rfl (Nat.le_of_ble_eq_true rfl) rfl dX7_day_133 (fun H locs hw => ?_)
            refine lv_aload_n hx hb dX7_day_136 rfl (lv_at hl 2 rfl) ?_
            refine lv_iconst (v := 0) hx hb dX7_day_137 (by decide) ?_
            refine xr_put (LL' := [[ob h0 6 [.int (r2.2 0), .int (r2.2 1), .int (r2.2 2), .int (r2.2 3), .int (r2.2 4), .int (r2.2 5), .int (r2.2 6), .int (r2.2 7), .int 0, .int 0, .int (bz (r2.2 10))]]]) hf hK hw 0 0 rfl rfl in_X7 tyX7_ok nmX7 9 (by decide) q1153 (fun _ h => h) rfl rfl rfl (Nat.le_of_ble_eq_true rfl) rfl dX7_day_138 (fun H locs hw => ?_)
            refine lv_iload_n hx hb dX7_day_141 rfl (lv_at hl 0 rfl) ?_
            have e9 : f_X7_day v x = ((r1.1 + r2.1), (vec [r2.2 0, r2.2 1, r2.2 2, r2.2 3, r2.2 4, r2.2 5, r2.2 6, r2.2 7, 0, 0, r2.2 10])) := by
              unfold f_X7_day
              rw [if_pos c_4]
              rw [← hr1]; try dsimp only
              rw [if_neg c_23]
              rw [if_pos c_40]
              rw [if_pos c_64]
              rw [if_neg c_77]
              rw [← hr2]; try dsimp only
              try rfl
            have p0 := congrArg (fun z : Int32 × (Nat → Int32) => some (Value.int z.1)) e9.symm
            have p1 := congrArg (fun z : Int32 × (Nat → Int32) => [mtS h0 z.2]) e9.symm
            exact xr_iret hf hr hlocks hw (Nat.le_of_ble_eq_true rfl) (Nat.le_of_ble_eq_true rfl) ⟨p0, p1⟩ dX7_day_142
        · refine lv_iconst (v := 1) hx hb dX7_day_67 (by decide) ?_
          refine lv_goto (tgt := 72) hx hb dX7_day_68 (by decide) ?_
          refine lv_aload_n hx hb dX7_day_72 rfl (lv_at hl 2 rfl) ?_
          refine xr_get hf hK hw 0 0 rfl rfl in_X7 7 (by decide) q1149 (fun _ h => h) rfl dX7_day_73 ?_
          refine lv_iconst (v := 4) hx hb dX7_day_76 (by decide) ?_
          refine lv_icmp_lt (tgt := 84) hx hb dX7_day_77 (by decide) (fun c_77 => ?_) (fun c_77 => ?_)
          · refine lv_iconst (v := 0) hx hb dX7_day_84 (by decide) ?_
            refine lv_iadd hx hb dX7_day_85 ?_
            refine lv_as (y := 1) (by decide) ?_
            refine lv_iload_n hx hb dX7_day_86 rfl (lv_at hl 3 rfl) ?_
            refine lv_iconst (v := 3) hx hb dX7_day_87 (by decide) ?_
            refine lv_idiv hx hb dX7_day_88 (by decide) ?_
            refine lv_isub hx hb dX7_day_89 ?_
            refine lv_iadd hx hb dX7_day_90 ?_
            refine lv_istore_n (lv' := [(3, .int ((r1.2 1 / 4) + (1 - (x / 3)))), (2, .int r1.1), (0, .ref h0), (1, .int x)]) hx hb dX7_day_91 rfl hl (by decide) rfl (fun ls hl => ?_)
            refine lv_aload_n hx hb dX7_day_92 rfl (lv_at hl 2 rfl) ?_
            refine lv_dup hx hb dX7_day_93 rfl ?_
            refine xr_get hf hK hw 0 0 rfl rfl in_X7 1 (by decide) q1137 (fun _ h => h) rfl dX7_day_94 ?_
            refine lv_aload_n hx hb dX7_day_97 rfl (lv_at hl 2 rfl) ?_
            refine xr_get hf hK hw 0 0 rfl rfl in_X7 0 (by decide) q1135 (fun _ h => h) rfl dX7_day_98 ?_
            refine lv_aload_n hx hb dX7_day_101 rfl (lv_at hl 2 rfl) ?_
            refine xr_get hf hK hw 0 0 rfl rfl in_X7 1 (by decide) q1137 (fun _ h => h) rfl dX7_day_102 ?_
            refine lv_isub hx hb dX7_day_105 ?_
            refine lv_iconst (v := 0) hx hb dX7_day_106 (by decide) ?_
            refine lv_iload_n hx hb dX7_day_107 rfl (lv_at hl 0 rfl) ?_
            refine va_mmax hx hb (by rw [hf.2.2.1]; exact hl.1.symm) hf.2.2.2.1 (hts _ q1305) (hts _ q152) (hts _ q50) (hts _ q153) (Nat.le_of_ble_eq_true rfl) (Nat.le_of_ble_eq_true rfl) (Nat.le_of_ble_eq_true rfl) (Nat.le_of_ble_eq_true rfl) dX7_day_108 ?_
            refine lv_as (y := imax 0 ((r1.2 1 / 4) + (1 - (x / 3)))) rfl ?_
            refine va_mmin hx hb (by rw [hf.2.2.1]; exact hl.1.symm) hf.2.2.2.1 (hts _ q1304) (hts _ q193) (hts _ q50) (hts _ q194) (Nat.le_of_ble_eq_true rfl) (Nat.le_of_ble_eq_true rfl) (Nat.le_of_ble_eq_true rfl) (Nat.le_of_ble_eq_true rfl) dX7_day_111 ?_
            refine lv_as (y := imin (r1.2 0 - r1.2 1) (imax 0 ((r1.2 1 / 4) + (1 - (x / 3))))) rfl ?_
            refine lv_iadd hx hb dX7_day_114 ?_
            refine xr_put (LL' := [[ob h0 6 [.int (r1.2 0), .int (r1.2 1 + (imin (r1.2 0 - r1.2 1) (imax 0 ((r1.2 1 / 4) + (1 - (x / 3)))))), .int (r1.2 2), .int (r1.2 3), .int (r1.2 4), .int (r1.2 5), .int (r1.2 6), .int (r1.2 7), .int (r1.2 8), .int (r1.2 9), .int (bz (r1.2 10))]]]) hf hK hw 0 0 rfl rfl in_X7 tyX7_ok nmX7 1 (by decide) q1137 (fun _ h => h) rfl rfl rfl (Nat.le_of_ble_eq_true rfl) rfl dX7_day_115 (fun H locs hw => ?_)
            refine lv_iload_n hx hb dX7_day_118 rfl (lv_at hl 1 rfl) ?_
            refine lv_aload_n hx hb dX7_day_119 rfl (lv_at hl 2 rfl) ?_
            refine lv_aload_n hx hb dX7_day_120 rfl (lv_at hl 2 rfl) ?_
            refine xr_get hf hK hw 0 0 rfl rfl in_X7 1 (by decide) q1137 (fun _ h => h) rfl dX7_day_121 ?_
            refine lv_iconst (v := 5) hx hb dX7_day_124 (by decide) ?_
            refine lv_idiv hx hb dX7_day_125 (by decide) ?_
            refine xc_V (rest := [.int r1.1]) (As := [.int ((r1.2 1 + (imin (r1.2 0 - r1.2 1) (imax 0 ((r1.2 1 / 4) + (1 - (x / 3)))))) / 5)]) hf hK hA hAz hst (hw.pick [0] rfl rfl rfl) (k_X7_die l D dT g z0 h0 (vec [r1.2 0, (r1.2 1 + (imin (r1.2 0 - r1.2 1) (imax 0 ((r1.2 1 / 4) + (1 - (x / 3)))))), r1.2 2, r1.2 3, r1.2 4, r1.2 5, r1.2 6, r1.2 7, r1.2 8, r1.2 9, r1.2 10]) ((r1.2 1 + (imin (r1.2 0 - r1.2 1) (imax 0 ((r1.2 1 / 4) + (1 - (x / 3)))))) / 5)) (cwV 1 hts (lw_V q1300 q1301 q1302 q57 q1303) rfl rfl rfl (by decide +kernel) ⟨Nat.le_of_ble_eq_true rfl, Nat.le_of_ble_eq_true rfl⟩) (xr_rv hK hw 0 0 rfl rfl) rfl hl.1 rfl (Nat.le_of_ble_eq_true rfl) dX7_day_126 ⟨(Nat.le_of_ble_eq_true rfl), (Nat.le_of_ble_eq_true rfl)⟩ (fun _ _ _ _ _ _ h => h.elim) (fun v9 LL1 H locs hp hw => ?_)
            obtain ⟨r2, hr2⟩ : ∃ z, z = f_X7_die (vec [r1.2 0, (r1.2 1 + (imin (r1.2 0 - r1.2 1) (imax 0 ((r1.2 1 / 4) + (1 - (x / 3)))))), r1.2 2, r1.2 3, r1.2 4, r1.2 5, r1.2 6, r1.2 7, r1.2 8, r1.2 9, r1.2 10]) ((r1.2 1 + (imin (r1.2 0 - r1.2 1) (imax 0 ((r1.2 1 / 4) + (1 - (x / 3)))))) / 5) := ⟨_, rfl⟩
            rw [← hr2] at hp
            obtain ⟨rfl, rfl⟩ := hp
            have hw : Wd D A s.heap _ _ [[ob h0 6 [.int (r2.2 0), .int (r2.2 1), .int (r2.2 2), .int (r2.2 3), .int (r2.2 4), .int (r2.2 5), .int (r2.2 6), .int (r2.2 7), .int (r2.2 8), .int (r2.2 9), .int (bz (r2.2 10))]]] := hw
            refine W.eq (g2 := F0 m 129 ls [.int r2.1, .int r1.1]) rfl ?_
            refine lv_iadd hx hb dX7_day_129 ?_
            refine lv_istore_n (lv' := [(2, .int (r1.1 + r2.1)), (3, .int ((r1.2 1 / 4) + (1 - (x / 3)))), (0, .ref h0), (1, .int x)]) hx hb dX7_day_130 rfl hl (by decide) rfl (fun ls hl => ?_)
            refine lv_aload_n hx hb dX7_day_131 rfl (lv_at hl 2 rfl) ?_
            refine lv_iconst (v := 0) hx hb dX7_day_132 (by decide) ?_
            refine xr_put (LL' := [[ob h0 6 [.int (r2.2 0), .int (r2.2 1), .int (r2.2 2), .int (r2.2 3), .int (r2.2 4), .int (r2.2 5), .int (r2.2 6), .int (r2.2 7), .int 0, .int (r2.2 9), .int (bz (r2.2 10))]]]) hf hK hw 0 0 rfl rfl in_X7 tyX7_ok nmX7 8 (by decide) q1151 (fun _ h => h) rfl rfl rfl (Nat.le_of_ble_eq_true rfl) rfl dX7_day_133 (fun H locs hw => ?_)
            refine lv_aload_n hx hb dX7_day_136 rfl (lv_at hl 2 rfl) ?_
            refine lv_iconst (v := 0) hx hb dX7_day_137 (by decide) ?_
            refine xr_put (LL' := [[ob h0 6 [.int (r2.2 0), .int (r2.2 1), .int (r2.2 2), .int (r2.2 3), .int (r2.2 4), .int (r2.2 5), .int (r2.2 6), .int (r2.2 7), .int 0, .int 0, .int (bz (r2.2 10))]]]) hf hK hw 0 0 rfl rfl in_X7 tyX7_ok nmX7 9 (by decide) q1153 (fun _ h => h) rfl rfl rfl (Nat.le_of_ble_eq_true rfl) rfl dX7_day_138 (fun H locs hw => ?_)
            refine lv_iload_n hx hb dX7_day_141 rfl (lv_at hl 0 rfl) ?_
            have e9 : f_X7_day v x = ((r1.1 + r2.1), (vec [r2.2 0, r2.2 1, r2.2 2, r2.2 3, r2.2 4, r2.2 5, r2.2 6, r2.2 7, 0, 0, r2.2 10])) := by
              unfold f_X7_day
              rw [if_pos c_4]
              rw [← hr1]; try dsimp only
              rw [if_neg c_23]
              rw [if_pos c_40]
              rw [if_neg c_64]
              rw [if_pos c_77]
              rw [← hr2]; try dsimp only
              try rfl
            have p0 := congrArg (fun z : Int32 × (Nat → Int32) => some (Value.int z.1)) e9.symm
            have p1 := congrArg (fun z : Int32 × (Nat → Int32) => [mtS h0 z.2]) e9.symm
            exact xr_iret hf hr hlocks hw (Nat.le_of_ble_eq_true rfl) (Nat.le_of_ble_eq_true rfl) ⟨p0, p1⟩ dX7_day_142
          · refine lv_iconst (v := 1) hx hb dX7_day_80 (by decide) ?_
            refine lv_goto (tgt := 85) hx hb dX7_day_81 (by decide) ?_
            refine lv_iadd hx hb dX7_day_85 ?_
            refine lv_as (y := 2) (by decide) ?_
            refine lv_iload_n hx hb dX7_day_86 rfl (lv_at hl 3 rfl) ?_
            refine lv_iconst (v := 3) hx hb dX7_day_87 (by decide) ?_
            refine lv_idiv hx hb dX7_day_88 (by decide) ?_
            refine lv_isub hx hb dX7_day_89 ?_
            refine lv_iadd hx hb dX7_day_90 ?_
            refine lv_istore_n (lv' := [(3, .int ((r1.2 1 / 4) + (2 - (x / 3)))), (2, .int r1.1), (0, .ref h0), (1, .int x)]) hx hb dX7_day_91 rfl hl (by decide) rfl (fun ls hl => ?_)
            refine lv_aload_n hx hb dX7_day_92 rfl (lv_at hl 2 rfl) ?_
            refine lv_dup hx hb dX7_day_93 rfl ?_
            refine xr_get hf hK hw 0 0 rfl rfl in_X7 1 (by decide) q1137 (fun _ h => h) rfl dX7_day_94 ?_
            refine lv_aload_n hx hb dX7_day_97 rfl (lv_at hl 2 rfl) ?_
            refine xr_get hf hK hw 0 0 rfl rfl in_X7 0 (by decide) q1135 (fun _ h => h) rfl dX7_day_98 ?_
            refine lv_aload_n hx hb dX7_day_101 rfl (lv_at hl 2 rfl) ?_
            refine xr_get hf hK hw 0 0 rfl rfl in_X7 1 (by decide) q1137 (fun _ h => h) rfl dX7_day_102 ?_
            refine lv_isub hx hb dX7_day_105 ?_
            refine lv_iconst (v := 0) hx hb dX7_day_106 (by decide) ?_
            refine lv_iload_n hx hb dX7_day_107 rfl (lv_at hl 0 rfl) ?_
            refine va_mmax hx hb (by rw [hf.2.2.1]; exact hl.1.symm) hf.2.2.2.1 (hts _ q1305) (hts _ q152) (hts _ q50) (hts _ q153) (Nat.le_of_ble_eq_true rfl) (Nat.le_of_ble_eq_true rfl) (Nat.le_of_ble_eq_true rfl) (Nat.le_of_ble_eq_true rfl) dX7_day_108 ?_
            refine lv_as (y := imax 0 ((r1.2 1 / 4) + (2 - (x / 3)))) rfl ?_
            refine va_mmin hx hb (by rw [hf.2.2.1]; exact hl.1.symm) hf.2.2.2.1 (hts _ q1304) (hts _ q193) (hts _ q50) (hts _ q194) (Nat.le_of_ble_eq_true rfl) (Nat.le_of_ble_eq_true rfl) (Nat.le_of_ble_eq_true rfl) (Nat.le_of_ble_eq_true rfl) dX7_day_111 ?_
            refine lv_as (y := imin (r1.2 0 - r1.2 1) (imax 0 ((r1.2 1 / 4) + (2 - (x / 3))))) rfl ?_
            refine lv_iadd hx hb dX7_day_114 ?_
            refine xr_put (LL' := [[ob h0 6 [.int (r1.2 0), .int (r1.2 1 + (imin (r1.2 0 - r1.2 1) (imax 0 ((r1.2 1 / 4) + (2 - (x / 3)))))), .int (r1.2 2), .int (r1.2 3), .int (r1.2 4), .int (r1.2 5), .int (r1.2 6), .int (r1.2 7), .int (r1.2 8), .int (r1.2 9), .int (bz (r1.2 10))]]]) hf hK hw 0 0 rfl rfl in_X7 tyX7_ok nmX7 1 (by decide) q1137 (fun _ h => h) rfl rfl rfl (Nat.le_of_ble_eq_true rfl) rfl dX7_day_115 (fun H locs hw => ?_)
            refine lv_iload_n hx hb dX7_day_118 rfl (lv_at hl 1 rfl) ?_
            refine lv_aload_n hx hb dX7_day_119 rfl (lv_at hl 2 rfl) ?_
            refine lv_aload_n hx hb dX7_day_120 rfl (lv_at hl 2 rfl) ?_
            refine xr_get hf hK hw 0 0 rfl rfl in_X7 1 (by decide) q1137 (fun _ h => h) rfl dX7_day_121 ?_
            refine lv_iconst (v := 5) hx hb dX7_day_124 (by decide) ?_
            refine lv_idiv hx hb dX7_day_125 (by decide) ?_
            refine xc_V (rest := [.int r1.1]) (As := [.int ((r1.2 1 + (imin (r1.2 0 - r1.2 1) (imax 0 ((r1.2 1 / 4) + (2 - (x / 3)))))) / 5)]) hf hK hA hAz hst (hw.pick [0] rfl rfl rfl) (k_X7_die l D dT g z0 h0 (vec [r1.2 0, (r1.2 1 + (imin (r1.2 0 - r1.2 1) (imax 0 ((r1.2 1 / 4) + (2 - (x / 3)))))), r1.2 2, r1.2 3, r1.2 4, r1.2 5, r1.2 6, r1.2 7, r1.2 8, r1.2 9, r1.2 10]) ((r1.2 1 + (imin (r1.2 0 - r1.2 1) (imax 0 ((r1.2 1 / 4) + (2 - (x / 3)))))) / 5)) (cwV 1 hts (lw_V q1300 q1301 q1302 q57 q1303) rfl rfl rfl (by decide +kernel) ⟨Nat.le_of_ble_eq_true rfl, Nat.le_of_ble_eq_true rfl⟩) (xr_rv hK hw 0 0 rfl rfl) rfl hl.1 rfl (Nat.le_of_ble_eq_true rfl) dX7_day_126 ⟨(Nat.le_of_ble_eq_true rfl), (Nat.le_of_ble_eq_true rfl)⟩ (fun _ _ _ _ _ _ h => h.elim) (fun v9 LL1 H locs hp hw => ?_)
            obtain ⟨r2, hr2⟩ : ∃ z, z = f_X7_die (vec [r1.2 0, (r1.2 1 + (imin (r1.2 0 - r1.2 1) (imax 0 ((r1.2 1 / 4) + (2 - (x / 3)))))), r1.2 2, r1.2 3, r1.2 4, r1.2 5, r1.2 6, r1.2 7, r1.2 8, r1.2 9, r1.2 10]) ((r1.2 1 + (imin (r1.2 0 - r1.2 1) (imax 0 ((r1.2 1 / 4) + (2 - (x / 3)))))) / 5) := ⟨_, rfl⟩
            rw [← hr2] at hp
            obtain ⟨rfl, rfl⟩ := hp
            have hw : Wd D A s.heap _ _ [[ob h0 6 [.int (r2.2 0), .int (r2.2 1), .int (r2.2 2), .int (r2.2 3), .int (r2.2 4), .int (r2.2 5), .int (r2.2 6), .int (r2.2 7), .int (r2.2 8), .int (r2.2 9), .int (bz (r2.2 10))]]] := hw
            refine W.eq (g2 := F0 m 129 ls [.int r2.1, .int r1.1]) rfl ?_
            refine lv_iadd hx hb dX7_day_129 ?_
            refine lv_istore_n (lv' := [(2, .int (r1.1 + r2.1)), (3, .int ((r1.2 1 / 4) + (2 - (x / 3)))), (0, .ref h0), (1, .int x)]) hx hb dX7_day_130 rfl hl (by decide) rfl (fun ls hl => ?_)
            refine lv_aload_n hx hb dX7_day_131 rfl (lv_at hl 2 rfl) ?_
            refine lv_iconst (v := 0) hx hb dX7_day_132 (by decide) ?_
            refine xr_put (LL' := [[ob h0 6 [.int (r2.2 0), .int (r2.2 1), .int (r2.2 2), .int (r2.2 3), .int (r2.2 4), .int (r2.2 5), .int (r2.2 6), .int (r2.2 7), .int 0, .int (r2.2 9), .int (bz (r2.2 10))]]]) hf hK hw 0 0 rfl rfl in_X7 tyX7_ok nmX7 8 (by decide) q1151 (fun _ h => h) rfl rfl rfl (Nat.le_of_ble_eq_true rfl) rfl dX7_day_133 (fun H locs hw => ?_)
            refine lv_aload_n hx hb dX7_day_136 rfl (lv_at hl 2 rfl) ?_
            refine lv_iconst (v := 0) hx hb dX7_day_137 (by decide) ?_
            refine xr_put (LL' := [[ob h0 6 [.int (r2.2 0), .int (r2.2 1), .int (r2.2 2), .int (r2.2 3), .int (r2.2 4), .int (r2.2 5), .int (r2.2 6), .int (r2.2 7), .int 0, .int 0, .int (bz (r2.2 10))]]]) hf hK hw 0 0 rfl rfl in_X7 tyX7_ok nmX7 9 (by decide) q1153 (fun _ h => h) rfl rfl rfl (Nat.le_of_ble_eq_true rfl) rfl dX7_day_138 (fun H locs hw => ?_)
            refine lv_iload_n hx hb dX7_day_141 rfl (lv_at hl 0 rfl) ?_
            have e9 : f_X7_day v x = ((r1.1 + r2.1), (vec [r2.2 0, r2.2 1, r2.2 2, r2.2 3, r2.2 4, r2.2 5, r2.2 6, r2.2 7, 0, 0, r2.2 10])) := by
              unfold f_X7_day
              rw [if_pos c_4]
              rw [← hr1]; try dsimp only
              rw [if_neg c_23]
              rw [if_pos c_40]
              rw [if_neg c_64]
              rw [if_neg c_77]
              rw [← hr2]; try dsimp only
              try rfl
            have p0 := congrArg (fun z : Int32 × (Nat → Int32) => some (Value.int z.1)) e9.symm
            have p1 := congrArg (fun z : Int32 × (Nat → Int32) => [mtS h0 z.2]) e9.symm
            exact xr_iret hf hr hlocks hw (Nat.le_of_ble_eq_true rfl) (Nat.le_of_ble_eq_true rfl) ⟨p0, p1⟩ dX7_day_142
      · refine lv_aload_n hx hb dX7_day_43 rfl (lv_at hl 1 rfl) ?_
        refine xr_get hf hK hw 0 0 rfl rfl in_X7 1 (by decide) q1137 (fun _ h => h) rfl dX7_day_44 ?_
        refine lv_iconst (v := 2) hx hb dX7_day_47 (by decide) ?_
        refine lv_idiv hx hb dX7_day_48 (by decide) ?_
        refine lv_goto (tgt := 58) hx hb dX7_day_49 (by decide) ?_
        refine lv_istore_n (lv' := [(3, .int (r1.2 1 / 2)), (2, .int r1.1), (0, .ref h0), (1, .int x)]) hx hb dX7_day_58 rfl hl (by decide) rfl (fun ls hl => ?_)
        refine lv_iload_n hx hb dX7_day_59 rfl (lv_at hl 0 rfl) ?_
        refine lv_aload_n hx hb dX7_day_60 rfl (lv_at hl 2 rfl) ?_
        refine xr_get hf hK hw 0 0 rfl rfl in_X7 9 (by decide) q1153 (fun _ h => h) rfl dX7_day_61 ?_
        refine lv_if_le (tgt := 71) hx hb dX7_day_64 (by decide) (fun c_64 => ?_) (fun c_64 => ?_)
        · refine lv_iconst (v := 0) hx hb dX7_day_71 (by decide) ?_
          refine lv_aload_n hx hb dX7_day_72 rfl (lv_at hl 2 rfl) ?_
          refine xr_get hf hK hw 0 0 rfl rfl in_X7 7 (by decide) q1149 (fun _ h => h) rfl dX7_day_73 ?_
          refine lv_iconst (v := 4) hx hb dX7_day_76 (by decide) ?_
          refine lv_icmp_lt (tgt := 84) hx hb dX7_day_77 (by decide) (fun c_77 => ?_) (fun c_77 => ?_)
          · refine lv_iconst (v := 0) hx hb dX7_day_84 (by decide) ?_
            refine lv_iadd hx hb dX7_day_85 ?_
            refine lv_as (y := 0) (by decide) ?_
            refine lv_iload_n hx hb dX7_day_86 rfl (lv_at hl 3 rfl) ?_
            refine lv_iconst (v := 3) hx hb dX7_day_87 (by decide) ?_
            refine lv_idiv hx hb dX7_day_88 (by decide) ?_
            refine lv_isub hx hb dX7_day_89 ?_
            refine lv_iadd hx hb dX7_day_90 ?_
            refine lv_istore_n (lv' := [(3, .int ((r1.2 1 / 2) + (0 - (x / 3)))), (2, .int r1.1), (0, .ref h0), (1, .int x)]) hx hb dX7_day_91 rfl hl (by decide) rfl (fun ls hl => ?_)
            refine lv_aload_n hx hb dX7_day_92 rfl (lv_at hl 2 rfl) ?_
            refine lv_dup hx hb dX7_day_93 rfl ?_
            refine xr_get hf hK hw 0 0 rfl rfl in_X7 1 (by decide) q1137 (fun _ h => h) rfl dX7_day_94 ?_
            refine lv_aload_n hx hb dX7_day_97 rfl (lv_at hl 2 rfl) ?_
            refine xr_get hf hK hw 0 0 rfl rfl in_X7 0 (by decide) q1135 (fun _ h => h) rfl dX7_day_98 ?_
            refine lv_aload_n hx hb dX7_day_101 rfl (lv_at hl 2 rfl) ?_
            refine xr_get hf hK hw 0 0 rfl rfl in_X7 1 (by decide) q1137 (fun _ h => h) rfl dX7_day_102 ?_
            refine lv_isub hx hb dX7_day_105 ?_
            refine lv_iconst (v := 0) hx hb dX7_day_106 (by decide) ?_
            refine lv_iload_n hx hb dX7_day_107 rfl (lv_at hl 0 rfl) ?_
            refine va_mmax hx hb (by rw [hf.2.2.1]; exact hl.1.symm) hf.2.2.2.1 (hts _ q1305) (hts _ q152) (hts _ q50) (hts _ q153) (Nat.le_of_ble_eq_true rfl) (Nat.le_of_ble_eq_true rfl) (Nat.le_of_ble_eq_true rfl) (Nat.le_of_ble_eq_true rfl) dX7_day_108 ?_
            refine lv_as (y := imax 0 ((r1.2 1 / 2) + (0 - (x / 3)))) rfl ?_
            refine va_mmin hx hb (by rw [hf.2.2.1]; exact hl.1.symm) hf.2.2.2.1 (hts _ q1304) (hts _ q193) (hts _ q50) (hts _ q194) (Nat.le_of_ble_eq_true rfl) (Nat.le_of_ble_eq_true rfl) (Nat.le_of_ble_eq_true rfl) (Nat.le_of_ble_eq_true rfl) dX7_day_111 ?_
            refine lv_as (y := imin (r1.2 0 - r1.2 1) (imax 0 ((r1.2 1 / 2) + (0 - (x / 3))))) rfl ?_
            refine lv_iadd hx hb dX7_day_114 ?_
            refine xr_put (LL' := [[ob h0 6 [.int (r1.2 0), .int (r1.2 1 + (imin (r1.2 0 - r1.2 1) (imax 0 ((r1.2 1 / 2) + (0 - (x / 3)))))), .int (r1.2 2), .int (r1.2 3), .int (r1.2 4), .int (r1.2 5), .int (r1.2 6), .int (r1.2 7), .int (r1.2 8), .int (r1.2 9), .int (bz (r1.2 10))]]]) hf hK hw 0 0 rfl rfl in_X7 tyX7_ok nmX7 1 (by decide) q1137 (fun _ h => h) rfl rfl rfl (Nat.le_of_ble_eq_true rfl) rfl dX7_day_115 (fun H locs hw => ?_)
            refine lv_iload_n hx hb dX7_day_118 rfl (lv_at hl 1 rfl) ?_
            refine lv_aload_n hx hb dX7_day_119 rfl (lv_at hl 2 rfl) ?_
            refine lv_aload_n hx hb dX7_day_120 rfl (lv_at hl 2 rfl) ?_
            refine xr_get hf hK hw 0 0 rfl rfl in_X7 1 (by decide) q1137 (fun _ h => h) rfl dX7_day_121 ?_
            refine lv_iconst (v := 5) hx hb dX7_day_124 (by decide) ?_
            refine lv_idiv hx hb dX7_day_125 (by decide) ?_
            refine xc_V (rest := [.int r1.1]) (As := [.int ((r1.2 1 + (imin (r1.2 0 - r1.2 1) (imax 0 ((r1.2 1 / 2) + (0 - (x / 3)))))) / 5)]) hf hK hA hAz hst (hw.pick [0] rfl rfl rfl) (k_X7_die l D dT g z0 h0 (vec [r1.2 0, (r1.2 1 + (imin (r1.2 0 - r1.2 1) (imax 0 ((r1.2 1 / 2) + (0 - (x / 3)))))), r1.2 2, r1.2 3, r1.2 4, r1.2 5, r1.2 6, r1.2 7, r1.2 8, r1.2 9, r1.2 10]) ((r1.2 1 + (imin (r1.2 0 - r1.2 1) (imax 0 ((r1.2 1 / 2) + (0 - (x / 3)))))) / 5)) (cwV 1 hts (lw_V q1300 q1301 q1302 q57 q1303) rfl rfl rfl (by decide +kernel) ⟨Nat.le_of_ble_eq_true rfl, Nat.le_of_ble_eq_true rfl⟩) (xr_rv hK hw 0 0 rfl rfl) rfl hl.1 rfl (Nat.le_of_ble_eq_true rfl) dX7_day_126 ⟨(Nat.le_of_ble_eq_true rfl), (Nat.le_of_ble_eq_true rfl)⟩ (fun _ _ _ _ _ _ h => h.elim) (fun v9 LL1 H locs hp hw => ?_)
            obtain ⟨r2, hr2⟩ : ∃ z, z = f_X7_die (vec [r1.2 0, (r1.2 1 + (imin (r1.2 0 - r1.2 1) (imax 0 ((r1.2 1 / 2) + (0 - (x / 3)))))), r1.2 2, r1.2 3, r1.2 4, r1.2 5, r1.2 6, r1.2 7, r1.2 8, r1.2 9, r1.2 10]) ((r1.2 1 + (imin (r1.2 0 - r1.2 1) (imax 0 ((r1.2 1 / 2) + (0 - (x / 3)))))) / 5) := ⟨_, rfl⟩
            rw [← hr2] at hp
            obtain ⟨rfl, rfl⟩ := hp
            have hw : Wd D A s.heap _ _ [[ob h0 6 [.int (r2.2 0), .int (r2.2 1), .int (r2.2 2), .int (r2.2 3), .int (r2.2 4), .int (r2.2 5), .int (r2.2 6), .int (r2.2 7), .int (r2.2 8), .int (r2.2 9), .int (bz (r2.2 10))]]] := hw
            refine W.eq (g2 := F0 m 129 ls [.int r2.1, .int r1.1]) rfl ?_
            refine lv_iadd hx hb dX7_day_129 ?_
            refine lv_istore_n (lv' := [(2, .int (r1.1 + r2.1)), (3, .int ((r1.2 1 / 2) + (0 - (x / 3)))), (0, .ref h0), (1, .int x)]) hx hb dX7_day_130 rfl hl (by decide) rfl (fun ls hl => ?_)
            refine lv_aload_n hx hb dX7_day_131 rfl (lv_at hl 2 rfl) ?_
            refine lv_iconst (v := 0) hx hb dX7_day_132 (by decide) ?_
            refine xr_put (LL' := [[ob h0 6 [.int (r2.2 0), .int (r2.2 1), .int (r2.2 2), .int (r2.2 3), .int (r2.2 4), .int (r2.2 5), .int (r2.2 6), .int (r2.2 7), .int 0, .int (r2.2 9), .int (bz (r2.2 10))]]]) hf hK hw 0 0 rfl rfl in_X7 tyX7_ok nmX7 8 (by decide) q1151 (fun _ h => h) rfl rfl rfl (Nat.le_of_ble_eq_true rfl) rfl dX7_day_133 (fun H locs hw => ?_)
            refine lv_aload_n hx hb dX7_day_136 rfl (lv_at hl 2 rfl) ?_
            refine lv_iconst (v := 0) hx hb dX7_day_137 (by decide) ?_
            refine xr_put (LL' := [[ob h0 6 [.int (r2.2 0), .int (r2.2 1), .int (r2.2 2), .int (r2.2 3), .int (r2.2 4), .int (r2.2 5), .int (r2.2 6), .int (r2.2 7), .int 0, .int 0, .int (bz (r2.2 10))]]]) hf hK hw 0 0 rfl rfl in_X7 tyX7_ok nmX7 9 (by decide) q1153 (fun _ h => h) rfl rfl rfl (Nat.le_of_ble_eq_true rfl) rfl dX7_day_138 (fun H locs hw => ?_)
            refine lv_iload_n hx hb dX7_day_141 rfl (lv_at hl 0 rfl) ?_
            have e9 : f_X7_day v x = ((r1.1 + r2.1), (vec [r2.2 0, r2.2 1, r2.2 2, r2.2 3, r2.2 4, r2.2 5, r2.2 6, r2.2 7, 0, 0, r2.2 10])) := by
              unfold f_X7_day
              rw [if_pos c_4]
              rw [← hr1]; try dsimp only
              rw [if_neg c_23]
              rw [if_neg c_40]
              rw [if_pos c_64]
              rw [if_pos c_77]
              rw [← hr2]; try dsimp only
              try rfl
            have p0 := congrArg (fun z : Int32 × (Nat → Int32) => some (Value.int z.1)) e9.symm
            have p1 := congrArg (fun z : Int32 × (Nat → Int32) => [mtS h0 z.2]) e9.symm
            exact xr_iret hf hr hlocks hw (Nat.le_of_ble_eq_true rfl) (Nat.le_of_ble_eq_true rfl) ⟨p0, p1⟩ dX7_day_142
          · refine lv_iconst (v := 1) hx hb dX7_day_80 (by decide) ?_
            refine lv_goto (tgt := 85) hx hb dX7_day_81 (by decide) ?_
            refine lv_iadd hx hb dX7_day_85 ?_
            refine lv_as (y := 1) (by decide) ?_
            refine lv_iload_n hx hb dX7_day_86 rfl (lv_at hl 3 rfl) ?_
            refine lv_iconst (v := 3) hx hb dX7_day_87 (by decide) ?_
            refine lv_idiv hx hb dX7_day_88 (by decide) ?_
            refine lv_isub hx hb dX7_day_89 ?_
            refine lv_iadd hx hb dX7_day_90 ?_
            refine lv_istore_n (lv' := [(3, .int ((r1.2 1 / 2) + (1 - (x / 3)))), (2, .int r1.1), (0, .ref h0), (1, .int x)]) hx hb dX7_day_91 rfl hl (by decide) rfl (fun ls hl => ?_)
            refine lv_aload_n hx hb dX7_day_92 rfl (lv_at hl 2 rfl) ?_
            refine lv_dup hx hb dX7_day_93 rfl ?_
            refine xr_get hf hK hw 0 0 rfl rfl in_X7 1 (by decide) q1137 (fun _ h => h) rfl dX7_day_94 ?_
            refine lv_aload_n hx hb dX7_day_97 rfl (lv_at hl 2 rfl) ?_
            refine xr_get hf hK hw 0 0 rfl rfl in_X7 0 (by decide) q1135 (fun _ h => h) rfl dX7_day_98 ?_
            refine lv_aload_n hx hb dX7_day_101 rfl (lv_at hl 2 rfl) ?_
            refine xr_get hf hK hw 0 0 rfl rfl in_X7 1 (by decide) q1137 (fun _ h => h) rfl dX7_day_102 ?_
            refine lv_isub hx hb dX7_day_105 ?_
            refine lv_iconst (v := 0) hx hb dX7_day_106 (by decide) ?_
            refine lv_iload_n hx hb dX7_day_107 rfl (lv_at hl 0 rfl) ?_
            refine va_mmax hx hb (by rw [hf.2.2.1]; exact hl.1.symm) hf.2.2.2.1 (hts _ q1305) (hts _ q152) (hts _ q50) (hts _ q153) (Nat.le_of_ble_eq_true rfl) (Nat.le_of_ble_eq_true rfl) (Nat.le_of_ble_eq_true rfl) (Nat.le_of_ble_eq_true rfl) dX7_day_108 ?_
            refine lv_as (y := imax 0 ((r1.2 1 / 2) + (1 - (x / 3)))) rfl ?_
            refine va_mmin hx hb (by rw [hf.2.2.1]; exact hl.1.symm) hf.2.2.2.1 (hts _ q1304) (hts _ q193) (hts _ q50) (hts _ q194) (Nat.le_of_ble_eq_true rfl) (Nat.le_of_ble_eq_true rfl) (Nat.le_of_ble_eq_true rfl) (Nat.le_of_ble_eq_true rfl) dX7_day_111 ?_
            refine lv_as (y := imin (r1.2 0 - r1.2 1) (imax 0 ((r1.2 1 / 2) + (1 - (x / 3))))) rfl ?_
            refine lv_iadd hx hb dX7_day_114 ?_
            refine xr_put (LL' := [[ob h0 6 [.int (r1.2 0), .int (r1.2 1 + (imin (r1.2 0 - r1.2 1) (imax 0 ((r1.2 1 / 2) + (1 - (x / 3)))))), .int (r1.2 2), .int (r1.2 3), .int (r1.2 4), .int (r1.2 5), .int (r1.2 6), .int (r1.2 7), .int (r1.2 8), .int (r1.2 9), .int (bz (r1.2 10))]]]) hf hK hw 0 0 rfl rfl in_X7 tyX7_ok nmX7 1 (by decide) q1137 (fun _ h => h) rfl rfl rfl (Nat.le_of_ble_eq_true rfl) rfl dX7_day_115 (fun H locs hw => ?_)
            refine lv_iload_n hx hb dX7_day_118 rfl (lv_at hl 1 rfl) ?_
            refine lv_aload_n hx hb dX7_day_119 rfl (lv_at hl 2 rfl) ?_
            refine lv_aload_n hx hb dX7_day_120 rfl (lv_at hl 2 rfl) ?_
            refine xr_get hf hK hw 0 0 rfl rfl in_X7 1 (by decide) q1137 (fun _ h => h) rfl dX7_day_121 ?_
            refine lv_iconst (v := 5) hx hb dX7_day_124 (by decide) ?_
            refine lv_idiv hx hb dX7_day_125 (by decide) ?_
            refine xc_V (rest := [.int r1.1]) (As := [.int ((r1.2 1 + (imin (r1.2 0 - r1.2 1) (imax 0 ((r1.2 1 / 2) + (1 - (x / 3)))))) / 5)]) hf hK hA hAz hst (hw.pick [0] rfl rfl rfl) (k_X7_die l D dT g z0 h0 (vec [r1.2 0, (r1.2 1 + (imin (r1.2 0 - r1.2 1) (imax 0 ((r1.2 1 / 2) + (1 - (x / 3)))))), r1.2 2, r1.2 3, r1.2 4, r1.2 5, r1.2 6, r1.2 7, r1.2 8, r1.2 9, r1.2 10]) ((r1.2 1 + (imin (r1.2 0 - r1.2 1) (imax 0 ((r1.2 1 / 2) + (1 - (x / 3)))))) / 5)) (cwV 1 hts (lw_V q1300 q1301 q1302 q57 q1303) rfl rfl rfl (by decide +kernel) ⟨Nat.le_of_ble_eq_true rfl, Nat.le_of_ble_eq_true rfl⟩) (xr_rv hK hw 0 0 rfl rfl) rfl hl.1 rfl (Nat.le_of_ble_eq_true rfl) dX7_day_126 ⟨(Nat.le_of_ble_eq_true rfl), (Nat.le_of_ble_eq_true rfl)⟩ (fun _ _ _ _ _ _ h => h.elim) (fun v9 LL1 H locs hp hw => ?_)
            obtain ⟨r2, hr2⟩ : ∃ z, z = f_X7_die (vec [r1.2 0, (r1.2 1 + (imin (r1.2 0 - r1.2 1) (imax 0 ((r1.2 1 / 2) + (1 - (x / 3)))))), r1.2 2, r1.2 3, r1.2 4, r1.2 5, r1.2 6, r1.2 7, r1.2 8, r1.2 9, r1.2 10]) ((r1.2 1 + (imin (r1.2 0 - r1.2 1) (imax 0 ((r1.2 1 / 2) + (1 - (x / 3)))))) / 5) := ⟨_, rfl⟩
            rw [← hr2] at hp
            obtain ⟨rfl, rfl⟩ := hp
            have hw : Wd D A s.heap _ _ [[ob h0 6 [.int (r2.2 0), .int (r2.2 1), .int (r2.2 2), .int (r2.2 3), .int (r2.2 4), .int (r2.2 5), .int (r2.2 6), .int (r2.2 7), .int (r2.2 8), .int (r2.2 9), .int (bz (r2.2 10))]]] := hw
            refine W.eq (g2 := F0 m 129 ls [.int r2.1, .int r1.1]) rfl ?_
            refine lv_iadd hx hb dX7_day_129 ?_
            refine lv_istore_n (lv' := [(2, .int (r1.1 + r2.1)), (3, .int ((r1.2 1 / 2) + (1 - (x / 3)))), (0, .ref h0), (1, .int x)]) hx hb dX7_day_130 rfl hl (by decide) rfl (fun ls hl => ?_)
            refine lv_aload_n hx hb dX7_day_131 rfl (lv_at hl 2 rfl) ?_
            refine lv_iconst (v := 0) hx hb dX7_day_132 (by decide) ?_
            refine xr_put (LL' := [[ob h0 6 [.int (r2.2 0), .int (r2.2 1), .int (r2.2 2), .int (r2.2 3), .int (r2.2 4), .int (r2.2 5), .int (r2.2 6), .int (r2.2 7), .int 0, .int (r2.2 9), .int (bz (r2.2 10))]]]) hf hK hw 0 0 rfl rfl in_X7 tyX7_ok nmX7 8 (by decide) q1151 (fun _ h => h) rfl rfl rfl (Nat.le_of_ble_eq_true rfl) rfl dX7_day_133 (fun H locs hw => ?_)
            refine lv_aload_n hx hb dX7_day_136 rfl (lv_at hl 2 rfl) ?_
            refine lv_iconst (v := 0) hx hb dX7_day_137 (by decide) ?_
            refine xr_put (LL' := [[ob h0 6 [.int (r2.2 0), .int (r2.2 1), .int (r2.2 2), .int (r2.2 3), .int (r2.2 4), .int (r2.2 5), .int (r2.2 6), .int (r2.2 7), .int 0, .int 0, .int (bz (r2.2 10))]]]) hf hK hw 0 0 rfl rfl in_X7 tyX7_ok nmX7 9 (by decide) q1153 (fun _ h => h) rfl rfl rfl (Nat.le_of_ble_eq_true rfl) rfl dX7_day_138 (fun H locs hw => ?_)
            refine lv_iload_n hx hb dX7_day_141 rfl (lv_at hl 0 rfl) ?_
            have e9 : f_X7_day v x = ((r1.1 + r2.1), (vec [r2.2 0, r2.2 1, r2.2 2, r2.2 3, r2.2 4, r2.2 5, r2.2 6, r2.2 7, 0, 0, r2.2 10])) := by
              unfold f_X7_day
              rw [if_pos c_4]
              rw [← hr1]; try dsimp only
              rw [if_neg c_23]
              rw [if_neg c_40]
              rw [if_pos c_64]
              rw [if_neg c_77]
              rw [← hr2]; try dsimp only
              try rfl
            have p0 := congrArg (fun z : Int32 × (Nat → Int32) => some (Value.int z.1)) e9.symm
            have p1 := congrArg (fun z : Int32 × (Nat → Int32) => [mtS h0 z.2]) e9.symm
            exact xr_iret hf hr hlocks hw (Nat.le_of_ble_eq_true rfl) (Nat.le_of_ble_eq_true rfl) ⟨p0, p1⟩ dX7_day_142
        · refine lv_iconst (v := 1) hx hb dX7_day_67 (by decide) ?_
          refine lv_goto (tgt := 72) hx hb dX7_day_68 (by decide) ?_
          refine lv_aload_n hx hb dX7_day_72 rfl (lv_at hl 2 rfl) ?_
          refine xr_get hf hK hw 0 0 rfl rfl in_X7 7 (by decide) q1149 (fun _ h => h) rfl dX7_day_73 ?_
          refine lv_iconst (v := 4) hx hb dX7_day_76 (by decide) ?_
          refine lv_icmp_lt (tgt := 84) hx hb dX7_day_77 (by decide) (fun c_77 => ?_) (fun c_77 => ?_)
          · refine lv_iconst (v := 0) hx hb dX7_day_84 (by decide) ?_
            refine lv_iadd hx hb dX7_day_85 ?_
            refine lv_as (y := 1) (by decide) ?_
            refine lv_iload_n hx hb dX7_day_86 rfl (lv_at hl 3 rfl) ?_
            refine lv_iconst (v := 3) hx hb dX7_day_87 (by decide) ?_
            refine lv_idiv hx hb dX7_day_88 (by decide) ?_
            refine lv_isub hx hb dX7_day_89 ?_
            refine lv_iadd hx hb dX7_day_90 ?_
            refine lv_istore_n (lv' := [(3, .int ((r1.2 1 / 2) + (1 - (x / 3)))), (2, .int r1.1), (0, .ref h0), (1, .int x)]) hx hb dX7_day_91 rfl hl (by decide) rfl (fun ls hl => ?_)
            refine lv_aload_n hx hb dX7_day_92 rfl (lv_at hl 2 rfl) ?_
            refine lv_dup hx hb dX7_day_93 rfl ?_
            refine xr_get hf hK hw 0 0 rfl rfl in_X7 1 (by decide) q1137 (fun _ h => h) rfl dX7_day_94 ?_
            refine lv_aload_n hx hb dX7_day_97 rfl (lv_at hl 2 rfl) ?_
            refine xr_get hf hK hw 0 0 rfl rfl in_X7 0 (by decide) q1135 (fun _ h => h) rfl dX7_day_98 ?_
            refine lv_aload_n hx hb dX7_day_101 rfl (lv_at hl 2 rfl) ?_
            refine xr_get hf hK hw 0 0 rfl rfl in_X7 1 (by decide) q1137 (fun _ h => h) rfl dX7_day_102 ?_
            refine lv_isub hx hb dX7_day_105 ?_
            refine lv_iconst (v := 0) hx hb dX7_day_106 (by decide) ?_
            refine lv_iload_n hx hb dX7_day_107 rfl (lv_at hl 0 rfl) ?_
            refine va_mmax hx hb (by rw [hf.2.2.1]; exact hl.1.symm) hf.2.2.2.1 (hts _ q1305) (hts _ q152) (hts _ q50) (hts _ q153) (Nat.le_of_ble_eq_true rfl) (Nat.le_of_ble_eq_true rfl) (Nat.le_of_ble_eq_true rfl) (Nat.le_of_ble_eq_true rfl) dX7_day_108 ?_
            refine lv_as (y := imax 0 ((r1.2 1 / 2) + (1 - (x / 3)))) rfl ?_
            refine va_mmin hx hb (by rw [hf.2.2.1]; exact hl.1.symm) hf.2.2.2.1 (hts _ q1304) (hts _ q193) (hts _ q50) (hts _ q194) (Nat.le_of_ble_eq_true rfl) (Nat.le_of_ble_eq_true rfl) (Nat.le_of_ble_eq_true rfl) (Nat.le_of_ble_eq_true rfl) dX7_day_111 ?_
            refine lv_as (y := imin (r1.2 0 - r1.2 1) (imax 0 ((r1.2 1 / 2) + (1 - (x / 3))))) rfl ?_
            refine lv_iadd hx hb dX7_day_114 ?_
            refine xr_put (LL' := [[ob h0 6 [.int (r1.2 0), .int (r1.2 1 + (imin (r1.2 0 - r1.2 1) (imax 0 ((r1.2 1 / 2) + (1 - (x / 3)))))), .int (r1.2 2), .int (r1.2 3), .int (r1.2 4), .int (r1.2 5), .int (r1.2 6), .int (r1.2 7), .int (r1.2 8), .int (r1.2 9), .int (bz (r1.2 10))]]]) hf hK hw 0 0 rfl rfl in_X7 tyX7_ok nmX7 1 (by decide) q1137 (fun _ h => h) rfl rfl rfl (Nat.le_of_ble_eq_true rfl) rfl dX7_day_115 (fun H locs hw => ?_)
            refine lv_iload_n hx hb dX7_day_118 rfl (lv_at hl 1 rfl) ?_
            refine lv_aload_n hx hb dX7_day_119 rfl (lv_at hl 2 rfl) ?_
            refine lv_aload_n hx hb dX7_day_120 rfl (lv_at hl 2 rfl) ?_
            refine xr_get hf hK hw 0 0 rfl rfl in_X7 1 (by decide) q1137 (fun _ h => h) rfl dX7_day_121 ?_
            refine lv_iconst (v := 5) hx hb dX7_day_124 (by decide) ?_
            refine lv_idiv hx hb dX7_day_125 (by decide) ?_
            refine xc_V (rest := [.int r1.1]) (As := [.int ((r1.2 1 + (imin (r1.2 0 - r1.2 1) (imax 0 ((r1.2 1 / 2) + (1 - (x / 3)))))) / 5)]) hf hK hA hAz hst (hw.pick [0] rfl rfl rfl) (k_X7_die l D dT g z0 h0 (vec [r1.2 0, (r1.2 1 + (imin (r1.2 0 - r1.2 1) (imax 0 ((r1.2 1 / 2) + (1 - (x / 3)))))), r1.2 2, r1.2 3, r1.2 4, r1.2 5, r1.2 6, r1.2 7, r1.2 8, r1.2 9, r1.2 10]) ((r1.2 1 + (imin (r1.2 0 - r1.2 1) (imax 0 ((r1.2 1 / 2) + (1 - (x / 3)))))) / 5)) (cwV 1 hts (lw_V q1300 q1301 q1302 q57 q1303) rfl rfl rfl (by decide +kernel) ⟨Nat.le_of_ble_eq_true rfl, Nat.le_of_ble_eq_true rfl⟩) (xr_rv hK hw 0 0 rfl rfl) rfl hl.1 rfl (Nat.le_of_ble_eq_true rfl) dX7_day_126 ⟨(Nat.le_of_ble_eq_true rfl), (Nat.le_of_ble_eq_true rfl)⟩ (fun _ _ _ _ _ _ h => h.elim) (fun v9 LL1 H locs hp hw => ?_)
            obtain ⟨r2, hr2⟩ : ∃ z, z = f_X7_die (vec [r1.2 0, (r1.2 1 + (imin (r1.2 0 - r1.2 1) (imax 0 ((r1.2 1 / 2) + (1 - (x / 3)))))), r1.2 2, r1.2 3, r1.2 4, r1.2 5, r1.2 6, r1.2 7, r1.2 8, r1.2 9, r1.2 10]) ((r1.2 1 + (imin (r1.2 0 - r1.2 1) (imax 0 ((r1.2 1 / 2) + (1 - (x / 3)))))) / 5) := ⟨_, rfl⟩
            rw [← hr2] at hp
            obtain ⟨rfl, rfl⟩ := hp
            have hw : Wd D A s.heap _ _ [[ob h0 6 [.int (r2.2 0), .int (r2.2 1), .int (r2.2 2), .int (r2.2 3), .int (r2.2 4), .int (r2.2 5), .int (r2.2 6), .int (r2.2 7), .int (r2.2 8), .int (r2.2 9), .int (bz (r2.2 10))]]] := hw
            refine W.eq (g2 := F0 m 129 ls [.int r2.1, .int r1.1]) rfl ?_
            refine lv_iadd hx hb dX7_day_129 ?_
            refine lv_istore_n (lv' := [(2, .int (r1.1 + r2.1)), (3, .int ((r1.2 1 / 2) + (1 - (x / 3)))), (0, .ref h0), (1, .int x)]) hx hb dX7_day_130 rfl hl (by decide) rfl (fun ls hl => ?_)
            refine lv_aload_n hx hb dX7_day_131 rfl (lv_at hl 2 rfl) ?_
            refine lv_iconst (v := 0) hx hb dX7_day_132 (by decide) ?_
            refine xr_put (LL' := [[ob h0 6 [.int (r2.2 0), .int (r2.2 1), .int (r2.2 2), .int (r2.2 3), .int (r2.2 4), .int (r2.2 5), .int (r2.2 6), .int (r2.2 7), .int 0, .int (r2.2 9), .int (bz (r2.2 10))]]]) hf hK hw 0 0 rfl rfl in_X7 tyX7_ok nmX7 8 (by decide) q1151 (fun _ h => h) rfl rfl rfl (Nat.le_of_ble_eq_true rfl) rfl dX7_day_133 (fun H locs hw => ?_)
            refine lv_aload_n hx hb dX7_day_136 rfl (lv_at hl 2 rfl) ?_
            refine lv_iconst (v := 0) hx hb dX7_day_137 (by decide) ?_
            refine xr_put (LL' := [[ob h0 6 [.int (r2.2 0), .int (r2.2 1), .int (r2.2 2), .int (r2.2 3), .int (r2.2 4), .int (r2.2 5), .int (r2.2 6), .int (r2.2 7), .int 0, .int 0, .int (bz (r2.2 10))]]]) hf hK hw 0 0 rfl rfl in_X7 tyX7_ok nmX7 9 (by decide) q1153 (fun _ h => h) rfl rfl rfl (Nat.le_of_ble_eq_true rfl) rfl dX7_day_138 (fun H locs hw => ?_)
            refine lv_iload_n hx hb dX7_day_141 rfl (lv_at hl 0 rfl) ?_
            have e9 : f_X7_day v x = ((r1.1 + r2.1), (vec [r2.2 0, r2.2 1, r2.2 2, r2.2 3, r2.2 4, r2.2 5, r2.2 6, r2.2 7, 0, 0, r2.2 10])) := by
              unfold f_X7_day
              rw [if_pos c_4]
              rw [← hr1]; try dsimp only
              rw [if_neg c_23]
              rw [if_neg c_40]
              rw [if_neg c_64]
              rw [if_pos c_77]
              rw [← hr2]; try dsimp only
              try rfl
            have p0 := congrArg (fun z : Int32 × (Nat → Int32) => some (Value.int z.1)) e9.symm
            have p1 := congrArg (fun z : Int32 × (Nat → Int32) => [mtS h0 z.2]) e9.symm
            exact xr_iret hf hr hlocks hw (Nat.le_of_ble_eq_true rfl) (Nat.le_of_ble_eq_true rfl) ⟨p0, p1⟩ dX7_day_142
          · refine lv_iconst (v := 1) hx hb dX7_day_80 (by decide) ?_
            refine lv_goto (tgt := 85) hx hb dX7_day_81 (by decide) ?_
            refine lv_iadd hx hb dX7_day_85 ?_
            refine lv_as (y := 2) (by decide) ?_
            refine lv_iload_n hx hb dX7_day_86 rfl (lv_at hl 3 rfl) ?_
            refine lv_iconst (v := 3) hx hb dX7_day_87 (by decide) ?_
            refine lv_idiv hx hb dX7_day_88 (by decide) ?_
            refine lv_isub hx hb dX7_day_89 ?_
            refine lv_iadd hx hb dX7_day_90 ?_
            refine lv_istore_n (lv' := [(3, .int ((r1.2 1 / 2) + (2 - (x / 3)))), (2, .int r1.1), (0, .ref h0), (1, .int x)]) hx hb dX7_day_91 rfl hl (by decide) rfl (fun ls hl => ?_)
            refine lv_aload_n hx hb dX7_day_92 rfl (lv_at hl 2 rfl) ?_
            refine lv_dup hx hb dX7_day_93 rfl ?_
            refine xr_get hf hK hw 0 0 rfl rfl in_X7 1 (by decide) q1137 (fun _ h => h) rfl dX7_day_94 ?_
            refine lv_aload_n hx hb dX7_day_97 rfl (lv_at hl 2 rfl) ?_
            refine xr_get hf hK hw 0 0 rfl rfl in_X7 0 (by decide) q1135 (fun _ h => h) rfl dX7_day_98 ?_
            refine lv_aload_n hx hb dX7_day_101 rfl (lv_at hl 2 rfl) ?_
            refine xr_get hf hK hw 0 0 rfl rfl in_X7 1 (by decide) q1137 (fun _ h => h) rfl dX7_day_102 ?_
            refine lv_isub hx hb dX7_day_105 ?_
            refine lv_iconst (v := 0) hx hb dX7_day_106 (by decide) ?_
            refine lv_iload_n hx hb dX7_day_107 rfl (lv_at hl 0 rfl) ?_
            refine va_mmax hx hb (by rw [hf.2.2.1]; exact hl.1.symm) hf.2.2.2.1 (hts _ q1305) (hts _ q152) (hts _ q50) (hts _ q153) (Nat.le_of_ble_eq_true rfl) (Nat.le_of_ble_eq_true rfl) (Nat.le_of_ble_eq_true rfl) (Nat.le_of_ble_eq_true rfl) dX7_day_108 ?_
            refine lv_as (y := imax 0 ((r1.2 1 / 2) + (2 - (x / 3)))) rfl ?_
            refine va_mmin hx hb (by rw [hf.2.2.1]; exact hl.1.symm) hf.2.2.2.1 (hts _ q1304) (hts _ q193) (hts _ q50) (hts _ q194) (Nat.le_of_ble_eq_true rfl) (Nat.le_of_ble_eq_true rfl) (Nat.le_of_ble_eq_true rfl) (Nat.le_of_ble_eq_true rfl) dX7_day_111 ?_
            refine lv_as (y := imin (r1.2 0 - r1.2 1) (imax 0 ((r1.2 1 / 2) + (2 - (x / 3))))) rfl ?_
            refine lv_iadd hx hb dX7_day_114 ?_
            refine xr_put (LL' := [[ob h0 6 [.int (r1.2 0), .int (r1.2 1 + (imin (r1.2 0 - r1.2 1) (imax 0 ((r1.2 1 / 2) + (2 - (x / 3)))))), .int (r1.2 2), .int (r1.2 3), .int (r1.2 4), .int (r1.2 5), .int (r1.2 6), .int (r1.2 7), .int (r1.2 8), .int (r1.2 9), .int (bz (r1.2 10))]]]) hf hK hw 0 0 rfl rfl in_X7 tyX7_ok nmX7 1 (by decide) q1137 (fun _ h => h) rfl rfl rfl (Nat.le_of_ble_eq_true rfl) rfl dX7_day_115 (fun H locs hw => ?_)
            refine lv_iload_n hx hb dX7_day_118 rfl (lv_at hl 1 rfl) ?_
            refine lv_aload_n hx hb dX7_day_119 rfl (lv_at hl 2 rfl) ?_
            refine lv_aload_n hx hb dX7_day_120 rfl (lv_at hl 2 rfl) ?_
            refine xr_get hf hK hw 0 0 rfl rfl in_X7 1 (by decide) q1137 (fun _ h => h) rfl dX7_day_121 ?_
            refine lv_iconst (v := 5) hx hb dX7_day_124 (by decide) ?_
            refine lv_idiv hx hb dX7_day_125 (by decide) ?_
            refine xc_V (rest := [.int r1.1]) (As := [.int ((r1.2 1 + (imin (r1.2 0 - r1.2 1) (imax 0 ((r1.2 1 / 2) + (2 - (x / 3)))))) / 5)]) hf hK hA hAz hst (hw.pick [0] rfl rfl rfl) (k_X7_die l D dT g z0 h0 (vec [r1.2 0, (r1.2 1 + (imin (r1.2 0 - r1.2 1) (imax 0 ((r1.2 1 / 2) + (2 - (x / 3)))))), r1.2 2, r1.2 3, r1.2 4, r1.2 5, r1.2 6, r1.2 7, r1.2 8, r1.2 9, r1.2 10]) ((r1.2 1 + (imin (r1.2 0 - r1.2 1) (imax 0 ((r1.2 1 / 2) + (2 - (x / 3)))))) / 5)) (cwV 1 hts (lw_V q1300 q1301 q1302 q57 q1303) rfl rfl rfl (by decide +kernel) ⟨Nat.le_of_ble_eq_true rfl, Nat.le_of_ble_eq_true rfl⟩) (xr_rv hK hw 0 0 rfl rfl) rfl hl.1 rfl (Nat.le_of_ble_eq_true rfl) dX7_day_126 ⟨(Nat.le_of_ble_eq_true rfl), (Nat.le_of_ble_eq_true rfl)⟩ (fun _ _ _ _ _ _ h => h.elim) (fun v9 LL1 H locs hp hw => ?_)
            obtain ⟨r2, hr2⟩ : ∃ z, z = f_X7_die (vec [r1.2 0, (r1.2 1 + (imin (r1.2 0 - r1.2 1) (imax 0 ((r1.2 1 / 2) + (2 - (x / 3)))))), r1.2 2, r1.2 3, r1.2 4, r1.2 5, r1.2 6, r1.2 7, r1.2 8, r1.2 9, r1.2 10]) ((r1.2 1 + (imin (r1.2 0 - r1.2 1) (imax 0 ((r1.2 1 / 2) + (2 - (x / 3)))))) / 5) := ⟨_, rfl⟩
            rw [← hr2] at hp
            obtain ⟨rfl, rfl⟩ := hp
            have hw : Wd D A s.heap _ _ [[ob h0 6 [.int (r2.2 0), .int (r2.2 1), .int (r2.2 2), .int (r2.2 3), .int (r2.2 4), .int (r2.2 5), .int (r2.2 6), .int (r2.2 7), .int (r2.2 8), .int (r2.2 9), .int (bz (r2.2 10))]]] := hw
            refine W.eq (g2 := F0 m 129 ls [.int r2.1, .int r1.1]) rfl ?_
            refine lv_iadd hx hb dX7_day_129 ?_
            refine lv_istore_n (lv' := [(2, .int (r1.1 + r2.1)), (3, .int ((r1.2 1 / 2) + (2 - (x / 3)))), (0, .ref h0), (1, .int x)]) hx hb dX7_day_130 rfl hl (by decide) rfl (fun ls hl => ?_)
            refine lv_aload_n hx hb dX7_day_131 rfl (lv_at hl 2 rfl) ?_
            refine lv_iconst (v := 0) hx hb dX7_day_132 (by decide) ?_
            refine xr_put (LL' := [[ob h0 6 [.int (r2.2 0), .int (r2.2 1), .int (r2.2 2), .int (r2.2 3), .int (r2.2 4), .int (r2.2 5), .int (r2.2 6), .int (r2.2 7), .int 0, .int (r2.2 9), .int (bz (r2.2 10))]]]) hf hK hw 0 0 rfl rfl in_X7 tyX7_ok nmX7 8 (by decide) q1151 (fun _ h => h) rfl rfl rfl (Nat.le_of_ble_eq_true rfl) rfl dX7_day_133 (fun H locs hw => ?_)
            refine lv_aload_n hx hb dX7_day_136 rfl (lv_at hl 2 rfl) ?_
            refine lv_iconst (v := 0) hx hb dX7_day_137 (by decide) ?_
            refine xr_put (LL' := [[ob h0 6 [.int (r2.2 0), .int (r2.2 1), .int (r2.2 2), .int (r2.2 3), .int (r2.2 4), .int (r2.2 5), .int (r2.2 6), .int (r2.2 7), .int 0, .int 0, .int (bz (r2.2 10))]]]) hf hK hw 0 0 rfl rfl in_X7 tyX7_ok nmX7 9 (by decide) q1153 (fun _ h => h) rfl rfl rfl (Nat.le_of_ble_eq_true rfl) rfl dX7_day_138 (fun H locs hw => ?_)
            refine lv_iload_n hx hb dX7_day_141 rfl (lv_at hl 0 rfl) ?_
            have e9 : f_X7_day v x = ((r1.1 + r2.1), (vec [r2.2 0, r2.2 1, r2.2 2, r2.2 3, r2.2 4, r2.2 5, r2.2 6, r2.2 7, 0, 0, r2.2 10])) := by
              unfold f_X7_day
              rw [if_pos c_4]
              rw [← hr1]; try dsimp only
              rw [if_neg c_23]
              rw [if_neg c_40]
              rw [if_neg c_64]
              rw [if_neg c_77]
              rw [← hr2]; try dsimp only
              try rfl
            have p0 := congrArg (fun z : Int32 × (Nat → Int32) => some (Value.int z.1)) e9.symm
            have p1 := congrArg (fun z : Int32 × (Nat → Int32) => [mtS h0 z.2]) e9.symm
            exact xr_iret hf hr hlocks hw (Nat.le_of_ble_eq_true rfl) (Nat.le_of_ble_eq_true rfl) ⟨p0, p1⟩ dX7_day_142
    · refine lv_iload_n hx hb dX7_day_26 rfl (lv_at hl 0 rfl) ?_
      have e9 : f_X7_day v x = (r1.1, r1.2) := by
        unfold f_X7_day
        rw [if_pos c_4]
        rw [← hr1]; try dsimp only
        rw [if_pos c_23]
        try rfl
      have p0 := congrArg (fun z : Int32 × (Nat → Int32) => some (Value.int z.1)) e9.symm
      have p1 := congrArg (fun z : Int32 × (Nat → Int32) => [mtS h0 z.2]) e9.symm
      exact xr_iret hf hr hlocks hw (Nat.le_of_ble_eq_true rfl) (Nat.le_of_ble_eq_true rfl) ⟨p0, p1⟩ dX7_day_27
  · refine lv_aload_n hx hb dX7_day_7 rfl (lv_at hl 0 rfl) ?_
    refine xc_V (rest := []) (As := []) hf hK hA hAz hst (hw.pick [0] rfl rfl rfl) (k_X7_moulted l D dT g z0 h0 v) (cwV 0 hts (lw_V q1285 q1287 qs22 q57 q1288) rfl rfl rfl (by decide +kernel) ⟨Nat.le_of_ble_eq_true rfl, Nat.le_of_ble_eq_true rfl⟩) (xr_rv hK hw 0 0 rfl rfl) rfl hl.1 rfl (Nat.le_of_ble_eq_true rfl) dX7_day_8 ⟨(Nat.le_of_ble_eq_true rfl), (Nat.le_of_ble_eq_true rfl)⟩ (fun _ _ _ _ _ _ h => h.elim) (fun v9 LL1 H locs hp hw => ?_)
    obtain ⟨r1, hr1⟩ : ∃ z, z = f_X7_moulted v := ⟨_, rfl⟩
    rw [← hr1] at hp
    obtain ⟨rfl, rfl⟩ := hp
    have hw : Wd D A s.heap _ _ [[ob h0 6 [.int (r1.2 0), .int (r1.2 1), .int (r1.2 2), .int (r1.2 3), .int (r1.2 4), .int (r1.2 5), .int (r1.2 6), .int (r1.2 7), .int (r1.2 8), .int (r1.2 9), .int (bz (r1.2 10))]]] := hw
    refine W.eq (g2 := F0 m 11 ls [.int r1.1]) rfl ?_
    refine lv_goto (tgt := 18) hx hb dX7_day_11 (by decide) ?_
    refine lv_istore_n (lv' := [(2, .int r1.1), (0, .ref h0), (1, .int x)]) hx hb dX7_day_18 rfl hl (by decide) rfl (fun ls hl => ?_)
    refine lv_aload_n hx hb dX7_day_19 rfl (lv_at hl 1 rfl) ?_
    refine xr_get hf hK hw 0 0 rfl rfl in_X7 0 (by decide) q1135 (fun _ h => h) rfl dX7_day_20 ?_
    refine lv_if_ne (tgt := 28) hx hb dX7_day_23 (by decide) (fun c_23 => ?_) (fun c_23 => ?_)
    · refine lv_aload_n hx hb dX7_day_28 rfl (lv_at hl 1 rfl) ?_
      refine xr_get hf hK hw 0 0 rfl rfl in_X7 0 (by decide) q1135 (fun _ h => h) rfl dX7_day_29 ?_
      refine lv_aload_n hx hb dX7_day_32 rfl (lv_at hl 1 rfl) ?_
      refine xr_get hf hK hw 0 0 rfl rfl in_X7 3 (by decide) q1141 (fun _ h => h) rfl dX7_day_33 ?_
      refine lv_imul hx hb dX7_day_36 ?_
      refine lv_sipush (v := 200) hx hb dX7_day_37 (by decide) ?_
      refine lv_icmp_le (tgt := 52) hx hb dX7_day_40 (by decide) (fun c_40 => ?_) (fun c_40 => ?_)
      · refine lv_aload_n hx hb dX7_day_52 rfl (lv_at hl 1 rfl) ?_
        refine xr_get hf hK hw 0 0 rfl rfl in_X7 1 (by decide) q1137 (fun _ h => h) rfl dX7_day_53 ?_
        refine lv_iconst (v := 4) hx hb dX7_day_56 (by decide) ?_
        refine lv_idiv hx hb dX7_day_57 (by decide) ?_
        refine lv_istore_n (lv' := [(3, .int (r1.2 1 / 4)), (2, .int r1.1), (0, .ref h0), (1, .int x)]) hx hb dX7_day_58 rfl hl (by decide) rfl (fun ls hl => ?_)
        refine lv_iload_n hx hb dX7_day_59 rfl (lv_at hl 0 rfl) ?_
        refine lv_aload_n hx hb dX7_day_60 rfl (lv_at hl 2 rfl) ?_
        refine xr_get hf hK hw 0 0 rfl rfl in_X7 9 (by decide) q1153 (fun _ h => h) rfl dX7_day_61 ?_
        refine lv_if_le (tgt := 71) hx hb dX7_day_64 (by decide) (fun c_64 => ?_) (fun c_64 => ?_)
        · refine lv_iconst (v := 0) hx hb dX7_day_71 (by decide) ?_
          refine lv_aload_n hx hb dX7_day_72 rfl (lv_at hl 2 rfl) ?_
          refine xr_get hf hK hw 0 0 rfl rfl in_X7 7 (by decide) q1149 (fun _ h => h) rfl dX7_day_73 ?_
          refine lv_iconst (v := 4) hx hb dX7_day_76 (by decide) ?_
          refine lv_icmp_lt (tgt := 84) hx hb dX7_day_77 (by decide) (fun c_77 => ?_) (fun c_77 => ?_)
          · refine lv_iconst (v := 0) hx hb dX7_day_84 (by decide) ?_
            refine lv_iadd hx hb dX7_day_85 ?_
            refine lv_as (y := 0) (by decide) ?_
            refine lv_iload_n hx hb dX7_day_86 rfl (lv_at hl 3 rfl) ?_
            refine lv_iconst (v := 3) hx hb dX7_day_87 (by decide) ?_
            refine lv_idiv hx hb dX7_day_88 (by decide) ?_
            refine lv_isub hx hb dX7_day_89 ?_
            refine lv_iadd hx hb dX7_day_90 ?_
            refine lv_istore_n (lv' := [(3, .int ((r1.2 1 / 4) + (0 - (x / 3)))), (2, .int r1.1), (0, .ref h0), (1, .int x)]) hx hb dX7_day_91 rfl hl (by decide) rfl (fun ls hl => ?_)
            refine lv_aload_n hx hb dX7_day_92 rfl (lv_at hl 2 rfl) ?_
            refine lv_dup hx hb dX7_day_93 rfl ?_
            refine xr_get hf hK hw 0 0 rfl rfl in_X7 1 (by decide) q1137 (fun _ h => h) rfl dX7_day_94 ?_
            refine lv_aload_n hx hb dX7_day_97 rfl (lv_at hl 2 rfl) ?_
            refine xr_get hf hK hw 0 0 rfl rfl in_X7 0 (by decide) q1135 (fun _ h => h) rfl dX7_day_98 ?_
            refine lv_aload_n hx hb dX7_day_101 rfl (lv_at hl 2 rfl) ?_
            refine xr_get hf hK hw 0 0 rfl rfl in_X7 1 (by decide) q1137 (fun _ h => h) rfl dX7_day_102 ?_
            refine lv_isub hx hb dX7_day_105 ?_
            refine lv_iconst (v := 0) hx hb dX7_day_106 (by decide) ?_
            refine lv_iload_n hx hb dX7_day_107 rfl (lv_at hl 0 rfl) ?_
            refine va_mmax hx hb (by rw [hf.2.2.1]; exact hl.1.symm) hf.2.2.2.1 (hts _ q1305) (hts _ q152) (hts _ q50) (hts _ q153) (Nat.le_of_ble_eq_true rfl) (Nat.le_of_ble_eq_true rfl) (Nat.le_of_ble_eq_true rfl) (Nat.le_of_ble_eq_true rfl) dX7_day_108 ?_
            refine lv_as (y := imax 0 ((r1.2 1 / 4) + (0 - (x / 3)))) rfl ?_
            refine va_mmin hx hb (by rw [hf.2.2.1]; exact hl.1.symm) hf.2.2.2.1 (hts _ q1304) (hts _ q193) (hts _ q50) (hts _ q194) (Nat.le_of_ble_eq_true rfl) (Nat.le_of_ble_eq_true rfl) (Nat.le_of_ble_eq_true rfl) (Nat.le_of_ble_eq_true rfl) dX7_day_111 ?_
            refine lv_as (y := imin (r1.2 0 - r1.2 1) (imax 0 ((r1.2 1 / 4) + (0 - (x / 3))))) rfl ?_
            refine lv_iadd hx hb dX7_day_114 ?_
            refine xr_put (LL' := [[ob h0 6 [.int (r1.2 0), .int (r1.2 1 + (imin (r1.2 0 - r1.2 1) (imax 0 ((r1.2 1 / 4) + (0 - (x / 3)))))), .int (r1.2 2), .int (r1.2 3), .int (r1.2 4), .int (r1.2 5), .int (r1.2 6), .int (r1.2 7), .int (r1.2 8), .int (r1.2 9), .int (bz (r1.2 10))]]]) hf hK hw 0 0 rfl rfl in_X7 tyX7_ok nmX7 1 (by decide) q1137 (fun _ h => h) rfl rfl rfl (Nat.le_of_ble_eq_true rfl) rfl dX7_day_115 (fun H locs hw => ?_)
            refine lv_iload_n hx hb dX7_day_118 rfl (lv_at hl 1 rfl) ?_
            refine lv_aload_n hx hb dX7_day_119 rfl (lv_at hl 2 rfl) ?_
            refine lv_aload_n hx hb dX7_day_120 rfl (lv_at hl 2 rfl) ?_
            refine xr_get hf hK hw 0 0 rfl rfl in_X7 1 (by decide) q1137 (fun _ h => h) rfl dX7_day_121 ?_
            refine lv_iconst (v := 5) hx hb dX7_day_124 (by decide) ?_
            refine lv_idiv hx hb dX7_day_125 (by decide) ?_
            refine xc_V (rest := [.int r1.1]) (As := [.int ((r1.2 1 + (imin (r1.2 0 - r1.2 1) (imax 0 ((r1.2 1 / 4) + (0 - (x / 3)))))) / 5)]) hf hK hA hAz hst (hw.pick [0] rfl rfl rfl) (k_X7_die l D dT g z0 h0 (vec [r1.2 0, (r1.2 1 + (imin (r1.2 0 - r1.2 1) (imax 0 ((r1.2 1 / 4) + (0 - (x / 3)))))), r1.2 2, r1.2 3, r1.2 4, r1.2 5, r1.2 6, r1.2 7, r1.2 8, r1.2 9, r1.2 10]) ((r1.2 1 + (imin (r1.2 0 - r1.2 1) (imax 0 ((r1.2 1 / 4) + (0 - (x / 3)))))) / 5)) (cwV 1 hts (lw_V q1300 q1301 q1302 q57 q1303) rfl rfl rfl (by decide +kernel) ⟨Nat.le_of_ble_eq_true rfl, Nat.le_of_ble_eq_true rfl⟩) (xr_rv hK hw 0 0 rfl rfl) rfl hl.1 rfl (Nat.le_of_ble_eq_true rfl) dX7_day_126 ⟨(Nat.le_of_ble_eq_true rfl), (Nat.le_of_ble_eq_true rfl)⟩ (fun _ _ _ _ _ _ h => h.elim) (fun v9 LL1 H locs hp hw => ?_)
            obtain ⟨r2, hr2⟩ : ∃ z, z = f_X7_die (vec [r1.2 0, (r1.2 1 + (imin (r1.2 0 - r1.2 1) (imax 0 ((r1.2 1 / 4) + (0 - (x / 3)))))), r1.2 2, r1.2 3, r1.2 4, r1.2 5, r1.2 6, r1.2 7, r1.2 8, r1.2 9, r1.2 10]) ((r1.2 1 + (imin (r1.2 0 - r1.2 1) (imax 0 ((r1.2 1 / 4) + (0 - (x / 3)))))) / 5) := ⟨_, rfl⟩
            rw [← hr2] at hp
            obtain ⟨rfl, rfl⟩ := hp
            have hw : Wd D A s.heap _ _ [[ob h0 6 [.int (r2.2 0), .int (r2.2 1), .int (r2.2 2), .int (r2.2 3), .int (r2.2 4), .int (r2.2 5), .int (r2.2 6), .int (r2.2 7), .int (r2.2 8), .int (r2.2 9), .int (bz (r2.2 10))]]] := hw
            refine W.eq (g2 := F0 m 129 ls [.int r2.1, .int r1.1]) rfl ?_
            refine lv_iadd hx hb dX7_day_129 ?_
            refine lv_istore_n (lv' := [(2, .int (r1.1 + r2.1)), (3, .int ((r1.2 1 / 4) + (0 - (x / 3)))), (0, .ref h0), (1, .int x)]) hx hb dX7_day_130 rfl hl (by decide) rfl (fun ls hl => ?_)
            refine lv_aload_n hx hb dX7_day_131 rfl (lv_at hl 2 rfl) ?_
            refine lv_iconst (v := 0) hx hb dX7_day_132 (by decide) ?_
            refine xr_put (LL' := [[ob h0 6 [.int (r2.2 0), .int (r2.2 1), .int (r2.2 2), .int (r2.2 3), .int (r2.2 4), .int (r2.2 5), .int (r2.2 6), .int (r2.2 7), .int 0, .int (r2.2 9), .int (bz (r2.2 10))]]]) hf hK hw 0 0 rfl rfl in_X7 tyX7_ok nmX7 8 (by decide) q1151 (fun _ h => h) rfl rfl rfl (Nat.le_of_ble_eq_true rfl) rfl dX7_day_133 (fun H locs hw => ?_)
            refine lv_aload_n hx hb dX7_day_136 rfl (lv_at hl 2 rfl) ?_
            refine lv_iconst (v := 0) hx hb dX7_day_137 (by decide) ?_
            refine xr_put (LL' := [[ob h0 6 [.int (r2.2 0), .int (r2.2 1), .int (r2.2 2), .int (r2.2 3), .int (r2.2 4), .int (r2.2 5), .int (r2.2 6), .int (r2.2 7), .int 0, .int 0, .int (bz (r2.2 10))]]]) hf hK hw 0 0 rfl rfl in_X7 tyX7_ok nmX7 9 (by decide) q1153 (fun _ h => h) rfl rfl rfl (Nat.le_of_ble_eq_true rfl) rfl dX7_day_138 (fun H locs hw => ?_)
            refine lv_iload_n hx hb dX7_day_141 rfl (lv_at hl 0 rfl) ?_
            have e9 : f_X7_day v x = ((r1.1 + r2.1), (vec [r2.2 0, r2.2 1, r2.2 2, r2.2 3, r2.2 4, r2.2 5, r2.2 6, r2.2 7, 0, 0, r2.2 10])) := by
              unfold f_X7_day
              rw [if_neg c_4]
              rw [← hr1]; try dsimp only
              rw [if_neg c_23]
              rw [if_pos c_40]
              rw [if_pos c_64]
              rw [if_pos c_77]
              rw [← hr2]; try dsimp only
              try rfl
            have p0 := congrArg (fun z : Int32 × (Nat → Int32) => some (Value.int z.1)) e9.symm
            have p1 := congrArg (fun z : Int32 × (Nat → Int32) => [mtS h0 z.2]) e9.symm
            exact xr_iret hf hr hlocks hw (Nat.le_of_ble_eq_true rfl) (Nat.le_of_ble_eq_true rfl) ⟨p0, p1⟩ dX7_day_142
          · refine lv_iconst (v := 1) hx hb dX7_day_80 (by decide) ?_
            refine lv_goto (tgt := 85) hx hb dX7_day_81 (by decide) ?_
            refine lv_iadd hx hb dX7_day_85 ?_
            refine lv_as (y := 1) (by decide) ?_
            refine lv_iload_n hx hb dX7_day_86 rfl (lv_at hl 3 rfl) ?_
            refine lv_iconst (v := 3) hx hb dX7_day_87 (by decide) ?_
            refine lv_idiv hx hb dX7_day_88 (by decide) ?_
            refine lv_isub hx hb dX7_day_89 ?_
            refine lv_iadd hx hb dX7_day_90 ?_
            refine lv_istore_n (lv' := [(3, .int ((r1.2 1 / 4) + (1 - (x / 3)))), (2, .int r1.1), (0, .ref h0), (1, .int x)]) hx hb dX7_day_91 rfl hl (by decide) rfl (fun ls hl => ?_)
            refine lv_aload_n hx hb dX7_day_92 rfl (lv_at hl 2 rfl) ?_
            refine lv_dup hx hb dX7_day_93 rfl ?_
            refine xr_get hf hK hw 0 0 rfl rfl in_X7 1 (by decide) q1137 (fun _ h => h) rfl dX7_day_94 ?_
            refine lv_aload_n hx hb dX7_day_97 rfl (lv_at hl 2 rfl) ?_
            refine xr_get hf hK hw 0 0 rfl rfl in_X7 0 (by decide) q1135 (fun _ h => h) rfl dX7_day_98 ?_
            refine lv_aload_n hx hb dX7_day_101 rfl (lv_at hl 2 rfl) ?_
            refine xr_get hf hK hw 0 0 rfl rfl in_X7 1 (by decide) q1137 (fun _ h => h) rfl dX7_day_102 ?_
            refine lv_isub hx hb dX7_day_105 ?_
            refine lv_iconst (v := 0) hx hb dX7_day_106 (by decide) ?_
            refine lv_iload_n hx hb dX7_day_107 rfl (lv_at hl 0 rfl) ?_
            refine va_mmax hx hb (by rw [hf.2.2.1]; exact hl.1.symm) hf.2.2.2.1 (hts _ q1305) (hts _ q152) (hts _ q50) (hts _ q153) (Nat.le_of_ble_eq_true rfl) (Nat.le_of_ble_eq_true rfl) (Nat.le_of_ble_eq_true rfl) (Nat.le_of_ble_eq_true rfl) dX7_day_108 ?_
            refine lv_as (y := imax 0 ((r1.2 1 / 4) + (1 - (x / 3)))) rfl ?_
            refine va_mmin hx hb (by rw [hf.2.2.1]; exact hl.1.symm) hf.2.2.2.1 (hts _ q1304) (hts _ q193) (hts _ q50) (hts _ q194) (Nat.le_of_ble_eq_true rfl) (Nat.le_of_ble_eq_true rfl) (Nat.le_of_ble_eq_true rfl) (Nat.le_of_ble_eq_true rfl) dX7_day_111 ?_
            refine lv_as (y := imin (r1.2 0 - r1.2 1) (imax 0 ((r1.2 1 / 4) + (1 - (x / 3))))) rfl ?_
            refine lv_iadd hx hb dX7_day_114 ?_
            refine xr_put (LL' := [[ob h0 6 [.int (r1.2 0), .int (r1.2 1 + (imin (r1.2 0 - r1.2 1) (imax 0 ((r1.2 1 / 4) + (1 - (x / 3)))))), .int (r1.2 2), .int (r1.2 3), .int (r1.2 4), .int (r1.2 5), .int (r1.2 6), .int (r1.2 7), .int (r1.2 8), .int (r1.2 9), .int (bz (r1.2 10))]]]) hf hK hw 0 0 rfl rfl in_X7 tyX7_ok nmX7 1 (by decide) q1137 (fun _ h => h) rfl rfl rfl (Nat.le_of_ble_eq_true rfl) rfl dX7_day_115 (fun H locs hw => ?_)
            refine lv_iload_n hx hb dX7_day_118 rfl (lv_at hl 1 rfl) ?_
            refine lv_aload_n hx hb dX7_day_119 rfl (lv_at hl 2 rfl) ?_
            refine lv_aload_n hx hb dX7_day_120 rfl (lv_at hl 2 rfl) ?_
            refine xr_get hf hK hw 0 0 rfl rfl in_X7 1 (by decide) q1137 (fun _ h => h) rfl dX7_day_121 ?_
            refine lv_iconst (v := 5) hx hb dX7_day_124 (by decide) ?_
            refine lv_idiv hx hb dX7_day_125 (by decide) ?_
            refine xc_V (rest := [.int r1.1]) (As := [.int ((r1.2 1 + (imin (r1.2 0 - r1.2 1) (imax 0 ((r1.2 1 / 4) + (1 - (x / 3)))))) / 5)]) hf hK hA hAz hst (hw.pick [0] rfl rfl rfl) (k_X7_die l D dT g z0 h0 (vec [r1.2 0, (r1.2 1 + (imin (r1.2 0 - r1.2 1) (imax 0 ((r1.2 1 / 4) + (1 - (x / 3)))))), r1.2 2, r1.2 3, r1.2 4, r1.2 5, r1.2 6, r1.2 7, r1.2 8, r1.2 9, r1.2 10]) ((r1.2 1 + (imin (r1.2 0 - r1.2 1) (imax 0 ((r1.2 1 / 4) + (1 - (x / 3)))))) / 5)) (cwV 1 hts (lw_V q1300 q1301 q1302 q57 q1303) rfl rfl rfl (by decide +kernel) ⟨Nat.le_of_ble_eq_true rfl, Nat.le_of_ble_eq_true rfl⟩) (xr_rv hK hw 0 0 rfl rfl) rfl hl.1 rfl (Nat.le_of_ble_eq_true rfl) dX7_day_126 ⟨(Nat.le_of_ble_eq_true rfl), (Nat.le_of_ble_eq_true rfl)⟩ (fun _ _ _ _ _ _ h => h.elim) (fun v9 LL1 H locs hp hw => ?_)
            obtain ⟨r2, hr2⟩ : ∃ z, z = f_X7_die (vec [r1.2 0, (r1.2 1 + (imin (r1.2 0 - r1.2 1) (imax 0 ((r1.2 1 / 4) + (1 - (x / 3)))))), r1.2 2, r1.2 3, r1.2 4, r1.2 5, r1.2 6, r1.2 7, r1.2 8, r1.2 9, r1.2 10]) ((r1.2 1 + (imin (r1.2 0 - r1.2 1) (imax 0 ((r1.2 1 / 4) + (1 - (x / 3)))))) / 5) := ⟨_, rfl⟩
            rw [← hr2] at hp
            obtain ⟨rfl, rfl⟩ := hp
            have hw : Wd D A s.heap _ _ [[ob h0 6 [.int (r2.2 0), .int (r2.2 1), .int (r2.2 2), .int (r2.2 3), .int (r2.2 4), .int (r2.2 5), .int (r2.2 6), .int (r2.2 7), .int (r2.2 8), .int (r2.2 9), .int (bz (r2.2 10))]]] := hw
            refine W.eq (g2 := F0 m 129 ls [.int r2.1, .int r1.1]) rfl ?_
            refine lv_iadd hx hb dX7_day_129 ?_
            refine lv_istore_n (lv' := [(2, .int (r1.1 + r2.1)), (3, .int ((r1.2 1 / 4) + (1 - (x / 3)))), (0, .ref h0), (1, .int x)]) hx hb dX7_day_130 rfl hl (by decide) rfl (fun ls hl => ?_)
            refine lv_aload_n hx hb dX7_day_131 rfl (lv_at hl 2 rfl) ?_
            refine lv_iconst (v := 0) hx hb dX7_day_132 (by decide) ?_
            refine xr_put (LL' := [[ob h0 6 [.int (r2.2 0), .int (r2.2 1), .int (r2.2 2), .int (r2.2 3), .int (r2.2 4), .int (r2.2 5), .int (r2.2 6), .int (r2.2 7), .int 0, .int (r2.2 9), .int (bz (r2.2 10))]]]) hf hK hw 0 0 rfl rfl in_X7 tyX7_ok nmX7 8 (by decide) q1151 (fun _ h => h) rfl rfl rfl (Nat.le_of_ble_eq_true rfl) rfl dX7_day_133 (fun H locs hw => ?_)
            refine lv_aload_n hx hb dX7_day_136 rfl (lv_at hl 2 rfl) ?_
            refine lv_iconst (v := 0) hx hb dX7_day_137 (by decide) ?_
            refine xr_put (LL' := [[ob h0 6 [.int (r2.2 0), .int (r2.2 1), .int (r2.2 2), .int (r2.2 3), .int (r2.2 4), .int (r2.2 5), .int (r2.2 6), .int (r2.2 7), .int 0, .int 0, .int (bz (r2.2 10))]]]) hf hK hw 0 0 rfl rfl in_X7 tyX7_ok nmX7 9 (by decide) q1153 (fun _ h => h) rfl rfl rfl (Nat.le_of_ble_eq_true rfl) rfl dX7_day_138 (fun H locs hw => ?_)
            refine lv_iload_n hx hb dX7_day_141 rfl (lv_at hl 0 rfl) ?_
            have e9 : f_X7_day v x = ((r1.1 + r2.1), (vec [r2.2 0, r2.2 1, r2.2 2, r2.2 3, r2.2 4, r2.2 5, r2.2 6, r2.2 7, 0, 0, r2.2 10])) := by
              unfold f_X7_day
              rw [if_neg c_4]
              rw [← hr1]; try dsimp only
              rw [if_neg c_23]
              rw [if_pos c_40]
              rw [if_pos c_64]
              rw [if_neg c_77]
              rw [← hr2]; try dsimp only
              try rfl
            have p0 := congrArg (fun z : Int32 × (Nat → Int32) => some (Value.int z.1)) e9.symm
            have p1 := congrArg (fun z : Int32 × (Nat → Int32) => [mtS h0 z.2]) e9.symm
            exact xr_iret hf hr hlocks hw (Nat.le_of_ble_eq_true rfl) (Nat.le_of_ble_eq_true rfl) ⟨p0, p1⟩ dX7_day_142
        · refine lv_iconst (v := 1) hx hb dX7_day_67 (by decide) ?_
          refine lv_goto (tgt := 72) hx hb dX7_day_68 (by decide) ?_
          refine lv_aload_n hx hb dX7_day_72 rfl (lv_at hl 2 rfl) ?_
          refine xr_get hf hK hw 0 0 rfl rfl in_X7 7 (by decide) q1149 (fun _ h => h) rfl dX7_day_73 ?_
          refine lv_iconst (v := 4) hx hb dX7_day_76 (by decide) ?_
          refine lv_icmp_lt (tgt := 84) hx hb dX7_day_77 (by decide) (fun c_77 => ?_) (fun c_77 => ?_)
          · refine lv_iconst (v := 0) hx hb dX7_day_84 (by decide) ?_
            refine lv_iadd hx hb dX7_day_85 ?_
            refine lv_as (y := 1) (by decide) ?_
            refine lv_iload_n hx hb dX7_day_86 rfl (lv_at hl 3 rfl) ?_
            refine lv_iconst (v := 3) hx hb dX7_day_87 (by decide) ?_
            refine lv_idiv hx hb dX7_day_88 (by decide) ?_
            refine lv_isub hx hb dX7_day_89 ?_
            refine lv_iadd hx hb dX7_day_90 ?_
            refine lv_istore_n (lv' := [(3, .int ((r1.2 1 / 4) + (1 - (x / 3)))), (2, .int r1.1), (0, .ref h0), (1, .int x)]) hx hb dX7_day_91 rfl hl (by decide) rfl (fun ls hl => ?_)
            refine lv_aload_n hx hb dX7_day_92 rfl (lv_at hl 2 rfl) ?_
            refine lv_dup hx hb dX7_day_93 rfl ?_
            refine xr_get hf hK hw 0 0 rfl rfl in_X7 1 (by decide) q1137 (fun _ h => h) rfl dX7_day_94 ?_
            refine lv_aload_n hx hb dX7_day_97 rfl (lv_at hl 2 rfl) ?_
            refine xr_get hf hK hw 0 0 rfl rfl in_X7 0 (by decide) q1135 (fun _ h => h) rfl dX7_day_98 ?_
            refine lv_aload_n hx hb dX7_day_101 rfl (lv_at hl 2 rfl) ?_
            refine xr_get hf hK hw 0 0 rfl rfl in_X7 1 (by decide) q1137 (fun _ h => h) rfl dX7_day_102 ?_
            refine lv_isub hx hb dX7_day_105 ?_
            refine lv_iconst (v := 0) hx hb dX7_day_106 (by decide) ?_
            refine lv_iload_n hx hb dX7_day_107 rfl (lv_at hl 0 rfl) ?_
            refine va_mmax hx hb (by rw [hf.2.2.1]; exact hl.1.symm) hf.2.2.2.1 (hts _ q1305) (hts _ q152) (hts _ q50) (hts _ q153) (Nat.le_of_ble_eq_true rfl) (Nat.le_of_ble_eq_true rfl) (Nat.le_of_ble_eq_true rfl) (Nat.le_of_ble_eq_true rfl) dX7_day_108 ?_
            refine lv_as (y := imax 0 ((r1.2 1 / 4) + (1 - (x / 3)))) rfl ?_
            refine va_mmin hx hb (by rw [hf.2.2.1]; exact hl.1.symm) hf.2.2.2.1 (hts _ q1304) (hts _ q193) (hts _ q50) (hts _ q194) (Nat.le_of_ble_eq_true rfl) (Nat.le_of_ble_eq_true rfl) (Nat.le_of_ble_eq_true rfl) (Nat.le_of_ble_eq_true rfl) dX7_day_111 ?_
            refine lv_as (y := imin (r1.2 0 - r1.2 1) (imax 0 ((r1.2 1 / 4) + (1 - (x / 3))))) rfl ?_
            refine lv_iadd hx hb dX7_day_114 ?_
            refine xr_put (LL' := [[ob h0 6 [.int (r1.2 0), .int (r1.2 1 + (imin (r1.2 0 - r1.2 1) (imax 0 ((r1.2 1 / 4) + (1 - (x / 3)))))), .int (r1.2 2), .int (r1.2 3), .int (r1.2 4), .int (r1.2 5), .int (r1.2 6), .int (r1.2 7), .int (r1.2 8), .int (r1.2 9), .int (bz (r1.2 10))]]]) hf hK hw 0 0 rfl rfl in_X7 tyX7_ok nmX7 1 (by decide) q1137 (fun _ h => h) rfl rfl rfl (Nat.le_of_ble_eq_true rfl) rfl dX7_day_115 (fun H locs hw => ?_)
            refine lv_iload_n hx hb dX7_day_118 rfl (lv_at hl 1 rfl) ?_
            refine lv_aload_n hx hb dX7_day_119 rfl (lv_at hl 2 rfl) ?_
            refine lv_aload_n hx hb dX7_day_120 rfl (lv_at hl 2 rfl) ?_
            refine xr_get hf hK hw 0 0 rfl rfl in_X7 1 (by decide) q1137 (fun _ h => h) rfl dX7_day_121 ?_
            refine lv_iconst (v := 5) hx hb dX7_day_124 (by decide) ?_
            refine lv_idiv hx hb dX7_day_125 (by decide) ?_
            refine xc_V (rest := [.int r1.1]) (As := [.int ((r1.2 1 + (imin (r1.2 0 - r1.2 1) (imax 0 ((r1.2 1 / 4) + (1 - (x / 3)))))) / 5)]) hf hK hA hAz hst (hw.pick [0] rfl rfl rfl) (k_X7_die l D dT g z0 h0 (vec [r1.2 0, (r1.2 1 + (imin (r1.2 0 - r1.2 1) (imax 0 ((r1.2 1 / 4) + (1 - (x / 3)))))), r1.2 2, r1.2 3, r1.2 4, r1.2 5, r1.2 6, r1.2 7, r1.2 8, r1.2 9, r1.2 10]) ((r1.2 1 + (imin (r1.2 0 - r1.2 1) (imax 0 ((r1.2 1 / 4) + (1 - (x / 3)))))) / 5)) (cwV 1 hts (lw_V q1300 q1301 q1302 q57 q1303) rfl rfl rfl (by decide +kernel) ⟨Nat.le_of_ble_eq_true rfl, Nat.le_of_ble_eq_true rfl⟩) (xr_rv hK hw 0 0 rfl rfl) rfl hl.1 rfl (Nat.le_of_ble_eq_true rfl) dX7_day_126 ⟨(Nat.le_of_ble_eq_true rfl), (Nat.le_of_ble_eq_true rfl)⟩ (fun _ _ _ _ _ _ h => h.elim) (fun v9 LL1 H locs hp hw => ?_)
            obtain ⟨r2, hr2⟩ : ∃ z, z = f_X7_die (vec [r1.2 0, (r1.2 1 + (imin (r1.2 0 - r1.2 1) (imax 0 ((r1.2 1 / 4) + (1 - (x / 3)))))), r1.2 2, r1.2 3, r1.2 4, r1.2 5, r1.2 6, r1.2 7, r1.2 8, r1.2 9, r1.2 10]) ((r1.2 1 + (imin (r1.2 0 - r1.2 1) (imax 0 ((r1.2 1 / 4) + (1 - (x / 3)))))) / 5) := ⟨_, rfl⟩
            rw [← hr2] at hp
            obtain ⟨rfl, rfl⟩ := hp
            have hw : Wd D A s.heap _ _ [[ob h0 6 [.int (r2.2 0), .int (r2.2 1), .int (r2.2 2), .int (r2.2 3), .int (r2.2 4), .int (r2.2 5), .int (r2.2 6), .int (r2.2 7), .int (r2.2 8), .int (r2.2 9), .int (bz (r2.2 10))]]] := hw
            refine W.eq (g2 := F0 m 129 ls [.int r2.1, .int r1.1]) rfl ?_
            refine lv_iadd hx hb dX7_day_129 ?_
            refine lv_istore_n (lv' := [(2, .int (r1.1 + r2.1)), (3, .int ((r1.2 1 / 4) + (1 - (x / 3)))), (0, .ref h0), (1, .int x)]) hx hb dX7_day_130 rfl hl (by decide) rfl (fun ls hl => ?_)
            refine lv_aload_n hx hb dX7_day_131 rfl (lv_at hl 2 rfl) ?_
            refine lv_iconst (v := 0) hx hb dX7_day_132 (by decide) ?_
            refine xr_put (LL' := [[ob h0 6 [.int (r2.2 0), .int (r2.2 1), .int (r2.2 2), .int (r2.2 3), .int (r2.2 4), .int (r2.2 5), .int (r2.2 6), .int (r2.2 7), .int 0, .int (r2.2 9), .int (bz (r2.2 10))]]]) hf hK hw 0 0 rfl rfl in_X7 tyX7_ok nmX7 8 (by decide) q1151 (fun _ h => h) rfl rfl rfl (Nat.le_of_ble_eq_true rfl) rfl dX7_day_133 (fun H locs hw => ?_)
            refine lv_aload_n hx hb dX7_day_136 rfl (lv_at hl 2 rfl) ?_
            refine lv_iconst (v := 0) hx hb dX7_day_137 (by decide) ?_
            refine xr_put (LL' := [[ob h0 6 [.int (r2.2 0), .int (r2.2 1), .int (r2.2 2), .int (r2.2 3), .int (r2.2 4), .int (r2.2 5), .int (r2.2 6), .int (r2.2 7), .int 0, .int 0, .int (bz (r2.2 10))]]]) hf hK hw 0 0 rfl rfl in_X7 tyX7_ok nmX7 9 (by decide) q1153 (fun _ h => h) rfl rfl rfl (Nat.le_of_ble_eq_true rfl) rfl dX7_day_138 (fun H locs hw => ?_)
            refine lv_iload_n hx hb dX7_day_141 rfl (lv_at hl 0 rfl) ?_
            have e9 : f_X7_day v x = ((r1.1 + r2.1), (vec [r2.2 0, r2.2 1, r2.2 2, r2.2 3, r2.2 4, r2.2 5, r2.2 6, r2.2 7, 0, 0, r2.2 10])) := by
              unfold f_X7_day
              rw [if_neg c_4]
              rw [← hr1]; try dsimp only
              rw [if_neg c_23]
              rw [if_pos c_40]
              rw [if_neg c_64]
              rw [if_pos c_77]
              rw [← hr2]; try dsimp only
              try rfl
            have p0 := congrArg (fun z : Int32 × (Nat → Int32) => some (Value.int z.1)) e9.symm
            have p1 := congrArg (fun z : Int32 × (Nat → Int32) => [mtS h0 z.2]) e9.symm
            exact xr_iret hf hr hlocks hw (Nat.le_of_ble_eq_true rfl) (Nat.le_of_ble_eq_true rfl) ⟨p0, p1⟩ dX7_day_142
          · refine lv_iconst (v := 1) hx hb dX7_day_80 (by decide) ?_
            refine lv_goto (tgt := 85) hx hb dX7_day_81 (by decide) ?_
            refine lv_iadd hx hb dX7_day_85 ?_
            refine lv_as (y := 2) (by decide) ?_
            refine lv_iload_n hx hb dX7_day_86 rfl (lv_at hl 3 rfl) ?_
            refine lv_iconst (v := 3) hx hb dX7_day_87 (by decide) ?_
            refine lv_idiv hx hb dX7_day_88 (by decide) ?_
            refine lv_isub hx hb dX7_day_89 ?_
            refine lv_iadd hx hb dX7_day_90 ?_
            refine lv_istore_n (lv' := [(3, .int ((r1.2 1 / 4) + (2 - (x / 3)))), (2, .int r1.1), (0, .ref h0), (1, .int x)]) hx hb dX7_day_91 rfl hl (by decide) rfl (fun ls hl => ?_)
            refine lv_aload_n hx hb dX7_day_92 rfl (lv_at hl 2 rfl) ?_
            refine lv_dup hx hb dX7_day_93 rfl ?_
            refine xr_get hf hK hw 0 0 rfl rfl in_X7 1 (by decide) q1137 (fun _ h => h) rfl dX7_day_94 ?_
            refine lv_aload_n hx hb dX7_day_97 rfl (lv_at hl 2 rfl) ?_
            refine xr_get hf hK hw 0 0 rfl rfl in_X7 0 (by decide) q1135 (fun _ h => h) rfl dX7_day_98 ?_
            refine lv_aload_n hx hb dX7_day_101 rfl (lv_at hl 2 rfl) ?_
            refine xr_get hf hK hw 0 0 rfl rfl in_X7 1 (by decide) q1137 (fun _ h => h) rfl dX7_day_102 ?_
            refine lv_isub hx hb dX7_day_105 ?_
            refine lv_iconst (v := 0) hx hb dX7_day_106 (by decide) ?_
            refine lv_iload_n hx hb dX7_day_107 rfl (lv_at hl 0 rfl) ?_
            refine va_mmax hx hb (by rw [hf.2.2.1]; exact hl.1.symm) hf.2.2.2.1 (hts _ q1305) (hts _ q152) (hts _ q50) (hts _ q153) (Nat.le_of_ble_eq_true rfl) (Nat.le_of_ble_eq_true rfl) (Nat.le_of_ble_eq_true rfl) (Nat.le_of_ble_eq_true rfl) dX7_day_108 ?_
            refine lv_as (y := imax 0 ((r1.2 1 / 4) + (2 - (x / 3)))) rfl ?_
            refine va_mmin hx hb (by rw [hf.2.2.1]; exact hl.1.symm) hf.2.2.2.1 (hts _ q1304) (hts _ q193) (hts _ q50) (hts _ q194) (Nat.le_of_ble_eq_true rfl) (Nat.le_of_ble_eq_true rfl) (Nat.le_of_ble_eq_true rfl) (Nat.le_of_ble_eq_true rfl) dX7_day_111 ?_
            refine lv_as (y := imin (r1.2 0 - r1.2 1) (imax 0 ((r1.2 1 / 4) + (2 - (x / 3))))) rfl ?_
            refine lv_iadd hx hb dX7_day_114 ?_
            refine xr_put (LL' := [[ob h0 6 [.int (r1.2 0), .int (r1.2 1 + (imin (r1.2 0 - r1.2 1) (imax 0 ((r1.2 1 / 4) + (2 - (x / 3)))))), .int (r1.2 2), .int (r1.2 3), .int (r1.2 4), .int (r1.2 5), .int (r1.2 6), .int (r1.2 7), .int (r1.2 8), .int (r1.2 9), .int (bz (r1.2 10))]]]) hf hK hw 0 0 rfl rfl in_X7 tyX7_ok nmX7 1 (by decide) q1137 (fun _ h => h) rfl rfl rfl (Nat.le_of_ble_eq_true rfl) rfl dX7_day_115 (fun H locs hw => ?_)
            refine lv_iload_n hx hb dX7_day_118 rfl (lv_at hl 1 rfl) ?_
            refine lv_aload_n hx hb dX7_day_119 rfl (lv_at hl 2 rfl) ?_
            refine lv_aload_n hx hb dX7_day_120 rfl (lv_at hl 2 rfl) ?_
            refine xr_get hf hK hw 0 0 rfl rfl in_X7 1 (by decide) q1137 (fun _ h => h) rfl dX7_day_121 ?_
            refine lv_iconst (v := 5) hx hb dX7_day_124 (by decide) ?_
            refine lv_idiv hx hb dX7_day_125 (by decide) ?_
            refine xc_V (rest := [.int r1.1]) (As := [.int ((r1.2 1 + (imin (r1.2 0 - r1.2 1) (imax 0 ((r1.2 1 / 4) + (2 - (x / 3)))))) / 5)]) hf hK hA hAz hst (hw.pick [0] rfl rfl rfl) (k_X7_die l D dT g z0 h0 (vec [r1.2 0, (r1.2 1 + (imin (r1.2 0 - r1.2 1) (imax 0 ((r1.2 1 / 4) + (2 - (x / 3)))))), r1.2 2, r1.2 3, r1.2 4, r1.2 5, r1.2 6, r1.2 7, r1.2 8, r1.2 9, r1.2 10]) ((r1.2 1 + (imin (r1.2 0 - r1.2 1) (imax 0 ((r1.2 1 / 4) + (2 - (x / 3)))))) / 5)) (cwV 1 hts (lw_V q1300 q1301 q1302 q57 q1303) rfl rfl rfl (by decide +kernel) ⟨Nat.le_of_ble_eq_true rfl, Nat.le_of_ble_eq_true rfl⟩) (xr_rv hK hw 0 0 rfl rfl) rfl hl.1 rfl (Nat.le_of_ble_eq_true rfl) dX7_day_126 ⟨(Nat.le_of_ble_eq_true rfl), (Nat.le_of_ble_eq_true rfl)⟩ (fun _ _ _ _ _ _ h => h.elim) (fun v9 LL1 H locs hp hw => ?_)
            obtain ⟨r2, hr2⟩ : ∃ z, z = f_X7_die (vec [r1.2 0, (r1.2 1 + (imin (r1.2 0 - r1.2 1) (imax 0 ((r1.2 1 / 4) + (2 - (x / 3)))))), r1.2 2, r1.2 3, r1.2 4, r1.2 5, r1.2 6, r1.2 7, r1.2 8, r1.2 9, r1.2 10]) ((r1.2 1 + (imin (r1.2 0 - r1.2 1) (imax 0 ((r1.2 1 / 4) + (2 - (x / 3)))))) / 5) := ⟨_, rfl⟩
            rw [← hr2] at hp
            obtain ⟨rfl, rfl⟩ := hp
            have hw : Wd D A s.heap _ _ [[ob h0 6 [.int (r2.2 0), .int (r2.2 1), .int (r2.2 2), .int (r2.2 3), .int (r2.2 4), .int (r2.2 5), .int (r2.2 6), .int (r2.2 7), .int (r2.2 8), .int (r2.2 9), .int (bz (r2.2 10))]]] := hw
            refine W.eq (g2 := F0 m 129 ls [.int r2.1, .int r1.1]) rfl ?_
            refine lv_iadd hx hb dX7_day_129 ?_
            refine lv_istore_n (lv' := [(2, .int (r1.1 + r2.1)), (3, .int ((r1.2 1 / 4) + (2 - (x / 3)))), (0, .ref h0), (1, .int x)]) hx hb dX7_day_130 rfl hl (by decide) rfl (fun ls hl => ?_)
            refine lv_aload_n hx hb dX7_day_131 rfl (lv_at hl 2 rfl) ?_
            refine lv_iconst (v := 0) hx hb dX7_day_132 (by decide) ?_
            refine xr_put (LL' := [[ob h0 6 [.int (r2.2 0), .int (r2.2 1), .int (r2.2 2), .int (r2.2 3), .int (r2.2 4), .int (r2.2 5), .int (r2.2 6), .int (r2.2 7), .int 0, .int (r2.2 9), .int (bz (r2.2 10))]]]) hf hK hw 0 0 rfl rfl in_X7 tyX7_ok nmX7 8 (by decide) q1151 (fun _ h => h) rfl rfl rfl (Nat.le_of_ble_eq_true rfl) rfl dX7_day_133 (fun H locs hw => ?_)
            refine lv_aload_n hx hb dX7_day_136 rfl (lv_at hl 2 rfl) ?_
            refine lv_iconst (v := 0) hx hb dX7_day_137 (by decide) ?_
            refine xr_put (LL' := [[ob h0 6 [.int (r2.2 0), .int (r2.2 1), .int (r2.2 2), .int (r2.2 3), .int (r2.2 4), .int (r2.2 5), .int (r2.2 6), .int (r2.2 7), .int 0, .int 0, .int (bz (r2.2 10))]]]) hf hK hw 0 0 rfl rfl in_X7 tyX7_ok nmX7 9 (by decide) q1153 (fun _ h => h) rfl rfl rfl (Nat.le_of_ble_eq_true rfl) rfl dX7_day_138 (fun H locs hw => ?_)
            refine lv_iload_n hx hb dX7_day_141 rfl (lv_at hl 0 rfl) ?_
            have e9 : f_X7_day v x = ((r1.1 + r2.1), (vec [r2.2 0, r2.2 1, r2.2 2, r2.2 3, r2.2 4, r2.2 5, r2.2 6, r2.2 7, 0, 0, r2.2 10])) := by
              unfold f_X7_day
              rw [if_neg c_4]
              rw [← hr1]; try dsimp only
              rw [if_neg c_23]
              rw [if_pos c_40]
              rw [if_neg c_64]
              rw [if_neg c_77]
              rw [← hr2]; try dsimp only
              try rfl
            have p0 := congrArg (fun z : Int32 × (Nat → Int32) => some (Value.int z.1)) e9.symm
            have p1 := congrArg (fun z : Int32 × (Nat → Int32) => [mtS h0 z.2]) e9.symm
            exact xr_iret hf hr hlocks hw (Nat.le_of_ble_eq_true rfl) (Nat.le_of_ble_eq_true rfl) ⟨p0, p1⟩ dX7_day_142
      · refine lv_aload_n hx hb dX7_day_43 rfl (lv_at hl 1 rfl) ?_
        refine xr_get hf hK hw 0 0 rfl rfl in_X7 1 (by decide) q1137 (fun _ h => h) rfl dX7_day_44 ?_
        refine lv_iconst (v := 2) hx hb dX7_day_47 (by decide) ?_
        refine lv_idiv hx hb dX7_day_48 (by decide) ?_
        refine lv_goto (tgt := 58) hx hb dX7_day_49 (by decide) ?_
        refine lv_istore_n (lv' := [(3, .int (r1.2 1 / 2)), (2, .int r1.1), (0, .ref h0), (1, .int x)]) hx hb dX7_day_58 rfl hl (by decide) rfl (fun ls hl => ?_)
        refine lv_iload_n hx hb dX7_day_59 rfl (lv_at hl 0 rfl) ?_
        refine lv_aload_n hx hb dX7_day_60 rfl (lv_at hl 2 rfl) ?_
        refine xr_get hf hK hw 0 0 rfl rfl in_X7 9 (by decide) q1153 (fun _ h => h) rfl dX7_day_61 ?_
        refine lv_if_le (tgt := 71) hx hb dX7_day_64 (by decide) (fun c_64 => ?_) (fun c_64 => ?_)
        · refine lv_iconst (v := 0) hx hb dX7_day_71 (by decide) ?_
          refine lv_aload_n hx hb dX7_day_72 rfl (lv_at hl 2 rfl) ?_
          refine xr_get hf hK hw 0 0 rfl rfl in_X7 7 (by decide) q1149 (fun _ h => h) rfl dX7_day_73 ?_
          refine lv_iconst (v := 4) hx hb dX7_day_76 (by decide) ?_
          refine lv_icmp_lt (tgt := 84) hx hb dX7_day_77 (by decide) (fun c_77 => ?_) (fun c_77 => ?_)
          · refine lv_iconst (v := 0) hx hb dX7_day_84 (by decide) ?_
            refine lv_iadd hx hb dX7_day_85 ?_
            refine lv_as (y := 0) (by decide) ?_
            refine lv_iload_n hx hb dX7_day_86 rfl (lv_at hl 3 rfl) ?_
            refine lv_iconst (v := 3) hx hb dX7_day_87 (by decide) ?_
            refine lv_idiv hx hb dX7_day_88 (by decide) ?_
            refine lv_isub hx hb dX7_day_89 ?_
            refine lv_iadd hx hb dX7_day_90 ?_
            refine lv_istore_n (lv' := [(3, .int ((r1.2 1 / 2) + (0 - (x / 3)))), (2, .int r1.1), (0, .ref h0), (1, .int x)]) hx hb dX7_day_91 rfl hl (by decide) rfl (fun ls hl => ?_)
            refine lv_aload_n hx hb dX7_day_92 rfl (lv_at hl 2 rfl) ?_
            refine lv_dup hx hb dX7_day_93 rfl ?_
            refine xr_get hf hK hw 0 0 rfl rfl in_X7 1 (by decide) q1137 (fun _ h => h) rfl dX7_day_94 ?_
            refine lv_aload_n hx hb dX7_day_97 rfl (lv_at hl 2 rfl) ?_
            refine xr_get hf hK hw 0 0 rfl rfl in_X7 0 (by decide) q1135 (fun _ h => h) rfl dX7_day_98 ?_
            refine lv_aload_n hx hb dX7_day_101 rfl (lv_at hl 2 rfl) ?_
            refine xr_get hf hK hw 0 0 rfl rfl in_X7 1 (by decide) q1137 (fun _ h => h) rfl dX7_day_102 ?_
            refine lv_isub hx hb dX7_day_105 ?_
            refine lv_iconst (v := 0) hx hb dX7_day_106 (by decide) ?_
            refine lv_iload_n hx hb dX7_day_107 rfl (lv_at hl 0 rfl) ?_
            refine va_mmax hx hb (by rw [hf.2.2.1]; exact hl.1.symm) hf.2.2.2.1 (hts _ q1305) (hts _ q152) (hts _ q50) (hts _ q153) (Nat.le_of_ble_eq_true rfl) (Nat.le_of_ble_eq_true rfl) (Nat.le_of_ble_eq_true rfl) (Nat.le_of_ble_eq_true rfl) dX7_day_108 ?_
            refine lv_as (y := imax 0 ((r1.2 1 / 2) + (0 - (x / 3)))) rfl ?_
            refine va_mmin hx hb (by rw [hf.2.2.1]; exact hl.1.symm) hf.2.2.2.1 (hts _ q1304) (hts _ q193) (hts _ q50) (hts _ q194) (Nat.le_of_ble_eq_true rfl) (Nat.le_of_ble_eq_true rfl) (Nat.le_of_ble_eq_true rfl) (Nat.le_of_ble_eq_true rfl) dX7_day_111 ?_
            refine lv_as (y := imin (r1.2 0 - r1.2 1) (imax 0 ((r1.2 1 / 2) + (0 - (x / 3))))) rfl ?_
            refine lv_iadd hx hb dX7_day_114 ?_
            refine xr_put (LL' := [[ob h0 6 [.int (r1.2 0), .int (r1.2 1 + (imin (r1.2 0 - r1.2 1) (imax 0 ((r1.2 1 / 2) + (0 - (x / 3)))))), .int (r1.2 2), .int (r1.2 3), .int (r1.2 4), .int (r1.2 5), .int (r1.2 6), .int (r1.2 7), .int (r1.2 8), .int (r1.2 9), .int (bz (r1.2 10))]]]) hf hK hw 0 0 rfl rfl in_X7 tyX7_ok nmX7 1 (by decide) q1137 (fun _ h => h) rfl rfl rfl (Nat.le_of_ble_eq_true rfl) rfl dX7_day_115 (fun H locs hw => ?_)
            refine lv_iload_n hx hb dX7_day_118 rfl (lv_at hl 1 rfl) ?_
            refine lv_aload_n hx hb dX7_day_119 rfl (lv_at hl 2 rfl) ?_
            refine lv_aload_n hx hb dX7_day_120 rfl (lv_at hl 2 rfl) ?_
            refine xr_get hf hK hw 0 0 rfl rfl in_X7 1 (by decide) q1137 (fun _ h => h) rfl dX7_day_121 ?_
            refine lv_iconst (v := 5) hx hb dX7_day_124 (by decide) ?_
            refine lv_idiv hx hb dX7_day_125 (by decide) ?_
            refine xc_V (rest := [.int r1.1]) (As := [.int ((r1.2 1 + (imin (r1.2 0 - r1.2 1) (imax 0 ((r1.2 1 / 2) + (0 - (x / 3)))))) / 5)]) hf hK hA hAz hst (hw.pick [0] rfl rfl rfl) (k_X7_die l D dT g z0 h0 (vec [r1.2 0, (r1.2 1 + (imin (r1.2 0 - r1.2 1) (imax 0 ((r1.2 1 / 2) + (0 - (x / 3)))))), r1.2 2, r1.2 3, r1.2 4, r1.2 5, r1.2 6, r1.2 7, r1.2 8, r1.2 9, r1.2 10]) ((r1.2 1 + (imin (r1.2 0 - r1.2 1) (imax 0 ((r1.2 1 / 2) + (0 - (x / 3)))))) / 5)) (cwV 1 hts (lw_V q1300 q1301 q1302 q57 q1303) rfl rfl rfl (by decide +kernel) ⟨Nat.le_of_ble_eq_true rfl, Nat.le_of_ble_eq_true rfl⟩) (xr_rv hK hw 0 0 rfl rfl) rfl hl.1 rfl (Nat.le_of_ble_eq_true rfl) dX7_day_126 ⟨(Nat.le_of_ble_eq_true rfl), (Nat.le_of_ble_eq_true rfl)⟩ (fun _ _ _ _ _ _ h => h.elim) (fun v9 LL1 H locs hp hw => ?_)
            obtain ⟨r2, hr2⟩ : ∃ z, z = f_X7_die (vec [r1.2 0, (r1.2 1 + (imin (r1.2 0 - r1.2 1) (imax 0 ((r1.2 1 / 2) + (0 - (x / 3)))))), r1.2 2, r1.2 3, r1.2 4, r1.2 5, r1.2 6, r1.2 7, r1.2 8, r1.2 9, r1.2 10]) ((r1.2 1 + (imin (r1.2 0 - r1.2 1) (imax 0 ((r1.2 1 / 2) + (0 - (x / 3)))))) / 5) := ⟨_, rfl⟩
            rw [← hr2] at hp
            obtain ⟨rfl, rfl⟩ := hp
            have hw : Wd D A s.heap _ _ [[ob h0 6 [.int (r2.2 0), .int (r2.2 1), .int (r2.2 2), .int (r2.2 3), .int (r2.2 4), .int (r2.2 5), .int (r2.2 6), .int (r2.2 7), .int (r2.2 8), .int (r2.2 9), .int (bz (r2.2 10))]]] := hw
            refine W.eq (g2 := F0 m 129 ls [.int r2.1, .int r1.1]) rfl ?_
            refine lv_iadd hx hb dX7_day_129 ?_
            refine lv_istore_n (lv' := [(2, .int (r1.1 + r2.1)), (3, .int ((r1.2 1 / 2) + (0 - (x / 3)))), (0, .ref h0), (1, .int x)]) hx hb dX7_day_130 rfl hl (by decide) rfl (fun ls hl => ?_)
            refine lv_aload_n hx hb dX7_day_131 rfl (lv_at hl 2 rfl) ?_
            refine lv_iconst (v := 0) hx hb dX7_day_132 (by decide) ?_
            refine xr_put (LL' := [[ob h0 6 [.int (r2.2 0), .int (r2.2 1), .int (r2.2 2), .int (r2.2 3), .int (r2.2 4), .int (r2.2 5), .int (r2.2 6), .int (r2.2 7), .int 0, .int (r2.2 9), .int (bz (r2.2 10))]]]) hf hK hw 0 0 rfl rfl in_X7 tyX7_ok nmX7 8 (by decide) q1151 (fun _ h => h) rfl rfl rfl (Nat.le_of_ble_eq_true rfl) rfl dX7_day_133 (fun H locs hw => ?_)
            refine lv_aload_n hx hb dX7_day_136 rfl (lv_at hl 2 rfl) ?_
            refine lv_iconst (v := 0) hx hb dX7_day_137 (by decide) ?_
            refine xr_put (LL' := [[ob h0 6 [.int (r2.2 0), .int (r2.2 1), .int (r2.2 2), .int (r2.2 3), .int (r2.2 4), .int (r2.2 5), .int (r2.2 6), .int (r2.2 7), .int 0, .int 0, .int (bz (r2.2 10))]]]) hf hK hw 0 0 rfl rfl in_X7 tyX7_ok nmX7 9 (by decide) q1153 (fun _ h => h) rfl rfl rfl (Nat.le_of_ble_eq_true rfl) rfl dX7_day_138 (fun H locs hw => ?_)
            refine lv_iload_n hx hb dX7_day_141 rfl (lv_at hl 0 rfl) ?_
            have e9 : f_X7_day v x = ((r1.1 + r2.1), (vec [r2.2 0, r2.2 1, r2.2 2, r2.2 3, r2.2 4, r2.2 5, r2.2 6, r2.2 7, 0, 0, r2.2 10])) := by
              unfold f_X7_day
              rw [if_neg c_4]
              rw [← hr1]; try dsimp only
              rw [if_neg c_23]
              rw [if_neg c_40]
              rw [if_pos c_64]
              rw [if_pos c_77]
              rw [← hr2]; try dsimp only
              try rfl
            have p0 := congrArg (fun z : Int32 × (Nat → Int32) => some (Value.int z.1)) e9.symm
            have p1 := congrArg (fun z : Int32 × (Nat → Int32) => [mtS h0 z.2]) e9.symm
            exact xr_iret hf hr hlocks hw (Nat.le_of_ble_eq_true rfl) (Nat.le_of_ble_eq_true rfl) ⟨p0, p1⟩ dX7_day_142
          · refine lv_iconst (v := 1) hx hb dX7_day_80 (by decide) ?_
            refine lv_goto (tgt := 85) hx hb dX7_day_81 (by decide) ?_
            refine lv_iadd hx hb dX7_day_85 ?_
            refine lv_as (y := 1) (by decide) ?_
            refine lv_iload_n hx hb dX7_day_86 rfl (lv_at hl 3 rfl) ?_
            refine lv_iconst (v := 3) hx hb dX7_day_87 (by decide) ?_
            refine lv_idiv hx hb dX7_day_88 (by decide) ?_
            refine lv_isub hx hb dX7_day_89 ?_
            refine lv_iadd hx hb dX7_day_90 ?_
            refine lv_istore_n (lv' := [(3, .int ((r1.2 1 / 2) + (1 - (x / 3)))), (2, .int r1.1), (0, .ref h0), (1, .int x)]) hx hb dX7_day_91 rfl hl (by decide) rfl (fun ls hl => ?_)
            refine lv_aload_n hx hb dX7_day_92 rfl (lv_at hl 2 rfl) ?_
            refine lv_dup hx hb dX7_day_93 rfl ?_
            refine xr_get hf hK hw 0 0 rfl rfl in_X7 1 (by decide) q1137 (fun _ h => h) rfl dX7_day_94 ?_
            refine lv_aload_n hx hb dX7_day_97 rfl (lv_at hl 2 rfl) ?_
            refine xr_get hf hK hw 0 0 rfl rfl in_X7 0 (by decide) q1135 (fun _ h => h) rfl dX7_day_98 ?_
            refine lv_aload_n hx hb dX7_day_101 rfl (lv_at hl 2 rfl) ?_
            refine xr_get hf hK hw 0 0 rfl rfl in_X7 1 (by decide) q1137 (fun _ h => h) rfl dX7_day_102 ?_
            refine lv_isub hx hb dX7_day_105 ?_
            refine lv_iconst (v := 0) hx hb dX7_day_106 (by decide) ?_
            refine lv_iload_n hx hb dX7_day_107 rfl (lv_at hl 0 rfl) ?_
            refine va_mmax hx hb (by rw [hf.2.2.1]; exact hl.1.symm) hf.2.2.2.1 (hts _ q1305) (hts _ q152) (hts _ q50) (hts _ q153) (Nat.le_of_ble_eq_true rfl) (Nat.le_of_ble_eq_true rfl) (Nat.le_of_ble_eq_true rfl) (Nat.le_of_ble_eq_true rfl) dX7_day_108 ?_
            refine lv_as (y := imax 0 ((r1.2 1 / 2) + (1 - (x / 3)))) rfl ?_
            refine va_mmin hx hb (by rw [hf.2.2.1]; exact hl.1.symm) hf.2.2.2.1 (hts _ q1304) (hts _ q193) (hts _ q50) (hts _ q194) (Nat.le_of_ble_eq_true rfl) (Nat.le_of_ble_eq_true rfl) (Nat.le_of_ble_eq_true rfl) (Nat.le_of_ble_eq_true rfl) dX7_day_111 ?_
            refine lv_as (y := imin (r1.2 0 - r1.2 1) (imax 0 ((r1.2 1 / 2) + (1 - (x / 3))))) rfl ?_
            refine lv_iadd hx hb dX7_day_114 ?_
            refine xr_put (LL' := [[ob h0 6 [.int (r1.2 0), .int (r1.2 1 + (imin (r1.2 0 - r1.2 1) (imax 0 ((r1.2 1 / 2) + (1 - (x / 3)))))), .int (r1.2 2), .int (r1.2 3), .int (r1.2 4), .int (r1.2 5), .int (r1.2 6), .int (r1.2 7), .int (r1.2 8), .int (r1.2 9), .int (bz (r1.2 10))]]]) hf hK hw 0 0 rfl rfl in_X7 tyX7_ok nmX7 1 (by decide) q1137 (fun _ h => h) rfl rfl rfl (Nat.le_of_ble_eq_true rfl) rfl dX7_day_115 (fun H locs hw => ?_)
            refine lv_iload_n hx hb dX7_day_118 rfl (lv_at hl 1 rfl) ?_
            refine lv_aload_n hx hb dX7_day_119 rfl (lv_at hl 2 rfl) ?_
            refine lv_aload_n hx hb dX7_day_120 rfl (lv_at hl 2 rfl) ?_
            refine xr_get hf hK hw 0 0 rfl rfl in_X7 1 (by decide) q1137 (fun _ h => h) rfl dX7_day_121 ?_
            refine lv_iconst (v := 5) hx hb dX7_day_124 (by decide) ?_
            refine lv_idiv hx hb dX7_day_125 (by decide) ?_
            refine xc_V (rest := [.int r1.1]) (As := [.int ((r1.2 1 + (imin (r1.2 0 - r1.2 1) (imax 0 ((r1.2 1 / 2) + (1 - (x / 3)))))) / 5)]) hf hK hA hAz hst (hw.pick [0] rfl rfl rfl) (k_X7_die l D dT g z0 h0 (vec [r1.2 0, (r1.2 1 + (imin (r1.2 0 - r1.2 1) (imax 0 ((r1.2 1 / 2) + (1 - (x / 3)))))), r1.2 2, r1.2 3, r1.2 4, r1.2 5, r1.2 6, r1.2 7, r1.2 8, r1.2 9, r1.2 10]) ((r1.2 1 + (imin (r1.2 0 - r1.2 1) (imax 0 ((r1.2 1 / 2) + (1 - (x / 3)))))) / 5)) (cwV 1 hts (lw_V q1300 q1301 q1302 q57 q1303) rfl rfl rfl (by decide +kernel) ⟨Nat.le_of_ble_eq_true rfl, Nat.le_of_ble_eq_true rfl⟩) (xr_rv hK hw 0 0 rfl rfl) rfl hl.1 rfl (Nat.le_of_ble_eq_true rfl) dX7_day_126 ⟨(Nat.le_of_ble_eq_true rfl), (Nat.le_of_ble_eq_true rfl)⟩ (fun _ _ _ _ _ _ h => h.elim) (fun v9 LL1 H locs hp hw => ?_)
            obtain ⟨r2, hr2⟩ : ∃ z, z = f_X7_die (vec [r1.2 0, (r1.2 1 + (imin (r1.2 0 - r1.2 1) (imax 0 ((r1.2 1 / 2) + (1 - (x / 3)))))), r1.2 2, r1.2 3, r1.2 4, r1.2 5, r1.2 6, r1.2 7, r1.2 8, r1.2 9, r1.2 10]) ((r1.2 1 + (imin (r1.2 0 - r1.2 1) (imax 0 ((r1.2 1 / 2) + (1 - (x / 3)))))) / 5) := ⟨_, rfl⟩
            rw [← hr2] at hp
            obtain ⟨rfl, rfl⟩ := hp
            have hw : Wd D A s.heap _ _ [[ob h0 6 [.int (r2.2 0), .int (r2.2 1), .int (r2.2 2), .int (r2.2 3), .int (r2.2 4), .int (r2.2 5), .int (r2.2 6), .int (r2.2 7), .int (r2.2 8), .int (r2.2 9), .int (bz (r2.2 10))]]] := hw
            refine W.eq (g2 := F0 m 129 ls [.int r2.1, .int r1.1]) rfl ?_
            refine lv_iadd hx hb dX7_day_129 ?_
            refine lv_istore_n (lv' := [(2, .int (r1.1 + r2.1)), (3, .int ((r1.2 1 / 2) + (1 - (x / 3)))), (0, .ref h0), (1, .int x)]) hx hb dX7_day_130 rfl hl (by decide) rfl (fun ls hl => ?_)
            refine lv_aload_n hx hb dX7_day_131 rfl (lv_at hl 2 rfl) ?_
            refine lv_iconst (v := 0) hx hb dX7_day_132 (by decide) ?_
            refine xr_put (LL' := [[ob h0 6 [.int (r2.2 0), .int (r2.2 1), .int (r2.2 2), .int (r2.2 3), .int (r2.2 4), .int (r2.2 5), .int (r2.2 6), .int (r2.2 7), .int 0, .int (r2.2 9), .int (bz (r2.2 10))]]]) hf hK hw 0 0 rfl rfl in_X7 tyX7_ok nmX7 8 (by decide) q1151 (fun _ h => h) rfl rfl rfl (Nat.le_of_ble_eq_true rfl) rfl dX7_day_133 (fun H locs hw => ?_)
            refine lv_aload_n hx hb dX7_day_136 rfl (lv_at hl 2 rfl) ?_
            refine lv_iconst (v := 0) hx hb dX7_day_137 (by decide) ?_
            refine xr_put (LL' := [[ob h0 6 [.int (r2.2 0), .int (r2.2 1), .int (r2.2 2), .int (r2.2 3), .int (r2.2 4), .int (r2.2 5), .int (r2.2 6), .int (r2.2 7), .int 0, .int 0, .int (bz (r2.2 10))]]]) hf hK hw 0 0 rfl rfl in_X7 tyX7_ok nmX7 9 (by decide) q1153 (fun _ h => h) rfl rfl rfl (Nat.le_of_ble_eq_true rfl) rfl dX7_day_138 (fun H locs hw => ?_)
            refine lv_iload_n hx hb dX7_day_141 rfl (lv_at hl 0 rfl) ?_
            have e9 : f_X7_day v x = ((r1.1 + r2.1), (vec [r2.2 0, r2.2 1, r2.2 2, r2.2 3, r2.2 4, r2.2 5, r2.2 6, r2.2 7, 0, 0, r2.2 10])) := by
              unfold f_X7_day
              rw [if_neg c_4]
              rw [← hr1]; try dsimp only
              rw [if_neg c_23]
              rw [if_neg c_40]
              rw [if_pos c_64]
              rw [if_neg c_77]
              rw [← hr2]; try dsimp only
              try rfl
            have p0 := congrArg (fun z : Int32 × (Nat → Int32) => some (Value.int z.1)) e9.symm
            have p1 := congrArg (fun z : Int32 × (Nat → Int32) => [mtS h0 z.2]) e9.symm
            exact xr_iret hf hr hlocks hw (Nat.le_of_ble_eq_true rfl) (Nat.le_of_ble_eq_true rfl) ⟨p0, p1⟩ dX7_day_142
        · refine lv_iconst (v := 1) hx hb dX7_day_67 (by decide) ?_
          refine lv_goto (tgt := 72) hx hb dX7_day_68 (by decide) ?_
          refine lv_aload_n hx hb dX7_day_72 rfl (lv_at hl 2 rfl) ?_
          refine xr_get hf hK hw 0 0 rfl rfl in_X7 7 (by decide) q1149 (fun _ h => h) rfl dX7_day_73 ?_
          refine lv_iconst (v := 4) hx hb dX7_day_76 (by decide) ?_
          refine lv_icmp_lt (tgt := 84) hx hb dX7_day_77 (by decide) (fun c_77 => ?_) (fun c_77 => ?_)
          · refine lv_iconst (v := 0) hx hb dX7_day_84 (by decide) ?_
            refine lv_iadd hx hb dX7_day_85 ?_
            refine lv_as (y := 1) (by decide) ?_
            refine lv_iload_n hx hb dX7_day_86 rfl (lv_at hl 3 rfl) ?_
            refine lv_iconst (v := 3) hx hb dX7_day_87 (by decide) ?_
            refine lv_idiv hx hb dX7_day_88 (by decide) ?_
            refine lv_isub hx hb dX7_day_89 ?_
            refine lv_iadd hx hb dX7_day_90 ?_
            refine lv_istore_n (lv' := [(3, .int ((r1.2 1 / 2) + (1 - (x / 3)))), (2, .int r1.1), (0, .ref h0), (1, .int x)]) hx hb dX7_day_91 rfl hl (by decide) rfl (fun ls hl => ?_)
            refine lv_aload_n hx hb dX7_day_92 rfl (lv_at hl 2 rfl) ?_
            refine lv_dup hx hb dX7_day_93 rfl ?_
            refine xr_get hf hK hw 0 0 rfl rfl in_X7 1 (by decide) q1137 (fun _ h => h) rfl dX7_day_94 ?_
            refine lv_aload_n hx hb dX7_day_97 rfl (lv_at hl 2 rfl) ?_
            refine xr_get hf hK hw 0 0 rfl rfl in_X7 0 (by decide) q1135 (fun _ h => h) rfl dX7_day_98 ?_
            refine lv_aload_n hx hb dX7_day_101 rfl (lv_at hl 2 rfl) ?_
            refine xr_get hf hK hw 0 0 rfl rfl in_X7 1 (by decide) q1137 (fun _ h => h) rfl dX7_day_102 ?_
            refine lv_isub hx hb dX7_day_105 ?_
            refine lv_iconst (v := 0) hx hb dX7_day_106 (by decide) ?_
            refine lv_iload_n hx hb dX7_day_107 rfl (lv_at hl 0 rfl) ?_
            refine va_mmax hx hb (by rw [hf.2.2.1]; exact hl.1.symm) hf.2.2.2.1 (hts _ q1305) (hts _ q152) (hts _ q50) (hts _ q153) (Nat.le_of_ble_eq_true rfl) (Nat.le_of_ble_eq_true rfl) (Nat.le_of_ble_eq_true rfl) (Nat.le_of_ble_eq_true rfl) dX7_day_108 ?_
            refine lv_as (y := imax 0 ((r1.2 1 / 2) + (1 - (x / 3)))) rfl ?_
            refine va_mmin hx hb (by rw [hf.2.2.1]; exact hl.1.symm) hf.2.2.2.1 (hts _ q1304) (hts _ q193) (hts _ q50) (hts _ q194) (Nat.le_of_ble_eq_true rfl) (Nat.le_of_ble_eq_true rfl) (Nat.le_of_ble_eq_true rfl) (Nat.le_of_ble_eq_true rfl) dX7_day_111 ?_
            refine lv_as (y := imin (r1.2 0 - r1.2 1) (imax 0 ((r1.2 1 / 2) + (1 - (x / 3))))) rfl ?_
            refine lv_iadd hx hb dX7_day_114 ?_
            refine xr_put (LL' := [[ob h0 6 [.int (r1.2 0), .int (r1.2 1 + (imin (r1.2 0 - r1.2 1) (imax 0 ((r1.2 1 / 2) + (1 - (x / 3)))))), .int (r1.2 2), .int (r1.2 3), .int (r1.2 4), .int (r1.2 5), .int (r1.2 6), .int (r1.2 7), .int (r1.2 8), .int (r1.2 9), .int (bz (r1.2 10))]]]) hf hK hw 0 0 rfl rfl in_X7 tyX7_ok nmX7 1 (by decide) q1137 (fun _ h => h) rfl rfl rfl (Nat.le_of_ble_eq_true rfl) rfl dX7_day_115 (fun H locs hw => ?_)
            refine lv_iload_n hx hb dX7_day_118 rfl (lv_at hl 1 rfl) ?_
            refine lv_aload_n hx hb dX7_day_119 rfl (lv_at hl 2 rfl) ?_
            refine lv_aload_n hx hb dX7_day_120 rfl (lv_at hl 2 rfl) ?_
            refine xr_get hf hK hw 0 0 rfl rfl in_X7 1 (by decide) q1137 (fun _ h => h) rfl dX7_day_121 ?_
            refine lv_iconst (v := 5) hx hb dX7_day_124 (by decide) ?_
            refine lv_idiv hx hb dX7_day_125 (by decide) ?_
            refine xc_V (rest := [.int r1.1]) (As := [.int ((r1.2 1 + (imin (r1.2 0 - r1.2 1) (imax 0 ((r1.2 1 / 2) + (1 - (x / 3)))))) / 5)]) hf hK hA hAz hst (hw.pick [0] rfl rfl rfl) (k_X7_die l D dT g z0 h0 (vec [r1.2 0, (r1.2 1 + (imin (r1.2 0 - r1.2 1) (imax 0 ((r1.2 1 / 2) + (1 - (x / 3)))))), r1.2 2, r1.2 3, r1.2 4, r1.2 5, r1.2 6, r1.2 7, r1.2 8, r1.2 9, r1.2 10]) ((r1.2 1 + (imin (r1.2 0 - r1.2 1) (imax 0 ((r1.2 1 / 2) + (1 - (x / 3)))))) / 5)) (cwV 1 hts (lw_V q1300 q1301 q1302 q57 q1303) rfl rfl rfl (by decide +kernel) ⟨Nat.le_of_ble_eq_true rfl, Nat.le_of_ble_eq_true rfl⟩) (xr_rv hK hw 0 0 rfl rfl) rfl hl.1 rfl (Nat.le_of_ble_eq_true rfl) dX7_day_126 ⟨(Nat.le_of_ble_eq_true rfl), (Nat.le_of_ble_eq_true rfl)⟩ (fun _ _ _ _ _ _ h => h.elim) (fun v9 LL1 H locs hp hw => ?_)
            obtain ⟨r2, hr2⟩ : ∃ z, z = f_X7_die (vec [r1.2 0, (r1.2 1 + (imin (r1.2 0 - r1.2 1) (imax 0 ((r1.2 1 / 2) + (1 - (x / 3)))))), r1.2 2, r1.2 3, r1.2 4, r1.2 5, r1.2 6, r1.2 7, r1.2 8, r1.2 9, r1.2 10]) ((r1.2 1 + (imin (r1.2 0 - r1.2 1) (imax 0 ((r1.2 1 / 2) + (1 - (x / 3)))))) / 5) := ⟨_, rfl⟩
            rw [← hr2] at hp
            obtain ⟨rfl, rfl⟩ := hp
            have hw : Wd D A s.heap _ _ [[ob h0 6 [.int (r2.2 0), .int (r2.2 1), .int (r2.2 2), .int (r2.2 3), .int (r2.2 4), .int (r2.2 5), .int (r2.2 6), .int (r2.2 7), .int (r2.2 8), .int (r2.2 9), .int (bz (r2.2 10))]]] := hw
            refine W.eq (g2 := F0 m 129 ls [.int r2.1, .int r1.1]) rfl ?_
            refine lv_iadd hx hb dX7_day_129 ?_
            refine lv_istore_n (lv' := [(2, .int (r1.1 + r2.1)), (3, .int ((r1.2 1 / 2) + (1 - (x / 3)))), (0, .ref h0), (1, .int x)]) hx hb dX7_day_130 rfl hl (by decide) rfl (fun ls hl => ?_)
            refine lv_aload_n hx hb dX7_day_131 rfl (lv_at hl 2 rfl) ?_
            refine lv_iconst (v := 0) hx hb dX7_day_132 (by decide) ?_
            refine xr_put (LL' := [[ob h0 6 [.int (r2.2 0), .int (r2.2 1), .int (r2.2 2), .int (r2.2 3), .int (r2.2 4), .int (r2.2 5), .int (r2.2 6), .int (r2.2 7), .int 0, .int (r2.2 9), .int (bz (r2.2 10))]]]) hf hK hw 0 0 rfl rfl in_X7 tyX7_ok nmX7 8 (by decide) q1151 (fun _ h => h) rfl rfl rfl (Nat.le_of_ble_eq_true rfl) rfl dX7_day_133 (fun H locs hw => ?_)
            refine lv_aload_n hx hb dX7_day_136 rfl (lv_at hl 2 rfl) ?_
            refine lv_iconst (v := 0) hx hb dX7_day_137 (by decide) ?_
            refine xr_put (LL' := [[ob h0 6 [.int (r2.2 0), .int (r2.2 1), .int (r2.2 2), .int (r2.2 3), .int (r2.2 4), .int (r2.2 5), .int (r2.2 6), .int (r2.2 7), .int 0, .int 0, .int (bz (r2.2 10))]]]) hf hK hw 0 0 rfl rfl in_X7 tyX7_ok nmX7 9 (by decide) q1153 (fun _ h => h) rfl rfl rfl (Nat.le_of_ble_eq_true rfl) rfl dX7_day_138 (fun H locs hw => ?_)
            refine lv_iload_n hx hb dX7_day_141 rfl (lv_at hl 0 rfl) ?_
            have e9 : f_X7_day v x = ((r1.1 + r2.1), (vec [r2.2 0, r2.2 1, r2.2 2, r2.2 3, r2.2 4, r2.2 5, r2.2 6, r2.2 7, 0, 0, r2.2 10])) := by
              unfold f_X7_day
              rw [if_neg c_4]
              rw [← hr1]; try dsimp only
              rw [if_neg c_23]
              rw [if_neg c_40]
              rw [if_neg c_64]
              rw [if_pos c_77]
              rw [← hr2]; try dsimp only
              try rfl
            have p0 := congrArg (fun z : Int32 × (Nat → Int32) => some (Value.int z.1)) e9.symm
            have p1 := congrArg (fun z : Int32 × (Nat → Int32) => [mtS h0 z.2]) e9.symm
            exact xr_iret hf hr hlocks hw (Nat.le_of_ble_eq_true rfl) (Nat.le_of_ble_eq_true rfl) ⟨p0, p1⟩ dX7_day_142
          · refine lv_iconst (v := 1) hx hb dX7_day_80 (by decide) ?_
            refine lv_goto (tgt := 85) hx hb dX7_day_81 (by decide) ?_
            refine lv_iadd hx hb dX7_day_85 ?_
            refine lv_as (y := 2) (by decide) ?_
            refine lv_iload_n hx hb dX7_day_86 rfl (lv_at hl 3 rfl) ?_
            refine lv_iconst (v := 3) hx hb dX7_day_87 (by decide) ?_
            refine lv_idiv hx hb dX7_day_88 (by decide) ?_
            refine lv_isub hx hb dX7_day_89 ?_
            refine lv_iadd hx hb dX7_day_90 ?_
            refine lv_istore_n (lv' := [(3, .int ((r1.2 1 / 2) + (2 - (x / 3)))), (2, .int r1.1), (0, .ref h0), (1, .int x)]) hx hb dX7_day_91 rfl hl (by decide) rfl (fun ls hl => ?_)
            refine lv_aload_n hx hb dX7_day_92 rfl (lv_at hl 2 rfl) ?_
            refine lv_dup hx hb dX7_day_93 rfl ?_
            refine xr_get hf hK hw 0 0 rfl rfl in_X7 1 (by decide) q1137 (fun _ h => h) rfl dX7_day_94 ?_
            refine lv_aload_n hx hb dX7_day_97 rfl (lv_at hl 2 rfl) ?_
            refine xr_get hf hK hw 0 0 rfl rfl in_X7 0 (by decide) q1135 (fun _ h => h) rfl dX7_day_98 ?_
            refine lv_aload_n hx hb dX7_day_101 rfl (lv_at hl 2 rfl) ?_
            refine xr_get hf hK hw 0 0 rfl rfl in_X7 1 (by decide) q1137 (fun _ h => h) rfl dX7_day_102 ?_
            refine lv_isub hx hb dX7_day_105 ?_
            refine lv_iconst (v := 0) hx hb dX7_day_106 (by decide) ?_
            refine lv_iload_n hx hb dX7_day_107 rfl (lv_at hl 0 rfl) ?_
            refine va_mmax hx hb (by rw [hf.2.2.1]; exact hl.1.symm) hf.2.2.2.1 (hts _ q1305) (hts _ q152) (hts _ q50) (hts _ q153) (Nat.le_of_ble_eq_true rfl) (Nat.le_of_ble_eq_true rfl) (Nat.le_of_ble_eq_true rfl) (Nat.le_of_ble_eq_true rfl) dX7_day_108 ?_
            refine lv_as (y := imax 0 ((r1.2 1 / 2) + (2 - (x / 3)))) rfl ?_
            refine va_mmin hx hb (by rw [hf.2.2.1]; exact hl.1.symm) hf.2.2.2.1 (hts _ q1304) (hts _ q193) (hts _ q50) (hts _ q194) (Nat.le_of_ble_eq_true rfl) (Nat.le_of_ble_eq_true rfl) (Nat.le_of_ble_eq_true rfl) (Nat.le_of_ble_eq_true rfl) dX7_day_111 ?_
            refine lv_as (y := imin (r1.2 0 - r1.2 1) (imax 0 ((r1.2 1 / 2) + (2 - (x / 3))))) rfl ?_
            refine lv_iadd hx hb dX7_day_114 ?_
            refine xr_put (LL' := [[ob h0 6 [.int (r1.2 0), .int (r1.2 1 + (imin (r1.2 0 - r1.2 1) (imax 0 ((r1.2 1 / 2) + (2 - (x / 3)))))), .int (r1.2 2), .int (r1.2 3), .int (r1.2 4), .int (r1.2 5), .int (r1.2 6), .int (r1.2 7), .int (r1.2 8), .int (r1.2 9), .int (bz (r1.2 10))]]]) hf hK hw 0 0 rfl rfl in_X7 tyX7_ok nmX7 1 (by decide) q1137 (fun _ h => h) rfl rfl rfl (Nat.le_of_ble_eq_true rfl) rfl dX7_day_115 (fun H locs hw => ?_)
            refine lv_iload_n hx hb dX7_day_118 rfl (lv_at hl 1 rfl) ?_
            refine lv_aload_n hx hb dX7_day_119 rfl (lv_at hl 2 rfl) ?_
            refine lv_aload_n hx hb dX7_day_120 rfl (lv_at hl 2 rfl) ?_
            refine xr_get hf hK hw 0 0 rfl rfl in_X7 1 (by decide) q1137 (fun _ h => h) rfl dX7_day_121 ?_
            refine lv_iconst (v := 5) hx hb dX7_day_124 (by decide) ?_
            refine lv_idiv hx hb dX7_day_125 (by decide) ?_
            refine xc_V (rest := [.int r1.1]) (As := [.int ((r1.2 1 + (imin (r1.2 0 - r1.2 1) (imax 0 ((r1.2 1 / 2) + (2 - (x / 3)))))) / 5)]) hf hK hA hAz hst (hw.pick [0] rfl rfl rfl) (k_X7_die l D dT g z0 h0 (vec [r1.2 0, (r1.2 1 + (imin (r1.2 0 - r1.2 1) (imax 0 ((r1.2 1 / 2) + (2 - (x / 3)))))), r1.2 2, r1.2 3, r1.2 4, r1.2 5, r1.2 6, r1.2 7, r1.2 8, r1.2 9, r1.2 10]) ((r1.2 1 + (imin (r1.2 0 - r1.2 1) (imax 0 ((r1.2 1 / 2) + (2 - (x / 3)))))) / 5)) (cwV 1 hts (lw_V q1300 q1301 q1302 q57 q1303) rfl rfl rfl (by decide +kernel) ⟨Nat.le_of_ble_eq_true rfl, Nat.le_of_ble_eq_true rfl⟩) (xr_rv hK hw 0 0 rfl rfl) rfl hl.1 rfl (Nat.le_of_ble_eq_true rfl) dX7_day_126 ⟨(Nat.le_of_ble_eq_true rfl), (Nat.le_of_ble_eq_true rfl)⟩ (fun _ _ _ _ _ _ h => h.elim) (fun v9 LL1 H locs hp hw => ?_)
            obtain ⟨r2, hr2⟩ : ∃ z, z = f_X7_die (vec [r1.2 0, (r1.2 1 + (imin (r1.2 0 - r1.2 1) (imax 0 ((r1.2 1 / 2) + (2 - (x / 3)))))), r1.2 2, r1.2 3, r1.2 4, r1.2 5, r1.2 6, r1.2 7, r1.2 8, r1.2 9, r1.2 10]) ((r1.2 1 + (imin (r1.2 0 - r1.2 1) (imax 0 ((r1.2 1 / 2) + (2 - (x / 3)))))) / 5) := ⟨_, rfl⟩
            rw [← hr2] at hp
            obtain ⟨rfl, rfl⟩ := hp
            have hw : Wd D A s.heap _ _ [[ob h0 6 [.int (r2.2 0), .int (r2.2 1), .int (r2.2 2), .int (r2.2 3), .int (r2.2 4), .int (r2.2 5), .int (r2.2 6), .int (r2.2 7), .int (r2.2 8), .int (r2.2 9), .int (bz (r2.2 10))]]] := hw
            refine W.eq (g2 := F0 m 129 ls [.int r2.1, .int r1.1]) rfl ?_
            refine lv_iadd hx hb dX7_day_129 ?_
            refine lv_istore_n (lv' := [(2, .int (r1.1 + r2.1)), (3, .int ((r1.2 1 / 2) + (2 - (x / 3)))), (0, .ref h0), (1, .int x)]) hx hb dX7_day_130 rfl hl (by decide) rfl (fun ls hl => ?_)
            refine lv_aload_n hx hb dX7_day_131 rfl (lv_at hl 2 rfl) ?_
            refine lv_iconst (v := 0) hx hb dX7_day_132 (by decide) ?_
            refine xr_put (LL' := [[ob h0 6 [.int (r2.2 0), .int (r2.2 1), .int (r2.2 2), .int (r2.2 3), .int (r2.2 4), .int (r2.2 5), .int (r2.2 6), .int (r2.2 7), .int 0, .int (r2.2 9), .int (bz (r2.2 10))]]]) hf hK hw 0 0 rfl rfl in_X7 tyX7_ok nmX7 8 (by decide) q1151 (fun _ h => h) rfl rfl rfl (Nat.le_of_ble_eq_true rfl) rfl dX7_day_133 (fun H locs hw => ?_)
            refine lv_aload_n hx hb dX7_day_136 rfl (lv_at hl 2 rfl) ?_
            refine lv_iconst (v := 0) hx hb dX7_day_137 (by decide) ?_
            refine xr_put (LL' := [[ob h0 6 [.int (r2.2 0), .int (r2.2 1), .int (r2.2 2), .int (r2.2 3), .int (r2.2 4), .int (r2.2 5), .int (r2.2 6), .int (r2.2 7), .int 0, .int 0, .int (bz (r2.2 10))]]]) hf hK hw 0 0 rfl rfl in_X7 tyX7_ok nmX7 9 (by decide) q1153 (fun _ h => h) rfl rfl rfl (Nat.le_of_ble_eq_true rfl) rfl dX7_day_138 (fun H locs hw => ?_)
            refine lv_iload_n hx hb dX7_day_141 rfl (lv_at hl 0 rfl) ?_
            have e9 : f_X7_day v x = ((r1.1 + r2.1), (vec [r2.2 0, r2.2 1, r2.2 2, r2.2 3, r2.2 4, r2.2 5, r2.2 6, r2.2 7, 0, 0, r2.2 10])) := by
              unfold f_X7_day
              rw [if_neg c_4]
              rw [← hr1]; try dsimp only
              rw [if_neg c_23]
              rw [if_neg c_40]
              rw [if_neg c_64]
              rw [if_neg c_77]
              rw [← hr2]; try dsimp only
              try rfl
            have p0 := congrArg (fun z : Int32 × (Nat → Int32) => some (Value.int z.1)) e9.symm
            have p1 := congrArg (fun z : Int32 × (Nat → Int32) => [mtS h0 z.2]) e9.symm
            exact xr_iret hf hr hlocks hw (Nat.le_of_ble_eq_true rfl) (Nat.le_of_ble_eq_true rfl) ⟨p0, p1⟩ dX7_day_142
    · refine lv_iload_n hx hb dX7_day_26 rfl (lv_at hl 0 rfl) ?_
      have e9 : f_X7_day v x = (r1.1, r1.2) := by
        unfold f_X7_day
        rw [if_neg c_4]
        rw [← hr1]; try dsimp only
        rw [if_pos c_23]
        try rfl
      have p0 := congrArg (fun z : Int32 × (Nat → Int32) => some (Value.int z.1)) e9.symm
      have p1 := congrArg (fun z : Int32 × (Nat → Int32) => [mtS h0 z.2]) e9.symm
      exact xr_iret hf hr hlocks hw (Nat.le_of_ble_eq_true rfl) (Nat.le_of_ble_eq_true rfl) ⟨p0, p1⟩ dX7_day_27

def f_X7_clean (v : Nat → Int32)  : Int32 × (Nat → Int32) :=
  if v 5 ≤ 0 then
    (0, (vec [v 0, v 1, v 2, v 3, v 4, v 5, v 6, 0, v 8, v 9, v 10]))
  else
    (fun r1 : Int32 =>
      (fun r2 : Int32 × (Nat → Int32) =>
        (r2.1, r2.2)) (f_X7_die (vec [v 0, v 1, v 2, v 3, v 4, v 5, v 6, 0, v 8, v 9, v 10]) r1)) (f_X4_up (v 0) 10)
set_option maxHeartbeats 4000000 in
theorem k_X7_clean (l : Launch) (D : va_G) (dT g : Nat → Nat) (z0 : Nat) (h0 : Nat) (v : Nat → Int32)  : Con l D dT g z0 yX7_clean (ws_ yX7_clean cX7_clean 1 (some .int)) ({ frames := 2, cells := 0, slots := 0, locals := 62 }) [.ref h0] [mtS h0 v] (fun r LL => r = some (.int (f_X7_clean v).1) ∧ LL = [mtS h0 (f_X7_clean v).2]) noX 0 0 := by
  refine Con.of (maxL := 1) (ret := (some .int)) (by first | exact plainFor_of_name (by decide) | decide +kernel) (Nat.le_of_ble_eq_true rfl) ?_
  intro p e s m args below meth c A ls hf hr hlocks hnm hno hK hA hAz hw hl hst
  have hf : CallFix p m c cX7_clean 1 s args lw_all "SilkRowModel$Tray" := hf
  have hnm : meth.name = "clean" := hnm
  have hx := hf.1
  have hb := hf.2.1
  have hts := hf.2.2.2.2
  have hl : lv_has ls 1 [(0, .ref h0)] := hl
  have hw : Wd D A s.heap s.heap [] [[ob h0 6 [.int (v 0), .int (v 1), .int (v 2), .int (v 3), .int (v 4), .int (v 5), .int (v 6), .int (v 7), .int (v 8), .int (v 9), .int (bz (v 10))]]] := hw
  refine lv_aload_n hx hb dX7_clean_0 rfl (lv_at hl 0 rfl) ?_
  refine lv_iconst (v := 0) hx hb dX7_clean_1 (by decide) ?_
  refine xr_put (LL' := [[ob h0 6 [.int (v 0), .int (v 1), .int (v 2), .int (v 3), .int (v 4), .int (v 5), .int (v 6), .int 0, .int (v 8), .int (v 9), .int (bz (v 10))]]]) hf hK hw 0 0 rfl rfl in_X7 tyX7_ok nmX7 7 (by decide) q1149 (fun _ h => h) rfl rfl rfl (Nat.le_of_ble_eq_true rfl) rfl dX7_clean_2 (fun H locs hw => ?_)
  refine lv_aload_n hx hb dX7_clean_5 rfl (lv_at hl 0 rfl) ?_
  refine xr_get hf hK hw 0 0 rfl rfl in_X7 5 (by decide) q1145 (fun _ h => h) rfl dX7_clean_6 ?_
  refine lv_if_le (tgt := 28) hx hb dX7_clean_9 (by decide) (fun c_9 => ?_) (fun c_9 => ?_)
  · refine lv_iconst (v := 0) hx hb dX7_clean_28 (by decide) ?_
    have e9 : f_X7_clean v = (0, (vec [v 0, v 1, v 2, v 3, v 4, v 5, v 6, 0, v 8, v 9, v 10])) := by
      unfold f_X7_clean
      rw [if_pos c_9]
      try rfl
    have p0 := congrArg (fun z : Int32 × (Nat → Int32) => some (Value.int z.1)) e9.symm
    have p1 := congrArg (fun z : Int32 × (Nat → Int32) => [mtS h0 z.2]) e9.symm
    exact xr_iret hf hr hlocks hw (Nat.le_of_ble_eq_true rfl) (Nat.le_of_ble_eq_true rfl) ⟨p0, p1⟩ dX7_clean_29
  · refine lv_aload_n hx hb dX7_clean_12 rfl (lv_at hl 0 rfl) ?_
    refine lv_aload_n hx hb dX7_clean_13 rfl (lv_at hl 0 rfl) ?_
    refine xr_get hf hK hw 0 0 rfl rfl in_X7 0 (by decide) q1135 (fun _ h => h) rfl dX7_clean_14 ?_
    refine lv_bipush (v := 10) hx hb dX7_clean_17 (by decide) ?_
    refine xc_SN (rest := [.ref h0]) (As := [.int (v 0), .int 10]) hf hK hA hAz hst (hw.pick [] rfl rfl rfl) (k_X4_up l D dT g z0 (v 0) 10 (by decide)) ⟨va_cnB 2 hts (lw_meth q1299) rfl rfl rfl (hK.nw q1297 rfl) (hts _ q54) (by decide +kernel) ⟨Nat.le_of_ble_eq_true rfl, Nat.le_of_ble_eq_true rfl⟩, hts _ q1298⟩ rfl hl.1 rfl (Nat.le_of_ble_eq_true rfl) dX7_clean_19 ⟨(Nat.le_of_ble_eq_true rfl), (Nat.le_of_ble_eq_true rfl)⟩ (fun _ _ _ _ _ _ h => h.elim) (fun v9 LL1 H locs hp hw => ?_)
    obtain ⟨r1, hr1⟩ : ∃ z, z = f_X4_up (v 0) 10 := ⟨_, rfl⟩
    rw [← hr1] at hp
    obtain ⟨rfl, rfl⟩ := hp
    have hw : Wd D A s.heap _ _ [[ob h0 6 [.int (v 0), .int (v 1), .int (v 2), .int (v 3), .int (v 4), .int (v 5), .int (v 6), .int 0, .int (v 8), .int (v 9), .int (bz (v 10))]]] := hw
    refine W.eq (g2 := F0 m 22 ls [.int r1, .ref h0]) rfl ?_
    refine xc_V (rest := []) (As := [.int r1]) hf hK hA hAz hst (hw.pick [0] rfl rfl rfl) (k_X7_die l D dT g z0 h0 (vec [v 0, v 1, v 2, v 3, v 4, v 5, v 6, 0, v 8, v 9, v 10]) r1) (cwV 1 hts (lw_V q1300 q1301 q1302 q57 q1303) rfl rfl rfl (by decide +kernel) ⟨Nat.le_of_ble_eq_true rfl, Nat.le_of_ble_eq_true rfl⟩) (xr_rv hK hw 0 0 rfl rfl) rfl hl.1 rfl (Nat.le_of_ble_eq_true rfl) dX7_clean_22 ⟨(Nat.le_of_ble_eq_true rfl), (Nat.le_of_ble_eq_true rfl)⟩ (fun _ _ _ _ _ _ h => h.elim) (fun v9 LL1 H locs hp hw => ?_)
    obtain ⟨r2, hr2⟩ : ∃ z, z = f_X7_die (vec [v 0, v 1, v 2, v 3, v 4, v 5, v 6, 0, v 8, v 9, v 10]) r1 := ⟨_, rfl⟩
    rw [← hr2] at hp
    obtain ⟨rfl, rfl⟩ := hp
    have hw : Wd D A s.heap _ _ [[ob h0 6 [.int (r2.2 0), .int (r2.2 1), .int (r2.2 2), .int (r2.2 3), .int (r2.2 4), .int (r2.2 5), .int (r2.2 6), .int (r2.2 7), .int (r2.2 8), .int (r2.2 9), .int (bz (r2.2 10))]]] := hw
    refine W.eq (g2 := F0 m 25 ls [.int r2.1]) rfl ?_
    refine lv_goto (tgt := 29) hx hb dX7_clean_25 (by decide) ?_
    have e9 : f_X7_clean v = (r2.1, r2.2) := by
      unfold f_X7_clean
      rw [if_neg c_9]
      rw [← hr1]; try dsimp only
      rw [← hr2]; try dsimp only
      try rfl
    have p0 := congrArg (fun z : Int32 × (Nat → Int32) => some (Value.int z.1)) e9.symm
    have p1 := congrArg (fun z : Int32 × (Nat → Int32) => [mtS h0 z.2]) e9.symm
    exact xr_iret hf hr hlocks hw (Nat.le_of_ble_eq_true rfl) (Nat.le_of_ble_eq_true rfl) ⟨p0, p1⟩ dX7_clean_29

