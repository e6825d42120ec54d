/-! 15.jdk1 (printed by gen/jdk.py) -/
set_option maxRecDepth 100000
set_option maxHeartbeats 4000000 in
theorem k_J0_init (l : Launch) (D : va_G) (dT g : Nat → Nat) (z0 : Nat) (h0 : Nat) : Con l D dT g z0 yJ0_init (ws_ yJ0_init cJ0_init 1 none) ({ frames := 1, cells := 0, slots := 0, locals := 40 }) [.ref h0] [] (fun r LL => r = none ∧ LL = []) noX 0 0 := by
  refine Con.of (maxL := 1) (ret := none) (by first | exact plainFor_of_name (by decide) | decide +kernel) (Nat.le_of_ble_eq_true rfl) ?_
  intro p e s m args below meth c A ls hf hr hlocks hnm hno hK hA hAz hw hl hst
  have hf : CallFix p m c cJ0_init 1 s args lw_all "java/util/AbstractCollection" := hf
  have hnm : meth.name = "<init>" := hnm
  have hx := hf.1
  have hb := hf.2.1
  have hts := hf.2.2.2.2
  have hl : lv_has ls 1 [(0, .ref h0)] := hl
  have hw : Wd D A s.heap s.heap [] [] := hw
  refine lv_aload_n hx hb dJ0_init_0 rfl (lv_at hl 0 rfl) ?_
  refine W.objInit hx hb hf.2.2.2.1 (hts _ q96) (hts _ q83) (hts _ q84) rfl (by rw [hf.2.2.1]; exact hl.1) rfl dJ0_init_1 (Nat.le_of_ble_eq_true rfl) (Nat.le_of_ble_eq_true rfl) ?_
  refine W.eq (g2 := F0 m 4 ls []) rfl ?_
  exact xr_vret hf hr hlocks hw (Nat.le_of_ble_eq_true rfl) (Nat.le_of_ble_eq_true rfl) ⟨rfl, rfl⟩ dJ0_init_4

set_option maxHeartbeats 4000000 in
theorem k_J1_init (l : Launch) (D : va_G) (dT g : Nat → Nat) (z0 : Nat) (h0 : Nat) (x : Int32) (v1 : Value) (v2 : Value) : Con l D dT g z0 yJ1_init (ws_ yJ1_init cJ1_init 1 none) ({ frames := 2, cells := 0, slots := 0, locals := 60 }) [.ref h0] [[ob h0 15 [.int x, v1, v2]]] (fun r LL => r = none ∧ LL = [[ob h0 15 [.int 0, v1, v2]]]) noX 0 0 := by
  refine Con.of (maxL := 1) (ret := none) (by first | exact plainFor_of_name (by decide) | decide +kernel) (Nat.le_of_ble_eq_true rfl) ?_
  intro p e s m args below meth c A ls hf hr hlocks hnm hno hK hA hAz hw hl hst
  have hf : CallFix p m c cJ1_init 1 s args lw_all "java/util/AbstractList" := hf
  have hnm : meth.name = "<init>" := hnm
  have hx := hf.1
  have hb := hf.2.1
  have hts := hf.2.2.2.2
  have hl : lv_has ls 1 [(0, .ref h0)] := hl
  have hw : Wd D A s.heap s.heap [] [[ob h0 15 [.int x, v1, v2]]] := hw
  refine lv_aload_n hx hb dJ1_init_0 rfl (lv_at hl 0 rfl) ?_
  refine xc_I (rest := []) (As := []) hf hK hA hAz hst (hw.pick [] rfl rfl rfl) (k_J0_init l D dT g z0 h0) (cwI 0 hts (lw_meth q95) rfl rfl rfl (hts _ q45) (hts _ q93) (hts _ q94) rfl (by decide +kernel) ⟨Nat.le_of_ble_eq_true rfl, Nat.le_of_ble_eq_true rfl⟩) rfl hl.1 rfl (Nat.le_of_ble_eq_true rfl) dJ1_init_1 ⟨(Nat.le_of_ble_eq_true rfl), (Nat.le_of_ble_eq_true rfl)⟩ (fun _ _ _ _ _ _ h => h.elim) (fun v9 LL1 H locs hp hw => ?_)
  obtain ⟨rfl, rfl⟩ := hp
  have hw : Wd D A s.heap _ _ [[ob h0 15 [.int x, v1, v2]]] := hw
  refine W.eq (g2 := F0 m 4 ls []) rfl ?_
  refine lv_aload_n hx hb dJ1_init_4 rfl (lv_at hl 0 rfl) ?_
  refine lv_iconst (v := 0) hx hb dJ1_init_5 (by decide) ?_
  refine xr_put (LL' := [[ob h0 15 [.int 0, v1, v2]]]) hf hK hw 0 0 rfl rfl in_J2 tyJ2_ok nmJ2 0 (by decide) q103 (fun _ h => h) rfl rfl rfl (Nat.le_of_ble_eq_true rfl) rfl dJ1_init_6 (fun H locs hw => ?_)
  exact xr_vret hf hr hlocks hw (Nat.le_of_ble_eq_true rfl) (Nat.le_of_ble_eq_true rfl) ⟨rfl, rfl⟩ dJ1_init_9

set_option maxHeartbeats 4000000 in
theorem k_J2_init (l : Launch) (D : va_G) (dT g : Nat → Nat) (z0 : Nat) (h0 : Nat) : Con l D dT g z0 yJ2_init (ws_ yJ2_init cJ2_init 1 none) ({ frames := 3, cells := 0, slots := 0, locals := 80 }) [.ref h0] [[ob h0 15 [.int 0, .null, .int 0]]] (fun r LL => r = none ∧ LL = [[ob h0 15 [.int 0, .ref (g 0), .int 0]]]) noX 0 0 := by
  refine Con.of (maxL := 1) (ret := none) (by first | exact plainFor_of_name (by decide) | decide +kernel) (Nat.le_of_ble_eq_true rfl) ?_
  intro p e s m args below meth c A ls hf hr hlocks hnm hno hK hA hAz hw hl hst
  have hf : CallFix p m c cJ2_init 1 s args lw_all "java/util/ArrayList" := hf
  have hnm : meth.name = "<init>" := hnm
  have hx := hf.1
  have hb := hf.2.1
  have hts := hf.2.2.2.2
  have hl : lv_has ls 1 [(0, .ref h0)] := hl
  have hw : Wd D A s.heap s.heap [] [[ob h0 15 [.int 0, .null, .int 0]]] := hw
  refine lv_aload_n hx hb dJ2_init_0 rfl (lv_at hl 0 rfl) ?_
  refine xc_I (rest := []) (As := []) hf hK hA hAz hst (hw.pick [0] rfl rfl rfl) (k_J1_init l D dT g z0 h0 0 (.null) (.int 0)) (cwI 0 hts (lw_meth q92) rfl rfl rfl (hts _ q46) (hts _ q90) (hts _ q91) rfl (by decide +kernel) ⟨Nat.le_of_ble_eq_true rfl, Nat.le_of_ble_eq_true rfl⟩) rfl hl.1 rfl (Nat.le_of_ble_eq_true rfl) dJ2_init_1 ⟨(Nat.le_of_ble_eq_true rfl), (Nat.le_of_ble_eq_true rfl)⟩ (fun _ _ _ _ _ _ h => h.elim) (fun v9 LL1 H locs hp hw => ?_)
  obtain ⟨rfl, rfl⟩ := hp
  have hw : Wd D A s.heap _ _ [[ob h0 15 [.int 0, .null, .int 0]]] := hw
  refine W.eq (g2 := F0 m 4 ls []) rfl ?_
  refine lv_aload_n hx hb dJ2_init_4 rfl (lv_at hl 0 rfl) ?_
  refine xr_gets hf hAz hK.2.2.2.2.2.1.1 hw q97 (fun _ h => h) dJ2_init_5 ?_
  refine xr_put (LL' := [[ob h0 15 [.int 0, .ref (g 0), .int 0]]]) hf hK hw 0 0 rfl rfl in_J2 tyJ2_ok nmJ2 1 (by decide) q99 (fun _ h => h) rfl rfl rfl (Nat.le_of_ble_eq_true rfl) rfl dJ2_init_8 (fun H locs hw => ?_)
  exact xr_vret hf hr hlocks hw (Nat.le_of_ble_eq_true rfl) (Nat.le_of_ble_eq_true rfl) ⟨rfl, rfl⟩ dJ2_init_11

set_option maxHeartbeats 4000000 in
theorem k_J2_size (l : Launch) (D : va_G) (dT g : Nat → Nat) (z0 : Nat) (a : Nat) (u : Int32) (z : Int32) (v1 : Value) (T : va_W) : Con l D dT g z0 yJ2_size (ws_ yJ2_size cJ2_size 1 (some .int)) ({ frames := 1, cells := 0, slots := 0, locals := 40 }) [.ref a] [((ob a 15 [.int u, v1, .int z]) :: T)] (fun r LL => r = some (.int z) ∧ LL = [((ob a 15 [.int u, v1, .int z]) :: T)]) noX 0 0 := by
  refine Con.of (maxL := 1) (ret := (some .int)) (by first | exact plainFor_of_name (by decide) | decide +kernel) (Nat.le_of_ble_eq_true rfl) ?_
  intro p e s m args below meth c A ls hf hr hlocks hnm hno hK hA hAz hw hl hst
  have hf : CallFix p m c cJ2_size 1 s args lw_all "java/util/ArrayList" := hf
  have hnm : meth.name = "size" := hnm
  have hx := hf.1
  have hb := hf.2.1
  have hts := hf.2.2.2.2
  have hl : lv_has ls 1 [(0, .ref a)] := hl
  have hw : Wd D A s.heap s.heap [] [((ob a 15 [.int u, v1, .int z]) :: T)] := hw
  refine lv_aload_n hx hb dJ2_size_0 rfl (lv_at hl 0 rfl) ?_
  refine xr_get hf hK hw 0 0 rfl rfl in_J2 2 (by decide) q102 (fun _ h => h) rfl dJ2_size_1 ?_
  exact xr_iret hf hr hlocks hw (Nat.le_of_ble_eq_true rfl) (Nat.le_of_ble_eq_true rfl) ⟨rfl, rfl⟩ dJ2_size_4

set_option maxHeartbeats 4000000 in
theorem k_J2_isEmpty (l : Launch) (D : va_G) (dT g : Nat → Nat) (z0 : Nat) (a : Nat) (u : Int32) (z : Int32) (v1 : Value) (T : va_W) : Con l D dT g z0 yJ2_isEmpty (ws_ yJ2_isEmpty cJ2_isEmpty 1 (some .boolean)) ({ frames := 1, cells := 0, slots := 0, locals := 40 }) [.ref a] [((ob a 15 [.int u, v1, .int z]) :: T)] (fun r LL => r = some (.int (if z = 0 then 1 else 0)) ∧ LL = [((ob a 15 [.int u, v1, .int z]) :: T)]) noX 0 0 := by
  refine Con.of (maxL := 1) (ret := (some .boolean)) (by first | exact plainFor_of_name (by decide) | decide +kernel) (Nat.le_of_ble_eq_true rfl) ?_
  intro p e s m args below meth c A ls hf hr hlocks hnm hno hK hA hAz hw hl hst
  have hf : CallFix p m c cJ2_isEmpty 1 s args lw_all "java/util/ArrayList" := hf
  have hnm : meth.name = "isEmpty" := hnm
  have hx := hf.1
  have hb := hf.2.1
  have hts := hf.2.2.2.2
  have hl : lv_has ls 1 [(0, .ref a)] := hl
  have hw : Wd D A s.heap s.heap [] [((ob a 15 [.int u, v1, .int z]) :: T)] := hw
  refine lv_aload_n hx hb dJ2_isEmpty_0 rfl (lv_at hl 0 rfl) ?_
  refine xr_get hf hK hw 0 0 rfl rfl in_J2 2 (by decide) q102 (fun _ h => h) rfl dJ2_isEmpty_1 ?_
  refine lv_if_ne (tgt := 11) hx hb dJ2_isEmpty_4 (by decide) (fun c_4 => ?_) (fun c_4 => ?_)
  · refine lv_iconst (v := 0) hx hb dJ2_isEmpty_11 (by decide) ?_
    exact xr_zret hf hr hlocks hw (Nat.le_of_ble_eq_true rfl) (Nat.le_of_ble_eq_true rfl) rfl ⟨by rw [if_neg c_4], rfl⟩ dJ2_isEmpty_12
  · refine lv_iconst (v := 1) hx hb dJ2_isEmpty_7 (by decide) ?_
    refine lv_goto (tgt := 12) hx hb dJ2_isEmpty_8 (by decide) ?_
    exact xr_zret hf hr hlocks hw (Nat.le_of_ble_eq_true rfl) (Nat.le_of_ble_eq_true rfl) rfl ⟨by rw [if_pos c_4], rfl⟩ dJ2_isEmpty_12

set_option maxHeartbeats 4000000 in
theorem k_J11_init (l : Launch) (D : va_G) (dT g : Nat → Nat) (z0 : Nat) (h0 : Nat) (a : Nat) (u : Int32) (z : Int32) (v1 : Value) (T : va_W) : Con l D dT g z0 yJ11_init (ws_ yJ11_init cJ11_init 2 none) ({ frames := 1, cells := 0, slots := 0, locals := 40 }) [.ref h0, .ref a] [[ob h0 16 [.int 0, .int 0, .int 0, .null]], ((ob a 15 [.int u, v1, .int z]) :: T)] (fun r LL => r = none ∧ LL = [[ob h0 16 [.int 0, .int (-1), .int u, .ref a]], ((ob a 15 [.int u, v1, .int z]) :: T)]) noX 0 0 := by
  refine Con.of (maxL := 2) (ret := none) (by first | exact plainFor_of_name (by decide) | decide +kernel) (Nat.le_of_ble_eq_true rfl) ?_
  intro p e s m args below meth c A ls hf hr hlocks hnm hno hK hA hAz hw hl hst
  have hf : CallFix p m c cJ11_init 2 s args lw_all "java/util/ArrayList$Itr" := hf
  have hnm : meth.name = "<init>" := hnm
  have hx := hf.1
  have hb := hf.2.1
  have hts := hf.2.2.2.2
  have hl : lv_has ls 2 [(0, .ref h0), (1, .ref a)] := hl
  have hw : Wd D A s.heap s.heap [] [[ob h0 16 [.int 0, .int 0, .int 0, .null]], ((ob a 15 [.int u, v1, .int z]) :: T)] := hw
  refine lv_aload_n hx hb dJ11_init_0 rfl (lv_at hl 0 rfl) ?_
  refine lv_aload_n hx hb dJ11_init_1 rfl (lv_at hl 1 rfl) ?_
  refine xr_putF (LL' := [[ob h0 16 [.int 0, .int 0, .int 0, .ref a]], ((ob a 15 [.int u, v1, .int z]) :: T)]) hf hK hw 0 0 rfl rfl in_J11 tyJ11_ok nmJ11 3 (by decide) q308 (fun _ h => h) rfl hnm rfl rfl rfl (Nat.le_of_ble_eq_true rfl) rfl dJ11_init_2 (fun H locs hw => ?_)
  refine lv_aload_n hx hb dJ11_init_5 rfl (lv_at hl 0 rfl) ?_
  refine W.objInit hx hb hf.2.2.2.1 (hts _ q304) (hts _ q83) (hts _ q84) rfl (by rw [hf.2.2.1]; exact hl.1) rfl dJ11_init_6 (Nat.le_of_ble_eq_true rfl) (Nat.le_of_ble_eq_true rfl) ?_
  refine W.eq (g2 := F0 m 9 ls []) rfl ?_
  refine lv_aload_n hx hb dJ11_init_9 rfl (lv_at hl 0 rfl) ?_
  refine lv_iconst (v := (-1)) hx hb dJ11_init_10 (by decide) ?_
  refine xr_put (LL' := [[ob h0 16 [.int 0, .int (-1), .int 0, .ref a]], ((ob a 15 [.int u, v1, .int z]) :: T)]) hf hK hw 0 0 rfl rfl in_J11 tyJ11_ok nmJ11 1 (by decide) q306 (fun _ h => h) rfl rfl rfl (Nat.le_of_ble_eq_true rfl) rfl dJ11_init_11 (fun H locs hw => ?_)
  refine lv_aload_n hx hb dJ11_init_14 rfl (lv_at hl 0 rfl) ?_
  refine lv_aload_n hx hb dJ11_init_15 rfl (lv_at hl 0 rfl) ?_
  refine xr_get hf hK hw 0 0 rfl rfl in_J11 3 (by decide) q308 (fun _ h => h) rfl dJ11_init_16 ?_
  refine xr_get hf hK hw 1 0 rfl rfl in_J2 0 (by decide) q104 (u_same (hts _ q105)) rfl dJ11_init_19 ?_
  refine xr_put (LL' := [[ob h0 16 [.int 0, .int (-1), .int u, .ref a]], ((ob a 15 [.int u, v1, .int z]) :: T)]) hf hK hw 0 0 rfl rfl in_J11 tyJ11_ok nmJ11 2 (by decide) q307 (fun _ h => h) rfl rfl rfl (Nat.le_of_ble_eq_true rfl) rfl dJ11_init_22 (fun H locs hw => ?_)
  exact xr_vret hf hr hlocks hw (Nat.le_of_ble_eq_true rfl) (Nat.le_of_ble_eq_true rfl) ⟨rfl, rfl⟩ dJ11_init_25

set_option maxHeartbeats 4000000 in
theorem k_J2_iterator (l : Launch) (D : va_G) (dT g : Nat → Nat) (z0 : Nat) (a : Nat) (u : Int32) (z : Int32) (v1 : Value) (T : va_W) : Con l D dT g z0 yJ2_iterator (ws_ yJ2_iterator cJ2_iterator 1 (some (.object "java/util/Iterator"))) ({ frames := 2, cells := 1, slots := 4, locals := 61 }) [.ref a] [((ob a 15 [.int u, v1, .int z]) :: T)] (fun r LL => ∃ (q : Nat), r = some (.ref q) ∧ LL = [[ob q 16 [.int 0, .int (-1), .int u, .ref a]], ((ob a 15 [.int u, v1, .int z]) :: T)]) noX 1 4 := by
  refine Con.of (maxL := 1) (ret := (some (.object "java/util/Iterator"))) (by first | exact plainFor_of_name (by decide) | decide +kernel) (Nat.le_of_ble_eq_true rfl) ?_
  intro p e s m args below meth c A ls hf hr hlocks hnm hno hK hA hAz hw hl hst
  have hf : CallFix p m c cJ2_iterator 1 s args lw_all "java/util/ArrayList" := hf
  have hnm : meth.name = "iterator" := hnm
  have hx := hf.1
  have hb := hf.2.1
  have hts := hf.2.2.2.2
  have hl : lv_has ls 1 [(0, .ref a)] := hl
  have hw : Wd D A s.heap s.heap [] [((ob a 15 [.int u, v1, .int z]) :: T)] := hw
  refine xr_new (LL' := [((ob a 15 [.int u, v1, .int z]) :: T)]) (fs := [.int 0, .int 0, .int 0, .null]) hf hK hw hA 16 rfl in_J11 tyJ11_ok q299 q300 q65 rfl (Nat.le_of_ble_eq_true rfl) (Nat.le_of_ble_eq_true rfl) (fun _ => rfl) dJ2_iterator_0 (fun qa1 H hw => ?_)
  have hw : Wd D A s.heap _ _ [((ob a 15 [.int u, v1, .int z]) :: T), [ob qa1 16 [.int 0, .int 0, .int 0, .null]]] := hw
  refine lv_dup hx hb dJ2_iterator_3 rfl ?_
  refine lv_aload_n hx hb dJ2_iterator_4 rfl (lv_at hl 0 rfl) ?_
  refine xc_I (rest := [.ref qa1]) (As := [.ref a]) hf hK hA hAz hst (hw.pick [1, 0] rfl rfl rfl) (k_J11_init l D dT g z0 qa1 a u z (v1) (T)) (cwI 1 hts (lw_meth q303) rfl rfl rfl (hts _ q65) (hts _ q301) (hts _ q302) rfl (by decide +kernel) ⟨Nat.le_of_ble_eq_true rfl, Nat.le_of_ble_eq_true rfl⟩) rfl hl.1 rfl (Nat.le_of_ble_eq_true rfl) dJ2_iterator_5 ⟨(Nat.le_of_ble_eq_true rfl), (Nat.le_of_ble_eq_true rfl)⟩ (fun _ _ _ _ _ _ h => h.elim) (fun v9 LL1 H locs hp hw => ?_)
  obtain ⟨rfl, rfl⟩ := hp
  have hw : Wd D A s.heap _ _ [[ob qa1 16 [.int 0, .int (-1), .int u, .ref a]], ((ob a 15 [.int u, v1, .int z]) :: T)] := hw
  refine W.eq (g2 := F0 m 8 ls [.ref qa1]) rfl ?_
  exact xr_aret hf hr (by first | exact Or.inl ⟨_, rfl⟩ | exact Or.inr ⟨_, rfl⟩) (Or.inr ⟨_, rfl⟩) hlocks hw (Nat.le_of_ble_eq_true rfl) (Nat.le_of_ble_eq_true rfl) ⟨qa1, rfl, rfl⟩ dJ2_iterator_8

set_option maxHeartbeats 4000000 in
theorem k_J11_checkForComodification (l : Launch) (D : va_G) (dT g : Nat → Nat) (z0 : Nat) (q : Nat) (cur : Int32) (last : Int32) (a : Nat) (u : Int32) (z : Int32) (v1 : Value) (T : va_W) : Con l D dT g z0 yJ11_checkForComodification (ws_ yJ11_checkForComodification cJ11_checkForComodification 1 none) ({ frames := 1, cells := 0, slots := 0, locals := 40 }) [.ref q] [[ob q 16 [.int cur, .int last, .int u, .ref a]], ((ob a 15 [.int u, v1, .int z]) :: T)] (fun r LL => r = none ∧ LL = [[ob q 16 [.int cur, .int last, .int u, .ref a]], ((ob a 15 [.int u, v1, .int z]) :: T)]) noX 0 0 := by
  refine Con.of (maxL := 1) (ret := none) (by first | exact plainFor_of_name (by decide) | decide +kernel) (Nat.le_of_ble_eq_true rfl) ?_
  intro p e s m args below meth c A ls hf hr hlocks hnm hno hK hA hAz hw hl hst
  have hf : CallFix p m c cJ11_checkForComodification 1 s args lw_all "java/util/ArrayList$Itr" := hf
  have hnm : meth.name = "checkForComodification" := hnm
  have hx := hf.1
  have hb := hf.2.1
  have hts := hf.2.2.2.2
  have hl : lv_has ls 1 [(0, .ref q)] := hl
  have hw : Wd D A s.heap s.heap [] [[ob q 16 [.int cur, .int last, .int u, .ref a]], ((ob a 15 [.int u, v1, .int z]) :: T)] := hw
  refine lv_aload_n hx hb dJ11_checkForComodification_0 rfl (lv_at hl 0 rfl) ?_
  refine xr_get hf hK hw 0 0 rfl rfl in_J11 3 (by decide) q308 (fun _ h => h) rfl dJ11_checkForComodification_1 ?_
  refine xr_get hf hK hw 1 0 rfl rfl in_J2 0 (by decide) q104 (u_same (hts _ q105)) rfl dJ11_checkForComodification_4 ?_
  refine lv_aload_n hx hb dJ11_checkForComodification_7 rfl (lv_at hl 0 rfl) ?_
  refine xr_get hf hK hw 0 0 rfl rfl in_J11 2 (by decide) q307 (fun _ h => h) rfl dJ11_checkForComodification_8 ?_
  refine lv_icmp_eq (tgt := 22) hx hb dJ11_checkForComodification_11 (by decide) (fun _ => ?_) (fun c9 => absurd c9 (not_not_intro rfl))
  exact xr_vret hf hr hlocks hw (Nat.le_of_ble_eq_true rfl) (Nat.le_of_ble_eq_true rfl) ⟨rfl, rfl⟩ dJ11_checkForComodification_22

set_option maxHeartbeats 4000000 in
theorem k_J11_hasNext (l : Launch) (D : va_G) (dT g : Nat → Nat) (z0 : Nat) (q : Nat) (cur : Int32) (last : Int32) (a : Nat) (em : Int32) (z : Int32) (v1 : Value) (T : va_W) (u : Int32) : Con l D dT g z0 yJ11_hasNext (ws_ yJ11_hasNext cJ11_hasNext 1 (some .boolean)) ({ frames := 1, cells := 0, slots := 0, locals := 40 }) [.ref q] [[ob q 16 [.int cur, .int last, .int em, .ref a]], ((ob a 15 [.int u, v1, .int z]) :: T)] (fun r LL => r = some (.int (if cur = z then 0 else 1)) ∧ LL = [[ob q 16 [.int cur, .int last, .int em, .ref a]], ((ob a 15 [.int u, v1, .int z]) :: T)]) noX 0 0 := by
  refine Con.of (maxL := 1) (ret := (some .boolean)) (by first | exact plainFor_of_name (by decide) | decide +kernel) (Nat.le_of_ble_eq_true rfl) ?_
  intro p e s m args below meth c A ls hf hr hlocks hnm hno hK hA hAz hw hl hst
  have hf : CallFix p m c cJ11_hasNext 1 s args lw_all "java/util/ArrayList$Itr" := hf
  have hnm : meth.name = "hasNext" := hnm
  have hx := hf.1
  have hb := hf.2.1
  have hts := hf.2.2.2.2
  have hl : lv_has ls 1 [(0, .ref q)] := hl
  have hw : Wd D A s.heap s.heap [] [[ob q 16 [.int cur, .int last, .int em, .ref a]], ((ob a 15 [.int u, v1, .int z]) :: T)] := hw
  refine lv_aload_n hx hb dJ11_hasNext_0 rfl (lv_at hl 0 rfl) ?_
  refine xr_get hf hK hw 0 0 rfl rfl in_J11 0 (by decide) q305 (fun _ h => h) rfl dJ11_hasNext_1 ?_
  refine lv_aload_n hx hb dJ11_hasNext_4 rfl (lv_at hl 0 rfl) ?_
  refine xr_get hf hK hw 0 0 rfl rfl in_J11 3 (by decide) q308 (fun _ h => h) rfl dJ11_hasNext_5 ?_
  refine xr_getN hf hK hw 1 0 rfl rfl in_J2 2 (by decide) q101 (fun _ h => h) rfl dJ11_hasNext_8 ?_
  refine lv_icmp_eq (tgt := 18) hx hb dJ11_hasNext_11 (by decide) (fun c_11 => ?_) (fun c_11 => ?_)
  · refine lv_iconst (v := 0) hx hb dJ11_hasNext_18 (by decide) ?_
    exact xr_zret hf hr hlocks hw (Nat.le_of_ble_eq_true rfl) (Nat.le_of_ble_eq_true rfl) rfl ⟨by rw [if_pos c_11], rfl⟩ dJ11_hasNext_19
  · refine lv_iconst (v := 1) hx hb dJ11_hasNext_14 (by decide) ?_
    refine lv_goto (tgt := 19) hx hb dJ11_hasNext_15 (by decide) ?_
    exact xr_zret hf hr hlocks hw (Nat.le_of_ble_eq_true rfl) (Nat.le_of_ble_eq_true rfl) rfl ⟨by rw [if_neg c_11], rfl⟩ dJ11_hasNext_19

set_option maxHeartbeats 4000000 in
theorem k_J13_checkIndex (l : Launch) (D : va_G) (dT g : Nat → Nat) (z0 : Nat) (k : Nat) (n : Nat) (hk : k < n) (hn : n < 2 ^ 31) : Con l D dT g z0 yJ13_checkIndex (ws_ yJ13_checkIndex cJ13_checkIndex 3 (some .int)) ({ frames := 1, cells := 0, slots := 0, locals := 40 }) [.int (nI k), .int (nI n), .null] [] (fun r LL => r = some (.int (nI k)) ∧ LL = []) noX 0 0 := by
  refine Con.of (maxL := 3) (ret := (some .int)) (by first | exact plainFor_of_name (by decide) | decide +kernel) (Nat.le_of_ble_eq_true rfl) ?_
  intro p e s m args below meth c A ls hf hr hlocks hnm hno hK hA hAz hw hl hst
  have hf : CallFix p m c cJ13_checkIndex 3 s args lw_all "jdk/internal/util/Preconditions" := hf
  have hnm : meth.name = "checkIndex" := hnm
  have hx := hf.1
  have hb := hf.2.1
  have hts := hf.2.2.2.2
  have hl : lv_has ls 3 [(0, .int (nI k)), (1, .int (nI n)), (2, .null)] := hl
  have hw : Wd D A s.heap s.heap [] [] := hw
  refine lv_iload_n hx hb dJ13_checkIndex_0 rfl (lv_at hl 0 rfl) ?_
  refine lv_if_lt (tgt := 9) hx hb dJ13_checkIndex_1 (by decide) (fun c9 => absurd c9 (nI_pos (Nat.lt_trans hk hn))) (fun _ => ?_)
  refine lv_iload_n hx hb dJ13_checkIndex_4 rfl (lv_at hl 0 rfl) ?_
  refine lv_iload_n hx hb dJ13_checkIndex_5 rfl (lv_at hl 1 rfl) ?_
  refine lv_icmp_lt (tgt := 16) hx hb dJ13_checkIndex_6 (by decide) (fun _ => ?_) (fun c9 => absurd c9 (not_not_intro (nI_lt hk hn)))
  refine lv_iload_n hx hb dJ13_checkIndex_16 rfl (lv_at hl 0 rfl) ?_
  exact xr_iret hf hr hlocks hw (Nat.le_of_ble_eq_true rfl) (Nat.le_of_ble_eq_true rfl) ⟨rfl, rfl⟩ dJ13_checkIndex_17

set_option maxHeartbeats 4000000 in
theorem k_J12_checkIndex (l : Launch) (D : va_G) (dT g : Nat → Nat) (z0 : Nat) (k : Nat) (n : Nat) (hk : k < n) (hn : n < 2 ^ 31) : Con l D dT g z0 yJ12_checkIndex (ws_ yJ12_checkIndex cJ12_checkIndex 2 (some .int)) ({ frames := 2, cells := 0, slots := 0, locals := 62 }) [.int (nI k), .int (nI n)] [] (fun r LL => r = some (.int (nI k)) ∧ LL = []) noX 0 0 := by
  refine Con.of (maxL := 2) (ret := (some .int)) (by first | exact plainFor_of_name (by decide) | decide +kernel) (Nat.le_of_ble_eq_true rfl) ?_
  intro p e s m args below meth c A ls hf hr hlocks hnm hno hK hA hAz hw hl hst
  have hf : CallFix p m c cJ12_checkIndex 2 s args lw_all "java/util/Objects" := hf
  have hnm : meth.name = "checkIndex" := hnm
  have hx := hf.1
  have hb := hf.2.1
  have hts := hf.2.2.2.2
  have hl : lv_has ls 2 [(0, .int (nI k)), (1, .int (nI n))] := hl
  have hw : Wd D A s.heap s.heap [] [] := hw
  refine lv_iload_n hx hb dJ12_checkIndex_0 rfl (lv_at hl 0 rfl) ?_
  refine lv_iload_n hx hb dJ12_checkIndex_1 rfl (lv_at hl 1 rfl) ?_
  refine lv_null hx hb dJ12_checkIndex_2 ?_
  refine xc_S (rest := []) (As := [.int (nI k), .int (nI n), .null]) hf hK hA hAz hst (hw.pick [] rfl rfl rfl) (k_J13_checkIndex l D dT g z0 k n hk hn) (va_cwS 3 hts (lw_S q400 q401 q67 q402) rfl rfl rfl (by decide +kernel) ⟨Nat.le_of_ble_eq_true rfl, Nat.le_of_ble_eq_true rfl⟩) rfl hl.1 rfl (Nat.le_of_ble_eq_true rfl) dJ12_checkIndex_3 ⟨(Nat.le_of_ble_eq_true rfl), (Nat.le_of_ble_eq_true rfl)⟩ (fun _ _ _ _ _ _ h => h.elim) (fun v9 LL1 H locs hp hw => ?_)
  obtain ⟨rfl, rfl⟩ := hp
  have hw : Wd D A s.heap _ _ [] := hw
  refine W.eq (g2 := F0 m 6 ls [.int (nI k)]) rfl ?_
  exact xr_iret hf hr hlocks hw (Nat.le_of_ble_eq_true rfl) (Nat.le_of_ble_eq_true rfl) ⟨rfl, rfl⟩ dJ12_checkIndex_6

set_option maxHeartbeats 4000000 in
theorem k_J2_elementData (l : Launch) (D : va_G) (dT g : Nat → Nat) (z0 : Nat) (a : Nat) (d : Nat) (cap : Nat) (u : Int32) (xs : List Nat) (k : Nat) (x : Nat) (hc : xs.length ≤ cap) (hC : cap < 4096) (hk : k < xs.length) (hxk : xs[k]? = some x) : Con l D dT g z0 yJ2_elementData (ws_ yJ2_elementData cJ2_elementData 2 (some (.object "java/lang/Object"))) ({ frames := 1, cells := 0, slots := 0, locals := 40 }) [.ref a, .int (nI k)] [[ob a 15 [.int u, .ref d, .int (nI xs.length)], (d, aR dT 1 cap (fun i => xs[i]?))]] (fun r LL => r = some (.ref x) ∧ LL = [[ob a 15 [.int u, .ref d, .int (nI xs.length)], (d, aR dT 1 cap (fun i => xs[i]?))]]) noX 0 0 := by
  refine Con.of (maxL := 2) (ret := (some (.object "java/lang/Object"))) (by first | exact plainFor_of_name (by decide) | decide +kernel) (Nat.le_of_ble_eq_true rfl) ?_
  intro p e s m args below meth c A ls hf hr hlocks hnm hno hK hA hAz hw hl hst
  have hf : CallFix p m c cJ2_elementData 2 s args lw_all "java/util/ArrayList" := hf
  have hnm : meth.name = "elementData" := hnm
  have hx := hf.1
  have hb := hf.2.1
  have hts := hf.2.2.2.2
  have hl : lv_has ls 2 [(0, .ref a), (1, .int (nI k))] := hl
  have hw : Wd D A s.heap s.heap [] [[ob a 15 [.int u, .ref d, .int (nI xs.length)], (d, aR dT 1 cap (fun i => xs[i]?))]] := hw
  refine lv_aload_n hx hb dJ2_elementData_0 rfl (lv_at hl 0 rfl) ?_
  refine xr_get hf hK hw 0 0 rfl rfl in_J2 1 (by decide) q99 (fun _ h => h) rfl dJ2_elementData_1 ?_
  refine lv_iload_n hx hb dJ2_elementData_4 rfl (lv_at hl 1 rfl) ?_
  refine xr_aald (r := (some x)) hf hK hw 0 1 rfl rfl k (nI_pos (by omega)) (nI_clamp (by omega)) (by omega) hxk dJ2_elementData_5 ?_
  exact xr_aret hf hr (by first | exact Or.inl ⟨_, rfl⟩ | exact Or.inr ⟨_, rfl⟩) (Or.inr ⟨_, rfl⟩) hlocks hw (Nat.le_of_ble_eq_true rfl) (Nat.le_of_ble_eq_true rfl) ⟨rfl, rfl⟩ dJ2_elementData_6

set_option maxHeartbeats 4000000 in
theorem k_J2_get (l : Launch) (D : va_G) (dT g : Nat → Nat) (z0 : Nat) (a : Nat) (d : Nat) (cap : Nat) (u : Int32) (xs : List Nat) (k : Nat) (x : Nat) (hc : xs.length ≤ cap) (hC : cap < 4096) (hk : k < xs.length) (hxk : xs[k]? = some x) : Con l D dT g z0 yJ2_get (ws_ yJ2_get cJ2_get 2 (some (.object "java/lang/Object"))) ({ frames := 3, cells := 0, slots := 0, locals := 83 }) [.ref a, .int (nI k)] [[ob a 15 [.int u, .ref d, .int (nI xs.length)], (d, aR dT 1 cap (fun i => xs[i]?))]] (fun r LL => r = some (.ref x) ∧ LL = [[ob a 15 [.int u, .ref d, .int (nI xs.length)], (d, aR dT 1 cap (fun i => xs[i]?))]]) noX 0 0 := by
  refine Con.of (maxL := 2) (ret := (some (.object "java/lang/Object"))) (by first | exact plainFor_of_name (by decide) | decide +kernel) (Nat.le_of_ble_eq_true rfl) ?_
  intro p e s m args below meth c A ls hf hr hlocks hnm hno hK hA hAz hw hl hst
  have hf : CallFix p m c cJ2_get 2 s args lw_all "java/util/ArrayList" := hf
  have hnm : meth.name = "get" := hnm
  have hx := hf.1
  have hb := hf.2.1
  have hts := hf.2.2.2.2
  have hl : lv_has ls 2 [(0, .ref a), (1, .int (nI k))] := hl
  have hw : Wd D A s.heap s.heap [] [[ob a 15 [.int u, .ref d, .int (nI xs.length)], (d, aR dT 1 cap (fun i => xs[i]?))]] := hw
  refine lv_iload_n hx hb dJ2_get_0 rfl (lv_at hl 1 rfl) ?_
  refine lv_aload_n hx hb dJ2_get_1 rfl (lv_at hl 0 rfl) ?_
  refine xr_get hf hK hw 0 0 rfl rfl in_J2 2 (by decide) q102 (fun _ h => h) rfl dJ2_get_2 ?_
  refine xc_S (rest := []) (As := [.int (nI k), .int (nI xs.length)]) hf hK hA hAz hst (hw.pick [] rfl rfl rfl) (k_J12_checkIndex l D dT g z0 k xs.length hk (by omega)) (va_cwS 2 hts (lw_S q397 q398 q66 q399) rfl rfl rfl (by decide +kernel) ⟨Nat.le_of_ble_eq_true rfl, Nat.le_of_ble_eq_true rfl⟩) rfl hl.1 rfl (Nat.le_of_ble_eq_true rfl) dJ2_get_5 ⟨(Nat.le_of_ble_eq_true rfl), (Nat.le_of_ble_eq_true rfl)⟩ (fun _ _ _ _ _ _ h => h.elim) (fun v9 LL1 H locs hp hw => ?_)
  obtain ⟨rfl, rfl⟩ := hp
  have hw : Wd D A s.heap _ _ [[ob a 15 [.int u, .ref d, .int (nI xs.length)], (d, aR dT 1 cap (fun i => xs[i]?))]] := hw
  refine W.eq (g2 := F0 m 8 ls [.int (nI k)]) rfl ?_
  refine lv_pop hx hb dJ2_get_8 rfl ?_
  refine lv_aload_n hx hb dJ2_get_9 rfl (lv_at hl 0 rfl) ?_
  refine lv_iload_n hx hb dJ2_get_10 rfl (lv_at hl 1 rfl) ?_
  refine xc_V (rest := []) (As := [.int (nI k)]) hf hK hA hAz hst (hw.pick [0] rfl rfl rfl) (k_J2_elementData l D dT g z0 a d cap u xs k x hc hC hk hxk) (cwV 1 hts (lw_V q403 q404 q405 q47 q406) rfl rfl rfl (by decide +kernel) ⟨Nat.le_of_ble_eq_true rfl, Nat.le_of_ble_eq_true rfl⟩) (xr_rv hK hw 0 0 rfl rfl) rfl hl.1 rfl (Nat.le_of_ble_eq_true rfl) dJ2_get_11 ⟨(Nat.le_of_ble_eq_true rfl), (Nat.le_of_ble_eq_true rfl)⟩ (fun _ _ _ _ _ _ h => h.elim) (fun v9 LL1 H locs hp hw => ?_)
  obtain ⟨rfl, rfl⟩ := hp
  have hw : Wd D A s.heap _ _ [[ob a 15 [.int u, .ref d, .int (nI xs.length)], (d, aR dT 1 cap (fun i => xs[i]?))]] := hw
  refine W.eq (g2 := F0 m 14 ls [.ref x]) rfl ?_
  exact xr_aret hf hr (by first | exact Or.inl ⟨_, rfl⟩ | exact Or.inr ⟨_, rfl⟩) (Or.inr ⟨_, rfl⟩) hlocks hw (Nat.le_of_ble_eq_true rfl) (Nat.le_of_ble_eq_true rfl) ⟨rfl, rfl⟩ dJ2_get_14

set_option maxHeartbeats 4000000 in
theorem k_J11_next (l : Launch) (D : va_G) (dT g : Nat → Nat) (z0 : Nat) (q : Nat) (last : Int32) (a : Nat) (d : Nat) (cap : Nat) (u : Int32) (xs : List Nat) (k : Nat) (x : Nat) (hc : xs.length ≤ cap) (hC : cap < 4096) (hk : k < xs.length) (hxk : xs[k]? = some x) : Con l D dT g z0 yJ11_next (ws_ yJ11_next cJ11_next 3 (some (.object "java/lang/Object"))) ({ frames := 2, cells := 0, slots := 0, locals := 60 }) [.ref q] [[ob q 16 [.int (nI k), .int last, .int u, .ref a]], [ob a 15 [.int u, .ref d, .int (nI xs.length)], (d, aR dT 1 cap (fun i => xs[i]?))]] (fun r LL => r = some (.ref x) ∧ LL = [[ob q 16 [.int (nI (k + 1)), .int (nI k), .int u, .ref a]], [ob a 15 [.int u, .ref d, .int (nI xs.length)], (d, aR dT 1 cap (fun i => xs[i]?))]]) noX 0 0 := by
  refine Con.of (maxL := 3) (ret := (some (.object "java/lang/Object"))) (by first | exact plainFor_of_name (by decide) | decide +kernel) (Nat.le_of_ble_eq_true rfl) ?_
  intro p e s m args below meth c A ls hf hr hlocks hnm hno hK hA hAz hw hl hst
  have hf : CallFix p m c cJ11_next 3 s args lw_all "java/util/ArrayList$Itr" := hf
  have hnm : meth.name = "next" := hnm
  have hx := hf.1
  have hb := hf.2.1
  have hts := hf.2.2.2.2
  have hl : lv_has ls 3 [(0, .ref q)] := hl
  have hw : Wd D A s.heap s.heap [] [[ob q 16 [.int (nI k), .int last, .int u, .ref a]], [ob a 15 [.int u, .ref d, .int (nI xs.length)], (d, aR dT 1 cap (fun i => xs[i]?))]] := hw
  refine lv_aload_n hx hb dJ11_next_0 rfl (lv_at hl 0 rfl) ?_
  refine xc_V (rest := []) (As := []) hf hK hA hAz hst (hw.pick [0, 0] rfl rfl rfl) (k_J11_checkForComodification l D dT g z0 q (nI k) last a u (nI xs.length) (.ref d) ((d, aR dT 1 cap (fun i => xs[i]?)) :: [])) (cwV 0 hts (lw_V q337 q338 q339 q65 q340) rfl rfl rfl (by decide +kernel) ⟨Nat.le_of_ble_eq_true rfl, Nat.le_of_ble_eq_true rfl⟩) (xr_rv hK hw 0 0 rfl rfl) rfl hl.1 rfl (Nat.le_of_ble_eq_true rfl) dJ11_next_1 ⟨(Nat.le_of_ble_eq_true rfl), (Nat.le_of_ble_eq_true rfl)⟩ (fun _ _ _ _ _ _ h => h.elim) (fun v9 LL1 H locs hp hw => ?_)
  obtain ⟨rfl, rfl⟩ := hp
  have hw : Wd D A s.heap _ _ [[ob q 16 [.int (nI k), .int last, .int u, .ref a]], [ob a 15 [.int u, .ref d, .int (nI xs.length)], (d, aR dT 1 cap (fun i => xs[i]?))]] := hw
  refine W.eq (g2 := F0 m 4 ls []) rfl ?_
  refine lv_aload_n hx hb dJ11_next_4 rfl (lv_at hl 0 rfl) ?_
  refine xr_get hf hK hw 0 0 rfl rfl in_J11 0 (by decide) q305 (fun _ h => h) rfl dJ11_next_5 ?_
  refine lv_istore_n (lv' := [(1, .int (nI k)), (0, .ref q)]) hx hb dJ11_next_8 rfl hl (by decide) rfl (fun ls hl => ?_)
  refine lv_iload_n hx hb dJ11_next_9 rfl (lv_at hl 0 rfl) ?_
  refine lv_aload_n hx hb dJ11_next_10 rfl (lv_at hl 1 rfl) ?_
  refine xr_get hf hK hw 0 0 rfl rfl in_J11 3 (by decide) q308 (fun _ h => h) rfl dJ11_next_11 ?_
  refine xr_getN hf hK hw 1 0 rfl rfl in_J2 2 (by decide) q101 (fun _ h => h) rfl dJ11_next_14 ?_
  refine lv_icmp_lt (tgt := 28) hx hb dJ11_next_17 (by decide) (fun _ => ?_) (fun c9 => absurd c9 (not_not_intro (nI_lt hk (by omega))))
  refine lv_aload_n hx hb dJ11_next_28 rfl (lv_at hl 1 rfl) ?_
  refine xr_get hf hK hw 0 0 rfl rfl in_J11 3 (by decide) q308 (fun _ h => h) rfl dJ11_next_29 ?_
  refine xr_get hf hK hw 1 0 rfl rfl in_J2 1 (by decide) q100 (fun _ h => h) rfl dJ11_next_32 ?_
  refine lv_astore_n (lv' := [(2, .ref d), (1, .int (nI k)), (0, .ref q)]) hx hb dJ11_next_35 rfl hl (by decide) rfl (fun ls hl => ?_)
  refine lv_iload_n hx hb dJ11_next_36 rfl (lv_at hl 1 rfl) ?_
  refine lv_aload_n hx hb dJ11_next_37 rfl (lv_at hl 0 rfl) ?_
  refine xr_rlen (v := nI cap) hf hK hw 1 1 rfl rfl rfl dJ11_next_38 ?_
  refine lv_icmp_lt (tgt := 50) hx hb dJ11_next_39 (by decide) (fun _ => ?_) (fun c9 => absurd c9 (not_not_intro (nI_lt (by omega) (by omega))))
  refine lv_aload_n hx hb dJ11_next_50 rfl (lv_at hl 2 rfl) ?_
  refine lv_iload_n hx hb dJ11_next_51 rfl (lv_at hl 1 rfl) ?_
  refine lv_iconst (v := 1) hx hb dJ11_next_52 (by decide) ?_
  refine lv_iadd hx hb dJ11_next_53 ?_
  refine lv_as (y := (nI (k + 1))) (nI_1 _) ?_
  refine xr_put (LL' := [[ob q 16 [.int (nI (k + 1)), .int last, .int u, .ref a]], [ob a 15 [.int u, .ref d, .int (nI xs.length)], (d, aR dT 1 cap (fun i => xs[i]?))]]) hf hK hw 0 0 rfl rfl in_J11 tyJ11_ok nmJ11 0 (by decide) q305 (fun _ h => h) rfl rfl rfl (Nat.le_of_ble_eq_true rfl) rfl dJ11_next_54 (fun H locs hw => ?_)
  refine lv_aload_n hx hb dJ11_next_57 rfl (lv_at hl 0 rfl) ?_
  refine lv_aload_n hx hb dJ11_next_58 rfl (lv_at hl 2 rfl) ?_
  refine lv_iload_n hx hb dJ11_next_59 rfl (lv_at hl 1 rfl) ?_
  refine lv_dup_x1 hx hb dJ11_next_60 rfl rfl ?_
  refine xr_put (LL' := [[ob q 16 [.int (nI (k + 1)), .int (nI k), .int u, .ref a]], [ob a 15 [.int u, .ref d, .int (nI xs.length)], (d, aR dT 1 cap (fun i => xs[i]?))]]) hf hK hw 0 0 rfl rfl in_J11 tyJ11_ok nmJ11 1 (by decide) q306 (fun _ h => h) rfl rfl rfl (Nat.le_of_ble_eq_true rfl) rfl dJ11_next_61 (fun H locs hw => ?_)
  refine xr_aald (r := (some x)) hf hK hw 1 1 rfl rfl k (nI_pos (by omega)) (nI_clamp (by omega)) (by omega) hxk dJ11_next_64 ?_
  exact xr_aret hf hr (by first | exact Or.inl ⟨_, rfl⟩ | exact Or.inr ⟨_, rfl⟩) (Or.inr ⟨_, rfl⟩) hlocks hw (Nat.le_of_ble_eq_true rfl) (Nat.le_of_ble_eq_true rfl) ⟨rfl, rfl⟩ dJ11_next_65

