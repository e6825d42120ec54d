/-! 71.mchecks (printed by gen/silk.py) -/
set_option maxRecDepth 100000
set_option maxHeartbeats 4000000 in
theorem k_X4_isIn_no (l : Launch) (D : va_G) (dT g : Nat → Nat) (z0 : Nat) (v : Int32) (lo : Int32) (hi : Int32) (h : v < lo ∨ hi < v) : Con l D dT g z0 yX4_isIn (ws_ yX4_isIn cX4_isIn 3 (some .boolean)) ({ frames := 1, cells := 0, slots := 0, locals := 40 }) [.int v, .int lo, .int hi] [] (fun r LL => r = some (.int 0) ∧ LL = []) noX 0 0 := by
  refine Con.of (maxL := 3) (ret := (some .boolean)) (by first | exact plainFor_of_name (by decide) | decide +kernel) (Nat.le_of_ble_eq_true rfl) ?_
  intro p e s m args below meth c A ls hf hr hlocks hnm hno hK hA hAz hw hl hst
  have hf : CallFix p m c cX4_isIn 3 s args lw_all "SilkRowModel" := hf
  have hnm : meth.name = "isIn" := hnm
  have hx := hf.1
  have hb := hf.2.1
  have hts := hf.2.2.2.2
  have hl : lv_has ls 3 [(0, .int v), (1, .int lo), (2, .int hi)] := hl
  have hw : Wd D A s.heap s.heap [] [] := hw
  refine lv_iload_n hx hb dX4_isIn_0 rfl (lv_at hl 0 rfl) ?_
  refine lv_iload_n hx hb dX4_isIn_1 rfl (lv_at hl 1 rfl) ?_
  refine lv_icmp_lt (tgt := 14) hx hb dX4_isIn_2 (by decide) (fun c_2 => ?_) (fun c_2 => ?_)
  · refine lv_iconst (v := 0) hx hb dX4_isIn_14 (by decide) ?_
    exact xr_zret hf hr hlocks hw (Nat.le_of_ble_eq_true rfl) (Nat.le_of_ble_eq_true rfl) rfl ⟨rfl, rfl⟩ dX4_isIn_15
  · refine lv_iload_n hx hb dX4_isIn_5 rfl (lv_at hl 0 rfl) ?_
    refine lv_iload_n hx hb dX4_isIn_6 rfl (lv_at hl 2 rfl) ?_
    refine lv_icmp_gt (tgt := 14) hx hb dX4_isIn_7 (by decide) (fun _ => ?_) (fun c9 => absurd c9 (not_not_intro (h.resolve_left c_2)))
    refine lv_iconst (v := 0) hx hb dX4_isIn_14 (by decide) ?_
    exact xr_zret hf hr hlocks hw (Nat.le_of_ble_eq_true rfl) (Nat.le_of_ble_eq_true rfl) rfl ⟨rfl, rfl⟩ dX4_isIn_15

set_option maxHeartbeats 4000000 in
theorem k_X4_isIn_in (l : Launch) (D : va_G) (dT g : Nat → Nat) (z0 : Nat) (v : Int32) (lo : Int32) (hi : Int32) (h : ¬ (v < lo ∨ hi < v)) : Con l D dT g z0 yX4_isIn (ws_ yX4_isIn cX4_isIn 3 (some .boolean)) ({ frames := 1, cells := 0, slots := 0, locals := 40 }) [.int v, .int lo, .int hi] [] (fun r LL => r = some (.int 1) ∧ LL = []) noX 0 0 := by
  refine Con.of (maxL := 3) (ret := (some .boolean)) (by first | exact plainFor_of_name (by decide) | decide +kernel) (Nat.le_of_ble_eq_true rfl) ?_
  intro p e s m args below meth c A ls hf hr hlocks hnm hno hK hA hAz hw hl hst
  have hf : CallFix p m c cX4_isIn 3 s args lw_all "SilkRowModel" := hf
  have hnm : meth.name = "isIn" := hnm
  have hx := hf.1
  have hb := hf.2.1
  have hts := hf.2.2.2.2
  have hl : lv_has ls 3 [(0, .int v), (1, .int lo), (2, .int hi)] := hl
  have hw : Wd D A s.heap s.heap [] [] := hw
  refine lv_iload_n hx hb dX4_isIn_0 rfl (lv_at hl 0 rfl) ?_
  refine lv_iload_n hx hb dX4_isIn_1 rfl (lv_at hl 1 rfl) ?_
  refine lv_icmp_lt (tgt := 14) hx hb dX4_isIn_2 (by decide) (fun c9 => absurd c9 (fun z9 => h (Or.inl z9))) (fun _ => ?_)
  refine lv_iload_n hx hb dX4_isIn_5 rfl (lv_at hl 0 rfl) ?_
  refine lv_iload_n hx hb dX4_isIn_6 rfl (lv_at hl 2 rfl) ?_
  refine lv_icmp_gt (tgt := 14) hx hb dX4_isIn_7 (by decide) (fun c9 => absurd c9 (fun z9 => h (Or.inr z9))) (fun _ => ?_)
  refine lv_iconst (v := 1) hx hb dX4_isIn_10 (by decide) ?_
  refine lv_goto (tgt := 15) hx hb dX4_isIn_11 (by decide) ?_
  exact xr_zret hf hr hlocks hw (Nat.le_of_ble_eq_true rfl) (Nat.le_of_ble_eq_true rfl) rfl ⟨rfl, rfl⟩ dX4_isIn_15

set_option maxHeartbeats 4000000 in
theorem k_X4_isNoLine_yes (l : Launch) (D : va_G) (dT g : Nat → Nat) (z0 : Nat) (v : Int32) (h : v < 0 ∨ 3 < v) : Con l D dT g z0 yX4_isNoLine (ws_ yX4_isNoLine cX4_isNoLine 1 (some .boolean)) ({ frames := 2, cells := 0, slots := 0, locals := 62 }) [.int v] [] (fun r LL => r = some (.int 1) ∧ LL = []) noX 0 0 := by
  refine Con.of (maxL := 1) (ret := (some .boolean)) (by first | exact plainFor_of_name (by decide) | decide +kernel) (Nat.le_of_ble_eq_true rfl) ?_
  intro p e s m args below meth c A ls hf hr hlocks hnm hno hK hA hAz hw hl hst
  have hf : CallFix p m c cX4_isNoLine 1 s args lw_all "SilkRowModel" := hf
  have hnm : meth.name = "isNoLine" := hnm
  have hx := hf.1
  have hb := hf.2.1
  have hts := hf.2.2.2.2
  have hl : lv_has ls 1 [(0, .int v)] := hl
  have hw : Wd D A s.heap s.heap [] [] := hw
  refine lv_iload_n hx hb dX4_isNoLine_0 rfl (lv_at hl 0 rfl) ?_
  refine lv_iconst (v := 0) hx hb dX4_isNoLine_1 (by decide) ?_
  refine lv_iconst (v := 3) hx hb dX4_isNoLine_2 (by decide) ?_
  refine xc_S (rest := []) (As := [.int v, .int 0, .int 3]) hf hK hA hAz hst (hw.pick [] rfl rfl rfl) (k_X4_isIn_no l D dT g z0 v 0 3 h) (va_cwS 3 hts (lw_S q1231 q1232 q54 q1233) rfl rfl rfl (by decide +kernel) ⟨Nat.le_of_ble_eq_true rfl, Nat.le_of_ble_eq_true rfl⟩) rfl hl.1 rfl (Nat.le_of_ble_eq_true rfl) dX4_isNoLine_3 ⟨(Nat.le_of_ble_eq_true rfl), (Nat.le_of_ble_eq_true rfl)⟩ (fun _ _ _ _ _ _ h => h.elim) (fun v9 LL1 H locs hp hw => ?_)
  obtain ⟨rfl, rfl⟩ := hp
  have hw : Wd D A s.heap _ _ [] := hw
  refine W.eq (g2 := F0 m 6 ls [.int 0]) rfl ?_
  refine lv_if_ne (tgt := 13) hx hb dX4_isNoLine_6 (by decide) (fun c9 => absurd c9 (by decide)) (fun _ => ?_)
  refine lv_iconst (v := 1) hx hb dX4_isNoLine_9 (by decide) ?_
  refine lv_goto (tgt := 14) hx hb dX4_isNoLine_10 (by decide) ?_
  exact xr_zret hf hr hlocks hw (Nat.le_of_ble_eq_true rfl) (Nat.le_of_ble_eq_true rfl) rfl ⟨rfl, rfl⟩ dX4_isNoLine_14

set_option maxHeartbeats 4000000 in
theorem k_X4_isNoLine_no (l : Launch) (D : va_G) (dT g : Nat → Nat) (z0 : Nat) (v : Int32) (h : ¬ (v < 0 ∨ 3 < v)) : Con l D dT g z0 yX4_isNoLine (ws_ yX4_isNoLine cX4_isNoLine 1 (some .boolean)) ({ frames := 2, cells := 0, slots := 0, locals := 62 }) [.int v] [] (fun r LL => r = some (.int 0) ∧ LL = []) noX 0 0 := by
  refine Con.of (maxL := 1) (ret := (some .boolean)) (by first | exact plainFor_of_name (by decide) | decide +kernel) (Nat.le_of_ble_eq_true rfl) ?_
  intro p e s m args below meth c A ls hf hr hlocks hnm hno hK hA hAz hw hl hst
  have hf : CallFix p m c cX4_isNoLine 1 s args lw_all "SilkRowModel" := hf
  have hnm : meth.name = "isNoLine" := hnm
  have hx := hf.1
  have hb := hf.2.1
  have hts := hf.2.2.2.2
  have hl : lv_has ls 1 [(0, .int v)] := hl
  have hw : Wd D A s.heap s.heap [] [] := hw
  refine lv_iload_n hx hb dX4_isNoLine_0 rfl (lv_at hl 0 rfl) ?_
  refine lv_iconst (v := 0) hx hb dX4_isNoLine_1 (by decide) ?_
  refine lv_iconst (v := 3) hx hb dX4_isNoLine_2 (by decide) ?_
  refine xc_S (rest := []) (As := [.int v, .int 0, .int 3]) hf hK hA hAz hst (hw.pick [] rfl rfl rfl) (k_X4_isIn_in l D dT g z0 v 0 3 h) (va_cwS 3 hts (lw_S q1231 q1232 q54 q1233) rfl rfl rfl (by decide +kernel) ⟨Nat.le_of_ble_eq_true rfl, Nat.le_of_ble_eq_true rfl⟩) rfl hl.1 rfl (Nat.le_of_ble_eq_true rfl) dX4_isNoLine_3 ⟨(Nat.le_of_ble_eq_true rfl), (Nat.le_of_ble_eq_true rfl)⟩ (fun _ _ _ _ _ _ h => h.elim) (fun v9 LL1 H locs hp hw => ?_)
  obtain ⟨rfl, rfl⟩ := hp
  have hw : Wd D A s.heap _ _ [] := hw
  refine W.eq (g2 := F0 m 6 ls [.int 1]) rfl ?_
  refine lv_if_ne (tgt := 13) hx hb dX4_isNoLine_6 (by decide) (fun _ => ?_) (fun c9 => absurd c9 (by decide))
  refine lv_iconst (v := 0) hx hb dX4_isNoLine_13 (by decide) ?_
  exact xr_zret hf hr hlocks hw (Nat.le_of_ble_eq_true rfl) (Nat.le_of_ble_eq_true rfl) rfl ⟨rfl, rfl⟩ dX4_isNoLine_14

set_option maxHeartbeats 4000000 in
theorem k_X4_isNoTray_yes (l : Launch) (D : va_G) (dT g : Nat → Nat) (z0 : Nat) (v : Int32) (h : v < 0 ∨ 5 < v) : Con l D dT g z0 yX4_isNoTray (ws_ yX4_isNoTray cX4_isNoTray 1 (some .boolean)) ({ frames := 2, cells := 0, slots := 0, locals := 62 }) [.int v] [] (fun r LL => r = some (.int 1) ∧ LL = []) noX 0 0 := by
  refine Con.of (maxL := 1) (ret := (some .boolean)) (by first | exact plainFor_of_name (by decide) | decide +kernel) (Nat.le_of_ble_eq_true rfl) ?_
  intro p e s m args below meth c A ls hf hr hlocks hnm hno hK hA hAz hw hl hst
  have hf : CallFix p m c cX4_isNoTray 1 s args lw_all "SilkRowModel" := hf
  have hnm : meth.name = "isNoTray" := hnm
  have hx := hf.1
  have hb := hf.2.1
  have hts := hf.2.2.2.2
  have hl : lv_has ls 1 [(0, .int v)] := hl
  have hw : Wd D A s.heap s.heap [] [] := hw
  refine lv_iload_n hx hb dX4_isNoTray_0 rfl (lv_at hl 0 rfl) ?_
  refine lv_iconst (v := 0) hx hb dX4_isNoTray_1 (by decide) ?_
  refine lv_iconst (v := 5) hx hb dX4_isNoTray_2 (by decide) ?_
  refine xc_S (rest := []) (As := [.int v, .int 0, .int 5]) hf hK hA hAz hst (hw.pick [] rfl rfl rfl) (k_X4_isIn_no l D dT g z0 v 0 5 h) (va_cwS 3 hts (lw_S q1231 q1232 q54 q1233) rfl rfl rfl (by decide +kernel) ⟨Nat.le_of_ble_eq_true rfl, Nat.le_of_ble_eq_true rfl⟩) rfl hl.1 rfl (Nat.le_of_ble_eq_true rfl) dX4_isNoTray_3 ⟨(Nat.le_of_ble_eq_true rfl), (Nat.le_of_ble_eq_true rfl)⟩ (fun _ _ _ _ _ _ h => h.elim) (fun v9 LL1 H locs hp hw => ?_)
  obtain ⟨rfl, rfl⟩ := hp
  have hw : Wd D A s.heap _ _ [] := hw
  refine W.eq (g2 := F0 m 6 ls [.int 0]) rfl ?_
  refine lv_if_ne (tgt := 13) hx hb dX4_isNoTray_6 (by decide) (fun c9 => absurd c9 (by decide)) (fun _ => ?_)
  refine lv_iconst (v := 1) hx hb dX4_isNoTray_9 (by decide) ?_
  refine lv_goto (tgt := 14) hx hb dX4_isNoTray_10 (by decide) ?_
  exact xr_zret hf hr hlocks hw (Nat.le_of_ble_eq_true rfl) (Nat.le_of_ble_eq_true rfl) rfl ⟨rfl, rfl⟩ dX4_isNoTray_14

set_option maxHeartbeats 4000000 in
theorem k_X4_isNoTray_no (l : Launch) (D : va_G) (dT g : Nat → Nat) (z0 : Nat) (v : Int32) (h : ¬ (v < 0 ∨ 5 < v)) : Con l D dT g z0 yX4_isNoTray (ws_ yX4_isNoTray cX4_isNoTray 1 (some .boolean)) ({ frames := 2, cells := 0, slots := 0, locals := 62 }) [.int v] [] (fun r LL => r = some (.int 0) ∧ LL = []) noX 0 0 := by
  refine Con.of (maxL := 1) (ret := (some .boolean)) (by first | exact plainFor_of_name (by decide) | decide +kernel) (Nat.le_of_ble_eq_true rfl) ?_
  intro p e s m args below meth c A ls hf hr hlocks hnm hno hK hA hAz hw hl hst
  have hf : CallFix p m c cX4_isNoTray 1 s args lw_all "SilkRowModel" := hf
  have hnm : meth.name = "isNoTray" := hnm
  have hx := hf.1
  have hb := hf.2.1
  have hts := hf.2.2.2.2
  have hl : lv_has ls 1 [(0, .int v)] := hl
  have hw : Wd D A s.heap s.heap [] [] := hw
  refine lv_iload_n hx hb dX4_isNoTray_0 rfl (lv_at hl 0 rfl) ?_
  refine lv_iconst (v := 0) hx hb dX4_isNoTray_1 (by decide) ?_
  refine lv_iconst (v := 5) hx hb dX4_isNoTray_2 (by decide) ?_
  refine xc_S (rest := []) (As := [.int v, .int 0, .int 5]) hf hK hA hAz hst (hw.pick [] rfl rfl rfl) (k_X4_isIn_in l D dT g z0 v 0 5 h) (va_cwS 3 hts (lw_S q1231 q1232 q54 q1233) rfl rfl rfl (by decide +kernel) ⟨Nat.le_of_ble_eq_true rfl, Nat.le_of_ble_eq_true rfl⟩) rfl hl.1 rfl (Nat.le_of_ble_eq_true rfl) dX4_isNoTray_3 ⟨(Nat.le_of_ble_eq_true rfl), (Nat.le_of_ble_eq_true rfl)⟩ (fun _ _ _ _ _ _ h => h.elim) (fun v9 LL1 H locs hp hw => ?_)
  obtain ⟨rfl, rfl⟩ := hp
  have hw : Wd D A s.heap _ _ [] := hw
  refine W.eq (g2 := F0 m 6 ls [.int 1]) rfl ?_
  refine lv_if_ne (tgt := 13) hx hb dX4_isNoTray_6 (by decide) (fun _ => ?_) (fun c9 => absurd c9 (by decide))
  refine lv_iconst (v := 0) hx hb dX4_isNoTray_13 (by decide) ?_
  exact xr_zret hf hr hlocks hw (Nat.le_of_ble_eq_true rfl) (Nat.le_of_ble_eq_true rfl) rfl ⟨rfl, rfl⟩ dX4_isNoTray_14

set_option maxHeartbeats 4000000 in
theorem k_X4_isNoBasin_yes (l : Launch) (D : va_G) (dT g : Nat → Nat) (z0 : Nat) (v : Int32) (h : v < 0 ∨ 1 < v) : Con l D dT g z0 yX4_isNoBasin (ws_ yX4_isNoBasin cX4_isNoBasin 1 (some .boolean)) ({ frames := 2, cells := 0, slots := 0, locals := 62 }) [.int v] [] (fun r LL => r = some (.int 1) ∧ LL = []) noX 0 0 := by
  refine Con.of (maxL := 1) (ret := (some .boolean)) (by first | exact plainFor_of_name (by decide) | decide +kernel) (Nat.le_of_ble_eq_true rfl) ?_
  intro p e s m args below meth c A ls hf hr hlocks hnm hno hK hA hAz hw hl hst
  have hf : CallFix p m c cX4_isNoBasin 1 s args lw_all "SilkRowModel" := hf
  have hnm : meth.name = "isNoBasin" := hnm
  have hx := hf.1
  have hb := hf.2.1
  have hts := hf.2.2.2.2
  have hl : lv_has ls 1 [(0, .int v)] := hl
  have hw : Wd D A s.heap s.heap [] [] := hw
  refine lv_iload_n hx hb dX4_isNoBasin_0 rfl (lv_at hl 0 rfl) ?_
  refine lv_iconst (v := 0) hx hb dX4_isNoBasin_1 (by decide) ?_
  refine lv_iconst (v := 1) hx hb dX4_isNoBasin_2 (by decide) ?_
  refine xc_S (rest := []) (As := [.int v, .int 0, .int 1]) hf hK hA hAz hst (hw.pick [] rfl rfl rfl) (k_X4_isIn_no l D dT g z0 v 0 1 h) (va_cwS 3 hts (lw_S q1231 q1232 q54 q1233) rfl rfl rfl (by decide +kernel) ⟨Nat.le_of_ble_eq_true rfl, Nat.le_of_ble_eq_true rfl⟩) rfl hl.1 rfl (Nat.le_of_ble_eq_true rfl) dX4_isNoBasin_3 ⟨(Nat.le_of_ble_eq_true rfl), (Nat.le_of_ble_eq_true rfl)⟩ (fun _ _ _ _ _ _ h => h.elim) (fun v9 LL1 H locs hp hw => ?_)
  obtain ⟨rfl, rfl⟩ := hp
  have hw : Wd D A s.heap _ _ [] := hw
  refine W.eq (g2 := F0 m 6 ls [.int 0]) rfl ?_
  refine lv_if_ne (tgt := 13) hx hb dX4_isNoBasin_6 (by decide) (fun c9 => absurd c9 (by decide)) (fun _ => ?_)
  refine lv_iconst (v := 1) hx hb dX4_isNoBasin_9 (by decide) ?_
  refine lv_goto (tgt := 14) hx hb dX4_isNoBasin_10 (by decide) ?_
  exact xr_zret hf hr hlocks hw (Nat.le_of_ble_eq_true rfl) (Nat.le_of_ble_eq_true rfl) rfl ⟨rfl, rfl⟩ dX4_isNoBasin_14

set_option maxHeartbeats 4000000 in
theorem k_X4_isNoBasin_no (l : Launch) (D : va_G) (dT g : Nat → Nat) (z0 : Nat) (v : Int32) (h : ¬ (v < 0 ∨ 1 < v)) : Con l D dT g z0 yX4_isNoBasin (ws_ yX4_isNoBasin cX4_isNoBasin 1 (some .boolean)) ({ frames := 2, cells := 0, slots := 0, locals := 62 }) [.int v] [] (fun r LL => r = some (.int 0) ∧ LL = []) noX 0 0 := by
  refine Con.of (maxL := 1) (ret := (some .boolean)) (by first | exact plainFor_of_name (by decide) | decide +kernel) (Nat.le_of_ble_eq_true rfl) ?_
  intro p e s m args below meth c A ls hf hr hlocks hnm hno hK hA hAz hw hl hst
  have hf : CallFix p m c cX4_isNoBasin 1 s args lw_all "SilkRowModel" := hf
  have hnm : meth.name = "isNoBasin" := hnm
  have hx := hf.1
  have hb := hf.2.1
  have hts := hf.2.2.2.2
  have hl : lv_has ls 1 [(0, .int v)] := hl
  have hw : Wd D A s.heap s.heap [] [] := hw
  refine lv_iload_n hx hb dX4_isNoBasin_0 rfl (lv_at hl 0 rfl) ?_
  refine lv_iconst (v := 0) hx hb dX4_isNoBasin_1 (by decide) ?_
  refine lv_iconst (v := 1) hx hb dX4_isNoBasin_2 (by decide) ?_
  refine xc_S (rest := []) (As := [.int v, .int 0, .int 1]) hf hK hA hAz hst (hw.pick [] rfl rfl rfl) (k_X4_isIn_in l D dT g z0 v 0 1 h) (va_cwS 3 hts (lw_S q1231 q1232 q54 q1233) rfl rfl rfl (by decide +kernel) ⟨Nat.le_of_ble_eq_true rfl, Nat.le_of_ble_eq_true rfl⟩) rfl hl.1 rfl (Nat.le_of_ble_eq_true rfl) dX4_isNoBasin_3 ⟨(Nat.le_of_ble_eq_true rfl), (Nat.le_of_ble_eq_true rfl)⟩ (fun _ _ _ _ _ _ h => h.elim) (fun v9 LL1 H locs hp hw => ?_)
  obtain ⟨rfl, rfl⟩ := hp
  have hw : Wd D A s.heap _ _ [] := hw
  refine W.eq (g2 := F0 m 6 ls [.int 1]) rfl ?_
  refine lv_if_ne (tgt := 13) hx hb dX4_isNoBasin_6 (by decide) (fun _ => ?_) (fun c9 => absurd c9 (by decide))
  refine lv_iconst (v := 0) hx hb dX4_isNoBasin_13 (by decide) ?_
  exact xr_zret hf hr hlocks hw (Nat.le_of_ble_eq_true rfl) (Nat.le_of_ble_eq_true rfl) rfl ⟨rfl, rfl⟩ dX4_isNoBasin_14

set_option maxHeartbeats 4000000 in
theorem k_X4_isNoPlot_yes (l : Launch) (D : va_G) (dT g : Nat → Nat) (z0 : Nat) (x : Nat) (th : Int32) (L : Nat → Nat) (sc : Nat → Int32) (u : Int32) (w : Value) (T : va_W) (n : Nat) (v : Int32) (hn : n < 4096) (h : v < 0 ∨ ¬ v < nI n) : Con l D dT g z0 yX4_isNoPlot (ws_ yX4_isNoPlot cX4_isNoPlot 2 (some .boolean)) ({ frames := 2, cells := 0, slots := 0, locals := 62 }) [.ref x, .int v] [[ob x 3 [.int th, .ref (L 0), .ref (L 1), .ref (L 2), .ref (L 3), .ref (L 4), .ref (L 5), .int (sc 0), .int (bz (sc 1)), .int (sc 2), .int (sc 3), .int (sc 4), .int (sc 5), .int (sc 6)]], ((ob (L 0) 15 [.int u, w, .int (nI n)]) :: T)] (fun r LL => r = some (.int 1) ∧ LL = [[ob x 3 [.int th, .ref (L 0), .ref (L 1), .ref (L 2), .ref (L 3), .ref (L 4), .ref (L 5), .int (sc 0), .int (bz (sc 1)), .int (sc 2), .int (sc 3), .int (sc 4), .int (sc 5), .int (sc 6)]], ((ob (L 0) 15 [.int u, w, .int (nI n)]) :: T)]) noX 0 0 := by
  refine Con.of (maxL := 2) (ret := (some .boolean)) (by first | exact plainFor_of_name (by decide) | decide +kernel) (Nat.le_of_ble_eq_true rfl) ?_
  intro p e s m args below meth c A ls hf hr hlocks hnm hno hK hA hAz hw hl hst
  have hf : CallFix p m c cX4_isNoPlot 2 s args lw_all "SilkRowModel" := hf
  have hnm : meth.name = "isNoPlot" := hnm
  have hx := hf.1
  have hb := hf.2.1
  have hts := hf.2.2.2.2
  have hl : lv_has ls 2 [(0, .ref x), (1, .int v)] := hl
  have hw : Wd D A s.heap s.heap [] [[ob x 3 [.int th, .ref (L 0), .ref (L 1), .ref (L 2), .ref (L 3), .ref (L 4), .ref (L 5), .int (sc 0), .int (bz (sc 1)), .int (sc 2), .int (sc 3), .int (sc 4), .int (sc 5), .int (sc 6)]], ((ob (L 0) 15 [.int u, w, .int (nI n)]) :: T)] := hw
  refine lv_iload_n hx hb dX4_isNoPlot_0 rfl (lv_at hl 1 rfl) ?_
  refine lv_iconst (v := 0) hx hb dX4_isNoPlot_1 (by decide) ?_
  refine lv_aload_n hx hb dX4_isNoPlot_2 rfl (lv_at hl 0 rfl) ?_
  refine xr_get hf hK hw 0 0 rfl rfl in_X4 1 (by decide) q1181 (fun _ h => h) rfl dX4_isNoPlot_3 ?_
  refine xc_V (rest := [.int 0, .int v]) (As := []) hf hK hA hAz hst (hw.pick [1] rfl rfl rfl) (k_J2_size l D dT g z0 (L 0) u (nI n) (w) (T)) (cwV 0 hts (lw_V q1242 q359 q360 q47 q361) rfl rfl rfl (by decide +kernel) ⟨Nat.le_of_ble_eq_true rfl, Nat.le_of_ble_eq_true rfl⟩) (xr_rv hK hw 1 0 rfl rfl) rfl hl.1 rfl (Nat.le_of_ble_eq_true rfl) dX4_isNoPlot_6 ⟨(Nat.le_of_ble_eq_true rfl), (Nat.le_of_ble_eq_true rfl)⟩ (fun _ _ _ _ _ _ h => h.elim) (fun v9 LL1 H locs hp hw => ?_)
  obtain ⟨rfl, rfl⟩ := hp
  have hw : Wd D A s.heap _ _ [((ob (L 0) 15 [.int u, w, .int (nI n)]) :: T), [ob x 3 [.int th, .ref (L 0), .ref (L 1), .ref (L 2), .ref (L 3), .ref (L 4), .ref (L 5), .int (sc 0), .int (bz (sc 1)), .int (sc 2), .int (sc 3), .int (sc 4), .int (sc 5), .int (sc 6)]]] := hw
  refine W.eq (g2 := F0 m 9 ls [.int (nI n), .int 0, .int v]) rfl ?_
  refine lv_iconst (v := 1) hx hb dX4_isNoPlot_9 (by decide) ?_
  refine lv_isub hx hb dX4_isNoPlot_10 ?_
  refine xc_S (rest := []) (As := [.int v, .int 0, .int ((nI n) - 1)]) hf hK hA hAz hst (hw.pick [] rfl rfl rfl) (k_X4_isIn_no l D dT g z0 v 0 ((nI n) - 1) ((rngM hn).mp h)) (va_cwS 3 hts (lw_S q1231 q1232 q54 q1233) rfl rfl rfl (by decide +kernel) ⟨Nat.le_of_ble_eq_true rfl, Nat.le_of_ble_eq_true rfl⟩) rfl hl.1 rfl (Nat.le_of_ble_eq_true rfl) dX4_isNoPlot_11 ⟨(Nat.le_of_ble_eq_true rfl), (Nat.le_of_ble_eq_true rfl)⟩ (fun _ _ _ _ _ _ h => h.elim) (fun v9 LL1 H locs hp hw => ?_)
  obtain ⟨rfl, rfl⟩ := hp
  have hw : Wd D A s.heap _ _ [((ob (L 0) 15 [.int u, w, .int (nI n)]) :: T), [ob x 3 [.int th, .ref (L 0), .ref (L 1), .ref (L 2), .ref (L 3), .ref (L 4), .ref (L 5), .int (sc 0), .int (bz (sc 1)), .int (sc 2), .int (sc 3), .int (sc 4), .int (sc 5), .int (sc 6)]]] := hw
  refine W.eq (g2 := F0 m 14 ls [.int 0]) rfl ?_
  refine lv_if_ne (tgt := 21) hx hb dX4_isNoPlot_14 (by decide) (fun c9 => absurd c9 (by decide)) (fun _ => ?_)
  refine lv_iconst (v := 1) hx hb dX4_isNoPlot_17 (by decide) ?_
  refine lv_goto (tgt := 22) hx hb dX4_isNoPlot_18 (by decide) ?_
  have hw : Wd D A s.heap _ _ [[ob x 3 [.int th, .ref (L 0), .ref (L 1), .ref (L 2), .ref (L 3), .ref (L 4), .ref (L 5), .int (sc 0), .int (bz (sc 1)), .int (sc 2), .int (sc 3), .int (sc 4), .int (sc 5), .int (sc 6)]], ((ob (L 0) 15 [.int u, w, .int (nI n)]) :: T)] := Wd.take hw [1, 0] rfl rfl
  exact xr_zret hf hr hlocks hw (Nat.le_of_ble_eq_true rfl) (Nat.le_of_ble_eq_true rfl) rfl ⟨rfl, rfl⟩ dX4_isNoPlot_22

set_option maxHeartbeats 4000000 in
theorem k_X4_isNoPlot_no (l : Launch) (D : va_G) (dT g : Nat → Nat) (z0 : Nat) (x : Nat) (th : Int32) (L : Nat → Nat) (sc : Nat → Int32) (u : Int32) (w : Value) (T : va_W) (n : Nat) (v : Int32) (hn : n < 4096) (h : ¬ (v < 0 ∨ ¬ v < nI n)) : Con l D dT g z0 yX4_isNoPlot (ws_ yX4_isNoPlot cX4_isNoPlot 2 (some .boolean)) ({ frames := 2, cells := 0, slots := 0, locals := 62 }) [.ref x, .int v] [[ob x 3 [.int th, .ref (L 0), .ref (L 1), .ref (L 2), .ref (L 3), .ref (L 4), .ref (L 5), .int (sc 0), .int (bz (sc 1)), .int (sc 2), .int (sc 3), .int (sc 4), .int (sc 5), .int (sc 6)]], ((ob (L 0) 15 [.int u, w, .int (nI n)]) :: T)] (fun r LL => r = some (.int 0) ∧ LL = [[ob x 3 [.int th, .ref (L 0), .ref (L 1), .ref (L 2), .ref (L 3), .ref (L 4), .ref (L 5), .int (sc 0), .int (bz (sc 1)), .int (sc 2), .int (sc 3), .int (sc 4), .int (sc 5), .int (sc 6)]], ((ob (L 0) 15 [.int u, w, .int (nI n)]) :: T)]) noX 0 0 := by
  refine Con.of (maxL := 2) (ret := (some .boolean)) (by first | exact plainFor_of_name (by decide) | decide +kernel) (Nat.le_of_ble_eq_true rfl) ?_
  intro p e s m args below meth c A ls hf hr hlocks hnm hno hK hA hAz hw hl hst
  have hf : CallFix p m c cX4_isNoPlot 2 s args lw_all "SilkRowModel" := hf
  have hnm : meth.name = "isNoPlot" := hnm
  have hx := hf.1
  have hb := hf.2.1
  have hts := hf.2.2.2.2
  have hl : lv_has ls 2 [(0, .ref x), (1, .int v)] := hl
  have hw : Wd D A s.heap s.heap [] [[ob x 3 [.int th, .ref (L 0), .ref (L 1), .ref (L 2), .ref (L 3), .ref (L 4), .ref (L 5), .int (sc 0), .int (bz (sc 1)), .int (sc 2), .int (sc 3), .int (sc 4), .int (sc 5), .int (sc 6)]], ((ob (L 0) 15 [.int u, w, .int (nI n)]) :: T)] := hw
  refine lv_iload_n hx hb dX4_isNoPlot_0 rfl (lv_at hl 1 rfl) ?_
  refine lv_iconst (v := 0) hx hb dX4_isNoPlot_1 (by decide) ?_
  refine lv_aload_n hx hb dX4_isNoPlot_2 rfl (lv_at hl 0 rfl) ?_
  refine xr_get hf hK hw 0 0 rfl rfl in_X4 1 (by decide) q1181 (fun _ h => h) rfl dX4_isNoPlot_3 ?_
  refine xc_V (rest := [.int 0, .int v]) (As := []) hf hK hA hAz hst (hw.pick [1] rfl rfl rfl) (k_J2_size l D dT g z0 (L 0) u (nI n) (w) (T)) (cwV 0 hts (lw_V q1242 q359 q360 q47 q361) rfl rfl rfl (by decide +kernel) ⟨Nat.le_of_ble_eq_true rfl, Nat.le_of_ble_eq_true rfl⟩) (xr_rv hK hw 1 0 rfl rfl) rfl hl.1 rfl (Nat.le_of_ble_eq_true rfl) dX4_isNoPlot_6 ⟨(Nat.le_of_ble_eq_true rfl), (Nat.le_of_ble_eq_true rfl)⟩ (fun _ _ _ _ _ _ h => h.elim) (fun v9 LL1 H locs hp hw => ?_)
  obtain ⟨rfl, rfl⟩ := hp
  have hw : Wd D A s.heap _ _ [((ob (L 0) 15 [.int u, w, .int (nI n)]) :: T), [ob x 3 [.int th, .ref (L 0), .ref (L 1), .ref (L 2), .ref (L 3), .ref (L 4), .ref (L 5), .int (sc 0), .int (bz (sc 1)), .int (sc 2), .int (sc 3), .int (sc 4), .int (sc 5), .int (sc 6)]]] := hw
  refine W.eq (g2 := F0 m 9 ls [.int (nI n), .int 0, .int v]) rfl ?_
  refine lv_iconst (v := 1) hx hb dX4_isNoPlot_9 (by decide) ?_
  refine lv_isub hx hb dX4_isNoPlot_10 ?_
  refine xc_S (rest := []) (As := [.int v, .int 0, .int ((nI n) - 1)]) hf hK hA hAz hst (hw.pick [] rfl rfl rfl) (k_X4_isIn_in l D dT g z0 v 0 ((nI n) - 1) (fun z9 => h ((rngM hn).mpr z9))) (va_cwS 3 hts (lw_S q1231 q1232 q54 q1233) rfl rfl rfl (by decide +kernel) ⟨Nat.le_of_ble_eq_true rfl, Nat.le_of_ble_eq_true rfl⟩) rfl hl.1 rfl (Nat.le_of_ble_eq_true rfl) dX4_isNoPlot_11 ⟨(Nat.le_of_ble_eq_true rfl), (Nat.le_of_ble_eq_true rfl)⟩ (fun _ _ _ _ _ _ h => h.elim) (fun v9 LL1 H locs hp hw => ?_)
  obtain ⟨rfl, rfl⟩ := hp
  have hw : Wd D A s.heap _ _ [((ob (L 0) 15 [.int u, w, .int (nI n)]) :: T), [ob x 3 [.int th, .ref (L 0), .ref (L 1), .ref (L 2), .ref (L 3), .ref (L 4), .ref (L 5), .int (sc 0), .int (bz (sc 1)), .int (sc 2), .int (sc 3), .int (sc 4), .int (sc 5), .int (sc 6)]]] := hw
  refine W.eq (g2 := F0 m 14 ls [.int 1]) rfl ?_
  refine lv_if_ne (tgt := 21) hx hb dX4_isNoPlot_14 (by decide) (fun _ => ?_) (fun c9 => absurd c9 (by decide))
  refine lv_iconst (v := 0) hx hb dX4_isNoPlot_21 (by decide) ?_
  have hw : Wd D A s.heap _ _ [[ob x 3 [.int th, .ref (L 0), .ref (L 1), .ref (L 2), .ref (L 3), .ref (L 4), .ref (L 5), .int (sc 0), .int (bz (sc 1)), .int (sc 2), .int (sc 3), .int (sc 4), .int (sc 5), .int (sc 6)]], ((ob (L 0) 15 [.int u, w, .int (nI n)]) :: T)] := Wd.take hw [1, 0] rfl rfl
  exact xr_zret hf hr hlocks hw (Nat.le_of_ble_eq_true rfl) (Nat.le_of_ble_eq_true rfl) rfl ⟨rfl, rfl⟩ dX4_isNoPlot_22

set_option maxHeartbeats 4000000 in
theorem k_X4_isNoLot_yes (l : Launch) (D : va_G) (dT g : Nat → Nat) (z0 : Nat) (x : Nat) (th : Int32) (L : Nat → Nat) (sc : Nat → Int32) (u : Int32) (w : Value) (T : va_W) (n : Nat) (v : Int32) (hn : n < 4096) (h : v < 0 ∨ ¬ v < nI n) : Con l D dT g z0 yX4_isNoLot (ws_ yX4_isNoLot cX4_isNoLot 2 (some .boolean)) ({ frames := 2, cells := 0, slots := 0, locals := 62 }) [.ref x, .int v] [[ob x 3 [.int th, .ref (L 0), .ref (L 1), .ref (L 2), .ref (L 3), .ref (L 4), .ref (L 5), .int (sc 0), .int (bz (sc 1)), .int (sc 2), .int (sc 3), .int (sc 4), .int (sc 5), .int (sc 6)]], ((ob (L 3) 15 [.int u, w, .int (nI n)]) :: T)] (fun r LL => r = some (.int 1) ∧ LL = [[ob x 3 [.int th, .ref (L 0), .ref (L 1), .ref (L 2), .ref (L 3), .ref (L 4), .ref (L 5), .int (sc 0), .int (bz (sc 1)), .int (sc 2), .int (sc 3), .int (sc 4), .int (sc 5), .int (sc 6)]], ((ob (L 3) 15 [.int u, w, .int (nI n)]) :: T)]) noX 0 0 := by
  refine Con.of (maxL := 2) (ret := (some .boolean)) (by first | exact plainFor_of_name (by decide) | decide +kernel) (Nat.le_of_ble_eq_true rfl) ?_
  intro p e s m args below meth c A ls hf hr hlocks hnm hno hK hA hAz hw hl hst
  have hf : CallFix p m c cX4_isNoLot 2 s args lw_all "SilkRowModel" := hf
  have hnm : meth.name = "isNoLot" := hnm
  have hx := hf.1
  have hb := hf.2.1
  have hts := hf.2.2.2.2
  have hl : lv_has ls 2 [(0, .ref x), (1, .int v)] := hl
  have hw : Wd D A s.heap s.heap [] [[ob x 3 [.int th, .ref (L 0), .ref (L 1), .ref (L 2), .ref (L 3), .ref (L 4), .ref (L 5), .int (sc 0), .int (bz (sc 1)), .int (sc 2), .int (sc 3), .int (sc 4), .int (sc 5), .int (sc 6)]], ((ob (L 3) 15 [.int u, w, .int (nI n)]) :: T)] := hw
  refine lv_iload_n hx hb dX4_isNoLot_0 rfl (lv_at hl 1 rfl) ?_
  refine lv_iconst (v := 0) hx hb dX4_isNoLot_1 (by decide) ?_
  refine lv_aload_n hx hb dX4_isNoLot_2 rfl (lv_at hl 0 rfl) ?_
  refine xr_get hf hK hw 0 0 rfl rfl in_X4 4 (by decide) q1184 (fun _ h => h) rfl dX4_isNoLot_3 ?_
  refine xc_V (rest := [.int 0, .int v]) (As := []) hf hK hA hAz hst (hw.pick [1] rfl rfl rfl) (k_J2_size l D dT g z0 (L 3) u (nI n) (w) (T)) (cwV 0 hts (lw_V q1242 q359 q360 q47 q361) rfl rfl rfl (by decide +kernel) ⟨Nat.le_of_ble_eq_true rfl, Nat.le_of_ble_eq_true rfl⟩) (xr_rv hK hw 1 0 rfl rfl) rfl hl.1 rfl (Nat.le_of_ble_eq_true rfl) dX4_isNoLot_6 ⟨(Nat.le_of_ble_eq_true rfl), (Nat.le_of_ble_eq_true rfl)⟩ (fun _ _ _ _ _ _ h => h.elim) (fun v9 LL1 H locs hp hw => ?_)
  obtain ⟨rfl, rfl⟩ := hp
  have hw : Wd D A s.heap _ _ [((ob (L 3) 15 [.int u, w, .int (nI n)]) :: T), [ob x 3 [.int th, .ref (L 0), .ref (L 1), .ref (L 2), .ref (L 3), .ref (L 4), .ref (L 5), .int (sc 0), .int (bz (sc 1)), .int (sc 2), .int (sc 3), .int (sc 4), .int (sc 5), .int (sc 6)]]] := hw
  refine W.eq (g2 := F0 m 9 ls [.int (nI n), .int 0, .int v]) rfl ?_
  refine lv_iconst (v := 1) hx hb dX4_isNoLot_9 (by decide) ?_
  refine lv_isub hx hb dX4_isNoLot_10 ?_
  refine xc_S (rest := []) (As := [.int v, .int 0, .int ((nI n) - 1)]) hf hK hA hAz hst (hw.pick [] rfl rfl rfl) (k_X4_isIn_no l D dT g z0 v 0 ((nI n) - 1) ((rngM hn).mp h)) (va_cwS 3 hts (lw_S q1231 q1232 q54 q1233) rfl rfl rfl (by decide +kernel) ⟨Nat.le_of_ble_eq_true rfl, Nat.le_of_ble_eq_true rfl⟩) rfl hl.1 rfl (Nat.le_of_ble_eq_true rfl) dX4_isNoLot_11 ⟨(Nat.le_of_ble_eq_true rfl), (Nat.le_of_ble_eq_true rfl)⟩ (fun _ _ _ _ _ _ h => h.elim) (fun v9 LL1 H locs hp hw => ?_)
  obtain ⟨rfl, rfl⟩ := hp
  have hw : Wd D A s.heap _ _ [((ob (L 3) 15 [.int u, w, .int (nI n)]) :: T), [ob x 3 [.int th, .ref (L 0), .ref (L 1), .ref (L 2), .ref (L 3), .ref (L 4), .ref (L 5), .int (sc 0), .int (bz (sc 1)), .int (sc 2), .int (sc 3), .int (sc 4), .int (sc 5), .int (sc 6)]]] := hw
  refine W.eq (g2 := F0 m 14 ls [.int 0]) rfl ?_
  refine lv_if_ne (tgt := 21) hx hb dX4_isNoLot_14 (by decide) (fun c9 => absurd c9 (by decide)) (fun _ => ?_)
  refine lv_iconst (v := 1) hx hb dX4_isNoLot_17 (by decide) ?_
  refine lv_goto (tgt := 22) hx hb dX4_isNoLot_18 (by decide) ?_
  have hw : Wd D A s.heap _ _ [[ob x 3 [.int th, .ref (L 0), .ref (L 1), .ref (L 2), .ref (L 3), .ref (L 4), .ref (L 5), .int (sc 0), .int (bz (sc 1)), .int (sc 2), .int (sc 3), .int (sc 4), .int (sc 5), .int (sc 6)]], ((ob (L 3) 15 [.int u, w, .int (nI n)]) :: T)] := Wd.take hw [1, 0] rfl rfl
  exact xr_zret hf hr hlocks hw (Nat.le_of_ble_eq_true rfl) (Nat.le_of_ble_eq_true rfl) rfl ⟨rfl, rfl⟩ dX4_isNoLot_22

set_option maxHeartbeats 4000000 in
theorem k_X4_isNoLot_no (l : Launch) (D : va_G) (dT g : Nat → Nat) (z0 : Nat) (x : Nat) (th : Int32) (L : Nat → Nat) (sc : Nat → Int32) (u : Int32) (w : Value) (T : va_W) (n : Nat) (v : Int32) (hn : n < 4096) (h : ¬ (v < 0 ∨ ¬ v < nI n)) : Con l D dT g z0 yX4_isNoLot (ws_ yX4_isNoLot cX4_isNoLot 2 (some .boolean)) ({ frames := 2, cells := 0, slots := 0, locals := 62 }) [.ref x, .int v] [[ob x 3 [.int th, .ref (L 0), .ref (L 1), .ref (L 2), .ref (L 3), .ref (L 4), .ref (L 5), .int (sc 0), .int (bz (sc 1)), .int (sc 2), .int (sc 3), .int (sc 4), .int (sc 5), .int (sc 6)]], ((ob (L 3) 15 [.int u, w, .int (nI n)]) :: T)] (fun r LL => r = some (.int 0) ∧ LL = [[ob x 3 [.int th, .ref (L 0), .ref (L 1), .ref (L 2), .ref (L 3), .ref (L 4), .ref (L 5), .int (sc 0), .int (bz (sc 1)), .int (sc 2), .int (sc 3), .int (sc 4), .int (sc 5), .int (sc 6)]], ((ob (L 3) 15 [.int u, w, .int (nI n)]) :: T)]) noX 0 0 := by
  refine Con.of (maxL := 2) (ret := (some .boolean)) (by first | exact plainFor_of_name (by decide) | decide +kernel) (Nat.le_of_ble_eq_true rfl) ?_
  intro p e s m args below meth c A ls hf hr hlocks hnm hno hK hA hAz hw hl hst
  have hf : CallFix p m c cX4_isNoLot 2 s args lw_all "SilkRowModel" := hf
  have hnm : meth.name = "isNoLot" := hnm
  have hx := hf.1
  have hb := hf.2.1
  have hts := hf.2.2.2.2
  have hl : lv_has ls 2 [(0, .ref x), (1, .int v)] := hl
  have hw : Wd D A s.heap s.heap [] [[ob x 3 [.int th, .ref (L 0), .ref (L 1), .ref (L 2), .ref (L 3), .ref (L 4), .ref (L 5), .int (sc 0), .int (bz (sc 1)), .int (sc 2), .int (sc 3), .int (sc 4), .int (sc 5), .int (sc 6)]], ((ob (L 3) 15 [.int u, w, .int (nI n)]) :: T)] := hw
  refine lv_iload_n hx hb dX4_isNoLot_0 rfl (lv_at hl 1 rfl) ?_
  refine lv_iconst (v := 0) hx hb dX4_isNoLot_1 (by decide) ?_
  refine lv_aload_n hx hb dX4_isNoLot_2 rfl (lv_at hl 0 rfl) ?_
  refine xr_get hf hK hw 0 0 rfl rfl in_X4 4 (by decide) q1184 (fun _ h => h) rfl dX4_isNoLot_3 ?_
  refine xc_V (rest := [.int 0, .int v]) (As := []) hf hK hA hAz hst (hw.pick [1] rfl rfl rfl) (k_J2_size l D dT g z0 (L 3) u (nI n) (w) (T)) (cwV 0 hts (lw_V q1242 q359 q360 q47 q361) rfl rfl rfl (by decide +kernel) ⟨Nat.le_of_ble_eq_true rfl, Nat.le_of_ble_eq_true rfl⟩) (xr_rv hK hw 1 0 rfl rfl) rfl hl.1 rfl (Nat.le_of_ble_eq_true rfl) dX4_isNoLot_6 ⟨(Nat.le_of_ble_eq_true rfl), (Nat.le_of_ble_eq_true rfl)⟩ (fun _ _ _ _ _ _ h => h.elim) (fun v9 LL1 H locs hp hw => ?_)
  obtain ⟨rfl, rfl⟩ := hp
  have hw : Wd D A s.heap _ _ [((ob (L 3) 15 [.int u, w, .int (nI n)]) :: T), [ob x 3 [.int th, .ref (L 0), .ref (L 1), .ref (L 2), .ref (L 3), .ref (L 4), .ref (L 5), .int (sc 0), .int (bz (sc 1)), .int (sc 2), .int (sc 3), .int (sc 4), .int (sc 5), .int (sc 6)]]] := hw
  refine W.eq (g2 := F0 m 9 ls [.int (nI n), .int 0, .int v]) rfl ?_
  refine lv_iconst (v := 1) hx hb dX4_isNoLot_9 (by decide) ?_
  refine lv_isub hx hb dX4_isNoLot_10 ?_
  refine xc_S (rest := []) (As := [.int v, .int 0, .int ((nI n) - 1)]) hf hK hA hAz hst (hw.pick [] rfl rfl rfl) (k_X4_isIn_in l D dT g z0 v 0 ((nI n) - 1) (fun z9 => h ((rngM hn).mpr z9))) (va_cwS 3 hts (lw_S q1231 q1232 q54 q1233) rfl rfl rfl (by decide +kernel) ⟨Nat.le_of_ble_eq_true rfl, Nat.le_of_ble_eq_true rfl⟩) rfl hl.1 rfl (Nat.le_of_ble_eq_true rfl) dX4_isNoLot_11 ⟨(Nat.le_of_ble_eq_true rfl), (Nat.le_of_ble_eq_true rfl)⟩ (fun _ _ _ _ _ _ h => h.elim) (fun v9 LL1 H locs hp hw => ?_)
  obtain ⟨rfl, rfl⟩ := hp
  have hw : Wd D A s.heap _ _ [((ob (L 3) 15 [.int u, w, .int (nI n)]) :: T), [ob x 3 [.int th, .ref (L 0), .ref (L 1), .ref (L 2), .ref (L 3), .ref (L 4), .ref (L 5), .int (sc 0), .int (bz (sc 1)), .int (sc 2), .int (sc 3), .int (sc 4), .int (sc 5), .int (sc 6)]]] := hw
  refine W.eq (g2 := F0 m 14 ls [.int 1]) rfl ?_
  refine lv_if_ne (tgt := 21) hx hb dX4_isNoLot_14 (by decide) (fun _ => ?_) (fun c9 => absurd c9 (by decide))
  refine lv_iconst (v := 0) hx hb dX4_isNoLot_21 (by decide) ?_
  have hw : Wd D A s.heap _ _ [[ob x 3 [.int th, .ref (L 0), .ref (L 1), .ref (L 2), .ref (L 3), .ref (L 4), .ref (L 5), .int (sc 0), .int (bz (sc 1)), .int (sc 2), .int (sc 3), .int (sc 4), .int (sc 5), .int (sc 6)]], ((ob (L 3) 15 [.int u, w, .int (nI n)]) :: T)] := Wd.take hw [1, 0] rfl rfl
  exact xr_zret hf hr hlocks hw (Nat.le_of_ble_eq_true rfl) (Nat.le_of_ble_eq_true rfl) rfl ⟨rfl, rfl⟩ dX4_isNoLot_22

set_option maxHeartbeats 4000000 in
theorem k_X4_isNoSkein_yes (l : Launch) (D : va_G) (dT g : Nat → Nat) (z0 : Nat) (x : Nat) (th : Int32) (L : Nat → Nat) (sc : Nat → Int32) (u : Int32) (w : Value) (T : va_W) (n : Nat) (v : Int32) (hn : n < 4096) (h : v < 0 ∨ ¬ v < nI n) : Con l D dT g z0 yX4_isNoSkein (ws_ yX4_isNoSkein cX4_isNoSkein 2 (some .boolean)) ({ frames := 2, cells := 0, slots := 0, locals := 62 }) [.ref x, .int v] [[ob x 3 [.int th, .ref (L 0), .ref (L 1), .ref (L 2), .ref (L 3), .ref (L 4), .ref (L 5), .int (sc 0), .int (bz (sc 1)), .int (sc 2), .int (sc 3), .int (sc 4), .int (sc 5), .int (sc 6)]], ((ob (L 5) 15 [.int u, w, .int (nI n)]) :: T)] (fun r LL => r = some (.int 1) ∧ LL = [[ob x 3 [.int th, .ref (L 0), .ref (L 1), .ref (L 2), .ref (L 3), .ref (L 4), .ref (L 5), .int (sc 0), .int (bz (sc 1)), .int (sc 2), .int (sc 3), .int (sc 4), .int (sc 5), .int (sc 6)]], ((ob (L 5) 15 [.int u, w, .int (nI n)]) :: T)]) noX 0 0 := by
  refine Con.of (maxL := 2) (ret := (some .boolean)) (by first | exact plainFor_of_name (by decide) | decide +kernel) (Nat.le_of_ble_eq_true rfl) ?_
  intro p e s m args below meth c A ls hf hr hlocks hnm hno hK hA hAz hw hl hst
  have hf : CallFix p m c cX4_isNoSkein 2 s args lw_all "SilkRowModel" := hf
  have hnm : meth.name = "isNoSkein" := hnm
  have hx := hf.1
  have hb := hf.2.1
  have hts := hf.2.2.2.2
  have hl : lv_has ls 2 [(0, .ref x), (1, .int v)] := hl
  have hw : Wd D A s.heap s.heap [] [[ob x 3 [.int th, .ref (L 0), .ref (L 1), .ref (L 2), .ref (L 3), .ref (L 4), .ref (L 5), .int (sc 0), .int (bz (sc 1)), .int (sc 2), .int (sc 3), .int (sc 4), .int (sc 5), .int (sc 6)]], ((ob (L 5) 15 [.int u, w, .int (nI n)]) :: T)] := hw
  refine lv_iload_n hx hb dX4_isNoSkein_0 rfl (lv_at hl 1 rfl) ?_
  refine lv_iconst (v := 0) hx hb dX4_isNoSkein_1 (by decide) ?_
  refine lv_aload_n hx hb dX4_isNoSkein_2 rfl (lv_at hl 0 rfl) ?_
  refine xr_get hf hK hw 0 0 rfl rfl in_X4 6 (by decide) q1186 (fun _ h => h) rfl dX4_isNoSkein_3 ?_
  refine xc_V (rest := [.int 0, .int v]) (As := []) hf hK hA hAz hst (hw.pick [1] rfl rfl rfl) (k_J2_size l D dT g z0 (L 5) u (nI n) (w) (T)) (cwV 0 hts (lw_V q1242 q359 q360 q47 q361) rfl rfl rfl (by decide +kernel) ⟨Nat.le_of_ble_eq_true rfl, Nat.le_of_ble_eq_true rfl⟩) (xr_rv hK hw 1 0 rfl rfl) rfl hl.1 rfl (Nat.le_of_ble_eq_true rfl) dX4_isNoSkein_6 ⟨(Nat.le_of_ble_eq_true rfl), (Nat.le_of_ble_eq_true rfl)⟩ (fun _ _ _ _ _ _ h => h.elim) (fun v9 LL1 H locs hp hw => ?_)
  obtain ⟨rfl, rfl⟩ := hp
  have hw : Wd D A s.heap _ _ [((ob (L 5) 15 [.int u, w, .int (nI n)]) :: T), [ob x 3 [.int th, .ref (L 0), .ref (L 1), .ref (L 2), .ref (L 3), .ref (L 4), .ref (L 5), .int (sc 0), .int (bz (sc 1)), .int (sc 2), .int (sc 3), .int (sc 4), .int (sc 5), .int (sc 6)]]] := hw
  refine W.eq (g2 := F0 m 9 ls [.int (nI n), .int 0, .int v]) rfl ?_
  refine lv_iconst (v := 1) hx hb dX4_isNoSkein_9 (by decide) ?_
  refine lv_isub hx hb dX4_isNoSkein_10 ?_
  refine xc_S (rest := []) (As := [.int v, .int 0, .int ((nI n) - 1)]) hf hK hA hAz hst (hw.pick [] rfl rfl rfl) (k_X4_isIn_no l D dT g z0 v 0 ((nI n) - 1) ((rngM hn).mp h)) (va_cwS 3 hts (lw_S q1231 q1232 q54 q1233) rfl rfl rfl (by decide +kernel) ⟨Nat.le_of_ble_eq_true rfl, Nat.le_of_ble_eq_true rfl⟩) rfl hl.1 rfl (Nat.le_of_ble_eq_true rfl) dX4_isNoSkein_11 ⟨(Nat.le_of_ble_eq_true rfl), (Nat.le_of_ble_eq_true rfl)⟩ (fun _ _ _ _ _ _ h => h.elim) (fun v9 LL1 H locs hp hw => ?_)
  obtain ⟨rfl, rfl⟩ := hp
  have hw : Wd D A s.heap _ _ [((ob (L 5) 15 [.int u, w, .int (nI n)]) :: T), [ob x 3 [.int th, .ref (L 0), .ref (L 1), .ref (L 2), .ref (L 3), .ref (L 4), .ref (L 5), .int (sc 0), .int (bz (sc 1)), .int (sc 2), .int (sc 3), .int (sc 4), .int (sc 5), .int (sc 6)]]] := hw
  refine W.eq (g2 := F0 m 14 ls [.int 0]) rfl ?_
  refine lv_if_ne (tgt := 21) hx hb dX4_isNoSkein_14 (by decide) (fun c9 => absurd c9 (by decide)) (fun _ => ?_)
  refine lv_iconst (v := 1) hx hb dX4_isNoSkein_17 (by decide) ?_
  refine lv_goto (tgt := 22) hx hb dX4_isNoSkein_18 (by decide) ?_
  have hw : Wd D A s.heap _ _ [[ob x 3 [.int th, .ref (L 0), .ref (L 1), .ref (L 2), .ref (L 3), .ref (L 4), .ref (L 5), .int (sc 0), .int (bz (sc 1)), .int (sc 2), .int (sc 3), .int (sc 4), .int (sc 5), .int (sc 6)]], ((ob (L 5) 15 [.int u, w, .int (nI n)]) :: T)] := Wd.take hw [1, 0] rfl rfl
  exact xr_zret hf hr hlocks hw (Nat.le_of_ble_eq_true rfl) (Nat.le_of_ble_eq_true rfl) rfl ⟨rfl, rfl⟩ dX4_isNoSkein_22

set_option maxHeartbeats 4000000 in
theorem k_X4_isNoSkein_no (l : Launch) (D : va_G) (dT g : Nat → Nat) (z0 : Nat) (x : Nat) (th : Int32) (L : Nat → Nat) (sc : Nat → Int32) (u : Int32) (w : Value) (T : va_W) (n : Nat) (v : Int32) (hn : n < 4096) (h : ¬ (v < 0 ∨ ¬ v < nI n)) : Con l D dT g z0 yX4_isNoSkein (ws_ yX4_isNoSkein cX4_isNoSkein 2 (some .boolean)) ({ frames := 2, cells := 0, slots := 0, locals := 62 }) [.ref x, .int v] [[ob x 3 [.int th, .ref (L 0), .ref (L 1), .ref (L 2), .ref (L 3), .ref (L 4), .ref (L 5), .int (sc 0), .int (bz (sc 1)), .int (sc 2), .int (sc 3), .int (sc 4), .int (sc 5), .int (sc 6)]], ((ob (L 5) 15 [.int u, w, .int (nI n)]) :: T)] (fun r LL => r = some (.int 0) ∧ LL = [[ob x 3 [.int th, .ref (L 0), .ref (L 1), .ref (L 2), .ref (L 3), .ref (L 4), .ref (L 5), .int (sc 0), .int (bz (sc 1)), .int (sc 2), .int (sc 3), .int (sc 4), .int (sc 5), .int (sc 6)]], ((ob (L 5) 15 [.int u, w, .int (nI n)]) :: T)]) noX 0 0 := by
  refine Con.of (maxL := 2) (ret := (some .boolean)) (by first | exact plainFor_of_name (by decide) | decide +kernel) (Nat.le_of_ble_eq_true rfl) ?_
  intro p e s m args below meth c A ls hf hr hlocks hnm hno hK hA hAz hw hl hst
  have hf : CallFix p m c cX4_isNoSkein 2 s args lw_all "SilkRowModel" := hf
  have hnm : meth.name = "isNoSkein" := hnm
  have hx := hf.1
  have hb := hf.2.1
  have hts := hf.2.2.2.2
  have hl : lv_has ls 2 [(0, .ref x), (1, .int v)] := hl
  have hw : Wd D A s.heap s.heap [] [[ob x 3 [.int th, .ref (L 0), .ref (L 1), .ref (L 2), .ref (L 3), .ref (L 4), .ref (L 5), .int (sc 0), .int (bz (sc 1)), .int (sc 2), .int (sc 3), .int (sc 4), .int (sc 5), .int (sc 6)]], ((ob (L 5) 15 [.int u, w, .int (nI n)]) :: T)] := hw
  refine lv_iload_n hx hb dX4_isNoSkein_0 rfl (lv_at hl 1 rfl) ?_
  refine lv_iconst (v := 0) hx hb dX4_isNoSkein_1 (by decide) ?_
  refine lv_aload_n hx hb dX4_isNoSkein_2 rfl (lv_at hl 0 rfl) ?_
  refine xr_get hf hK hw 0 0 rfl rfl in_X4 6 (by decide) q1186 (fun _ h => h) rfl dX4_isNoSkein_3 ?_
  refine xc_V (rest := [.int 0, .int v]) (As := []) hf hK hA hAz hst (hw.pick [1] rfl rfl rfl) (k_J2_size l D dT g z0 (L 5) u (nI n) (w) (T)) (cwV 0 hts (lw_V q1242 q359 q360 q47 q361) rfl rfl rfl (by decide +kernel) ⟨Nat.le_of_ble_eq_true rfl, Nat.le_of_ble_eq_true rfl⟩) (xr_rv hK hw 1 0 rfl rfl) rfl hl.1 rfl (Nat.le_of_ble_eq_true rfl) dX4_isNoSkein_6 ⟨(Nat.le_of_ble_eq_true rfl), (Nat.le_of_ble_eq_true rfl)⟩ (fun _ _ _ _ _ _ h => h.elim) (fun v9 LL1 H locs hp hw => ?_)
  obtain ⟨rfl, rfl⟩ := hp
  have hw : Wd D A s.heap _ _ [((ob (L 5) 15 [.int u, w, .int (nI n)]) :: T), [ob x 3 [.int th, .ref (L 0), .ref (L 1), .ref (L 2), .ref (L 3), .ref (L 4), .ref (L 5), .int (sc 0), .int (bz (sc 1)), .int (sc 2), .int (sc 3), .int (sc 4), .int (sc 5), .int (sc 6)]]] := hw
  refine W.eq (g2 := F0 m 9 ls [.int (nI n), .int 0, .int v]) rfl ?_
  refine lv_iconst (v := 1) hx hb dX4_isNoSkein_9 (by decide) ?_
  refine lv_isub hx hb dX4_isNoSkein_10 ?_
  refine xc_S (rest := []) (As := [.int v, .int 0, .int ((nI n) - 1)]) hf hK hA hAz hst (hw.pick [] rfl rfl rfl) (k_X4_isIn_in l D dT g z0 v 0 ((nI n) - 1) (fun z9 => h ((rngM hn).mpr z9))) (va_cwS 3 hts (lw_S q1231 q1232 q54 q1233) rfl rfl rfl (by decide +kernel) ⟨Nat.le_of_ble_eq_true rfl, Nat.le_of_ble_eq_true rfl⟩) rfl hl.1 rfl (Nat.le_of_ble_eq_true rfl) dX4_isNoSkein_11 ⟨(Nat.le_of_ble_eq_true rfl), (Nat.le_of_ble_eq_true rfl)⟩ (fun _ _ _ _ _ _ h => h.elim) (fun v9 LL1 H locs hp hw => ?_)
  obtain ⟨rfl, rfl⟩ := hp
  have hw : Wd D A s.heap _ _ [((ob (L 5) 15 [.int u, w, .int (nI n)]) :: T), [ob x 3 [.int th, .ref (L 0), .ref (L 1), .ref (L 2), .ref (L 3), .ref (L 4), .ref (L 5), .int (sc 0), .int (bz (sc 1)), .int (sc 2), .int (sc 3), .int (sc 4), .int (sc 5), .int (sc 6)]]] := hw
  refine W.eq (g2 := F0 m 14 ls [.int 1]) rfl ?_
  refine lv_if_ne (tgt := 21) hx hb dX4_isNoSkein_14 (by decide) (fun _ => ?_) (fun c9 => absurd c9 (by decide))
  refine lv_iconst (v := 0) hx hb dX4_isNoSkein_21 (by decide) ?_
  have hw : Wd D A s.heap _ _ [[ob x 3 [.int th, .ref (L 0), .ref (L 1), .ref (L 2), .ref (L 3), .ref (L 4), .ref (L 5), .int (sc 0), .int (bz (sc 1)), .int (sc 2), .int (sc 3), .int (sc 4), .int (sc 5), .int (sc 6)]], ((ob (L 5) 15 [.int u, w, .int (nI n)]) :: T)] := Wd.take hw [1, 0] rfl rfl
  exact xr_zret hf hr hlocks hw (Nat.le_of_ble_eq_true rfl) (Nat.le_of_ble_eq_true rfl) rfl ⟨rfl, rfl⟩ dX4_isNoSkein_22

set_option maxHeartbeats 4000000 in
theorem k_X4_thrown (l : Launch) (D : va_G) (dT g : Nat → Nat) (z0 : Nat) (x : Nat) (th : Int32) (w0 : Value) (w1 : Value) (w2 : Value) (w3 : Value) (w4 : Value) (w5 : Value) (w6 : Value) (w7 : Value) (w8 : Value) (w9 : Value) (w10 : Value) (w11 : Value) (w12 : Value) : Con l D dT g z0 yX4_thrown (ws_ yX4_thrown cX4_thrown 1 (some .int)) ({ frames := 1, cells := 0, slots := 0, locals := 40 }) [.ref x] [[ob x 3 [.int th, w0, w1, w2, w3, w4, w5, w6, w7, w8, w9, w10, w11, w12]]] (fun r LL => r = some (.int th) ∧ LL = [[ob x 3 [.int th, w0, w1, w2, w3, w4, w5, w6, w7, w8, w9, w10, w11, w12]]]) noX 0 0 := by
  refine Con.of (maxL := 1) (ret := (some .int)) (by first | exact plainFor_of_name (by decide) | decide +kernel) (Nat.le_of_ble_eq_true rfl) ?_
  intro p e s m args below meth c A ls hf hr hlocks hnm hno hK hA hAz hw hl hst
  have hf : CallFix p m c cX4_thrown 1 s args lw_all "SilkRowModel" := hf
  have hnm : meth.name = "thrown" := hnm
  have hx := hf.1
  have hb := hf.2.1
  have hts := hf.2.2.2.2
  have hl : lv_has ls 1 [(0, .ref x)] := hl
  have hw : Wd D A s.heap s.heap [] [[ob x 3 [.int th, w0, w1, w2, w3, w4, w5, w6, w7, w8, w9, w10, w11, w12]]] := hw
  refine lv_aload_n hx hb dX4_thrown_0 rfl (lv_at hl 0 rfl) ?_
  refine xr_get hf hK hw 0 0 rfl rfl in_X4 0 (by decide) q1180 (fun _ h => h) rfl dX4_thrown_1 ?_
  exact xr_iret hf hr hlocks hw (Nat.le_of_ble_eq_true rfl) (Nat.le_of_ble_eq_true rfl) ⟨rfl, rfl⟩ dX4_thrown_4

set_option maxHeartbeats 4000000 in
theorem k_X4_refuse_yes (l : Launch) (D : va_G) (dT g : Nat → Nat) (z0 : Nat) (x : Nat) (w0 : Value) (w1 : Value) (w2 : Value) (w3 : Value) (w4 : Value) (w5 : Value) (w6 : Value) (w7 : Value) (w8 : Value) (w9 : Value) (w10 : Value) (w11 : Value) (w12 : Value) (k : Int32) (hk : ¬ k ≤ 0) : Con l D dT g z0 yX4_refuse (ws_ yX4_refuse cX4_refuse 3 (some .boolean)) ({ frames := 1, cells := 0, slots := 0, locals := 40 }) [.ref x, .int 1, .int k] [[ob x 3 [.int 0, w0, w1, w2, w3, w4, w5, w6, w7, w8, w9, w10, w11, w12]]] (fun r LL => r = some (.int 1) ∧ LL = [[ob x 3 [.int k, w0, w1, w2, w3, w4, w5, w6, w7, w8, w9, w10, w11, w12]]]) noX 0 0 := by
  refine Con.of (maxL := 3) (ret := (some .boolean)) (by first | exact plainFor_of_name (by decide) | decide +kernel) (Nat.le_of_ble_eq_true rfl) ?_
  intro p e s m args below meth c A ls hf hr hlocks hnm hno hK hA hAz hw hl hst
  have hf : CallFix p m c cX4_refuse 3 s args lw_all "SilkRowModel" := hf
  have hnm : meth.name = "refuse" := hnm
  have hx := hf.1
  have hb := hf.2.1
  have hts := hf.2.2.2.2
  have hl : lv_has ls 3 [(0, .ref x), (1, .int 1), (2, .int k)] := hl
  have hw : Wd D A s.heap s.heap [] [[ob x 3 [.int 0, w0, w1, w2, w3, w4, w5, w6, w7, w8, w9, w10, w11, w12]]] := hw
  refine lv_iload_n hx hb dX4_refuse_0 rfl (lv_at hl 1 rfl) ?_
  refine lv_if_eq (tgt := 16) hx hb dX4_refuse_1 (by decide) (fun c9 => absurd c9 (by decide)) (fun _ => ?_)
  refine lv_aload_n hx hb dX4_refuse_4 rfl (lv_at hl 0 rfl) ?_
  refine xr_get hf hK hw 0 0 rfl rfl in_X4 0 (by decide) q1180 (fun _ h => h) rfl dX4_refuse_5 ?_
  refine lv_if_ne (tgt := 16) hx hb dX4_refuse_8 (by decide) (fun c9 => absurd c9 (by decide)) (fun _ => ?_)
  refine lv_aload_n hx hb dX4_refuse_11 rfl (lv_at hl 0 rfl) ?_
  refine lv_iload_n hx hb dX4_refuse_12 rfl (lv_at hl 2 rfl) ?_
  refine xr_put (LL' := [[ob x 3 [.int k, w0, w1, w2, w3, w4, w5, w6, w7, w8, w9, w10, w11, w12]]]) hf hK hw 0 0 rfl rfl in_X4 tyX4_ok nmX4 0 (by decide) q1180 (fun _ h => h) rfl rfl rfl (Nat.le_of_ble_eq_true rfl) rfl dX4_refuse_13 (fun H locs hw => ?_)
  refine lv_aload_n hx hb dX4_refuse_16 rfl (lv_at hl 0 rfl) ?_
  refine xr_get hf hK hw 0 0 rfl rfl in_X4 0 (by decide) q1180 (fun _ h => h) rfl dX4_refuse_17 ?_
  refine lv_if_le (tgt := 27) hx hb dX4_refuse_20 (by decide) (fun c9 => absurd c9 hk) (fun _ => ?_)
  refine lv_iconst (v := 1) hx hb dX4_refuse_23 (by decide) ?_
  refine lv_goto (tgt := 28) hx hb dX4_refuse_24 (by decide) ?_
  exact xr_zret hf hr hlocks hw (Nat.le_of_ble_eq_true rfl) (Nat.le_of_ble_eq_true rfl) rfl ⟨rfl, rfl⟩ dX4_refuse_28

set_option maxHeartbeats 4000000 in
theorem k_X4_refuse_no (l : Launch) (D : va_G) (dT g : Nat → Nat) (z0 : Nat) (x : Nat) (w0 : Value) (w1 : Value) (w2 : Value) (w3 : Value) (w4 : Value) (w5 : Value) (w6 : Value) (w7 : Value) (w8 : Value) (w9 : Value) (w10 : Value) (w11 : Value) (w12 : Value) (k : Int32) : Con l D dT g z0 yX4_refuse (ws_ yX4_refuse cX4_refuse 3 (some .boolean)) ({ frames := 1, cells := 0, slots := 0, locals := 40 }) [.ref x, .int 0, .int k] [[ob x 3 [.int 0, w0, w1, w2, w3, w4, w5, w6, w7, w8, w9, w10, w11, w12]]] (fun r LL => r = some (.int 0) ∧ LL = [[ob x 3 [.int 0, w0, w1, w2, w3, w4, w5, w6, w7, w8, w9, w10, w11, w12]]]) noX 0 0 := by
  refine Con.of (maxL := 3) (ret := (some .boolean)) (by first | exact plainFor_of_name (by decide) | decide +kernel) (Nat.le_of_ble_eq_true rfl) ?_
  intro p e s m args below meth c A ls hf hr hlocks hnm hno hK hA hAz hw hl hst
  have hf : CallFix p m c cX4_refuse 3 s args lw_all "SilkRowModel" := hf
  have hnm : meth.name = "refuse" := hnm
  have hx := hf.1
  have hb := hf.2.1
  have hts := hf.2.2.2.2
  have hl : lv_has ls 3 [(0, .ref x), (1, .int 0), (2, .int k)] := hl
  have hw : Wd D A s.heap s.heap [] [[ob x 3 [.int 0, w0, w1, w2, w3, w4, w5, w6, w7, w8, w9, w10, w11, w12]]] := hw
  refine lv_iload_n hx hb dX4_refuse_0 rfl (lv_at hl 1 rfl) ?_
  refine lv_if_eq (tgt := 16) hx hb dX4_refuse_1 (by decide) (fun _ => ?_) (fun c9 => absurd c9 (by decide))
  refine lv_aload_n hx hb dX4_refuse_16 rfl (lv_at hl 0 rfl) ?_
  refine xr_get hf hK hw 0 0 rfl rfl in_X4 0 (by decide) q1180 (fun _ h => h) rfl dX4_refuse_17 ?_
  refine lv_if_le (tgt := 27) hx hb dX4_refuse_20 (by decide) (fun _ => ?_) (fun c9 => absurd c9 (by decide))
  refine lv_iconst (v := 0) hx hb dX4_refuse_27 (by decide) ?_
  exact xr_zret hf hr hlocks hw (Nat.le_of_ble_eq_true rfl) (Nat.le_of_ble_eq_true rfl) rfl ⟨rfl, rfl⟩ dX4_refuse_28

set_option maxHeartbeats 4000000 in
theorem k_X4_start_yes (l : Launch) (D : va_G) (dT g : Nat → Nat) (z0 : Nat) (x : Nat) (th : Int32) (w0 : Value) (w1 : Value) (w2 : Value) (w3 : Value) (w4 : Value) (w5 : Value) (w6 : Value) (w7 : Value) (w8 : Value) (w9 : Value) (w10 : Value) (w11 : Value) (w12 : Value) (k : Int32) (hk : ¬ k ≤ 0) : Con l D dT g z0 yX4_start (ws_ yX4_start cX4_start 3 (some .boolean)) ({ frames := 2, cells := 0, slots := 0, locals := 62 }) [.ref x, .int 1, .int k] [[ob x 3 [.int th, w0, w1, w2, w3, w4, w5, w6, w7, w8, w9, w10, w11, w12]]] (fun r LL => r = some (.int 1) ∧ LL = [[ob x 3 [.int k, w0, w1, w2, w3, w4, w5, w6, w7, w8, w9, w10, w11, w12]]]) noX 0 0 := by
  refine Con.of (maxL := 3) (ret := (some .boolean)) (by first | exact plainFor_of_name (by decide) | decide +kernel) (Nat.le_of_ble_eq_true rfl) ?_
  intro p e s m args below meth c A ls hf hr hlocks hnm hno hK hA hAz hw hl hst
  have hf : CallFix p m c cX4_start 3 s args lw_all "SilkRowModel" := hf
  have hnm : meth.name = "start" := hnm
  have hx := hf.1
  have hb := hf.2.1
  have hts := hf.2.2.2.2
  have hl : lv_has ls 3 [(0, .ref x), (1, .int 1), (2, .int k)] := hl
  have hw : Wd D A s.heap s.heap [] [[ob x 3 [.int th, w0, w1, w2, w3, w4, w5, w6, w7, w8, w9, w10, w11, w12]]] := hw
  refine lv_aload_n hx hb dX4_start_0 rfl (lv_at hl 0 rfl) ?_
  refine lv_iconst (v := 0) hx hb dX4_start_1 (by decide) ?_
  refine xr_put (LL' := [[ob x 3 [.int 0, w0, w1, w2, w3, w4, w5, w6, w7, w8, w9, w10, w11, w12]]]) hf hK hw 0 0 rfl rfl in_X4 tyX4_ok nmX4 0 (by decide) q1180 (fun _ h => h) rfl rfl rfl (Nat.le_of_ble_eq_true rfl) rfl dX4_start_2 (fun H locs hw => ?_)
  refine lv_aload_n hx hb dX4_start_5 rfl (lv_at hl 0 rfl) ?_
  refine lv_iload_n hx hb dX4_start_6 rfl (lv_at hl 1 rfl) ?_
  refine lv_iload_n hx hb dX4_start_7 rfl (lv_at hl 2 rfl) ?_
  refine xc_V (rest := []) (As := [.int 1, .int k]) hf hK hA hAz hst (hw.pick [0] rfl rfl rfl) (k_X4_refuse_yes l D dT g z0 x (w0) (w1) (w2) (w3) (w4) (w5) (w6) (w7) (w8) (w9) (w10) (w11) (w12) k hk) (cwV 2 hts (lw_V q1238 q1240 qs20 q54 q1241) rfl rfl rfl (by decide +kernel) ⟨Nat.le_of_ble_eq_true rfl, Nat.le_of_ble_eq_true rfl⟩) (xr_rv hK hw 0 0 rfl rfl) rfl hl.1 rfl (Nat.le_of_ble_eq_true rfl) dX4_start_8 ⟨(Nat.le_of_ble_eq_true rfl), (Nat.le_of_ble_eq_true rfl)⟩ (fun _ _ _ _ _ _ h => h.elim) (fun v9 LL1 H locs hp hw => ?_)
  obtain ⟨rfl, rfl⟩ := hp
  have hw : Wd D A s.heap _ _ [[ob x 3 [.int k, w0, w1, w2, w3, w4, w5, w6, w7, w8, w9, w10, w11, w12]]] := hw
  refine W.eq (g2 := F0 m 11 ls [.int 1]) rfl ?_
  exact xr_zret hf hr hlocks hw (Nat.le_of_ble_eq_true rfl) (Nat.le_of_ble_eq_true rfl) rfl ⟨rfl, rfl⟩ dX4_start_11

set_option maxHeartbeats 4000000 in
theorem k_X4_start_no (l : Launch) (D : va_G) (dT g : Nat → Nat) (z0 : Nat) (x : Nat) (th : Int32) (w0 : Value) (w1 : Value) (w2 : Value) (w3 : Value) (w4 : Value) (w5 : Value) (w6 : Value) (w7 : Value) (w8 : Value) (w9 : Value) (w10 : Value) (w11 : Value) (w12 : Value) (k : Int32) : Con l D dT g z0 yX4_start (ws_ yX4_start cX4_start 3 (some .boolean)) ({ frames := 2, cells := 0, slots := 0, locals := 62 }) [.ref x, .int 0, .int k] [[ob x 3 [.int th, w0, w1, w2, w3, w4, w5, w6, w7, w8, w9, w10, w11, w12]]] (fun r LL => r = some (.int 0) ∧ LL = [[ob x 3 [.int 0, w0, w1, w2, w3, w4, w5, w6, w7, w8, w9, w10, w11, w12]]]) noX 0 0 := by
  refine Con.of (maxL := 3) (ret := (some .boolean)) (by first | exact plainFor_of_name (by decide) | decide +kernel) (Nat.le_of_ble_eq_true rfl) ?_
  intro p e s m args below meth c A ls hf hr hlocks hnm hno hK hA hAz hw hl hst
  have hf : CallFix p m c cX4_start 3 s args lw_all "SilkRowModel" := hf
  have hnm : meth.name = "start" := hnm
  have hx := hf.1
  have hb := hf.2.1
  have hts := hf.2.2.2.2
  have hl : lv_has ls 3 [(0, .ref x), (1, .int 0), (2, .int k)] := hl
  have hw : Wd D A s.heap s.heap [] [[ob x 3 [.int th, w0, w1, w2, w3, w4, w5, w6, w7, w8, w9, w10, w11, w12]]] := hw
  refine lv_aload_n hx hb dX4_start_0 rfl (lv_at hl 0 rfl) ?_
  refine lv_iconst (v := 0) hx hb dX4_start_1 (by decide) ?_
  refine xr_put (LL' := [[ob x 3 [.int 0, w0, w1, w2, w3, w4, w5, w6, w7, w8, w9, w10, w11, w12]]]) hf hK hw 0 0 rfl rfl in_X4 tyX4_ok nmX4 0 (by decide) q1180 (fun _ h => h) rfl rfl rfl (Nat.le_of_ble_eq_true rfl) rfl dX4_start_2 (fun H locs hw => ?_)
  refine lv_aload_n hx hb dX4_start_5 rfl (lv_at hl 0 rfl) ?_
  refine lv_iload_n hx hb dX4_start_6 rfl (lv_at hl 1 rfl) ?_
  refine lv_iload_n hx hb dX4_start_7 rfl (lv_at hl 2 rfl) ?_
  refine xc_V (rest := []) (As := [.int 0, .int k]) hf hK hA hAz hst (hw.pick [0] rfl rfl rfl) (k_X4_refuse_no l D dT g z0 x (w0) (w1) (w2) (w3) (w4) (w5) (w6) (w7) (w8) (w9) (w10) (w11) (w12) k) (cwV 2 hts (lw_V q1238 q1240 qs20 q54 q1241) rfl rfl rfl (by decide +kernel) ⟨Nat.le_of_ble_eq_true rfl, Nat.le_of_ble_eq_true rfl⟩) (xr_rv hK hw 0 0 rfl rfl) rfl hl.1 rfl (Nat.le_of_ble_eq_true rfl) dX4_start_8 ⟨(Nat.le_of_ble_eq_true rfl), (Nat.le_of_ble_eq_true rfl)⟩ (fun _ _ _ _ _ _ h => h.elim) (fun v9 LL1 H locs hp hw => ?_)
  obtain ⟨rfl, rfl⟩ := hp
  have hw : Wd D A s.heap _ _ [[ob x 3 [.int 0, w0, w1, w2, w3, w4, w5, w6, w7, w8, w9, w10, w11, w12]]] := hw
  refine W.eq (g2 := F0 m 11 ls [.int 0]) rfl ?_
  exact xr_zret hf hr hlocks hw (Nat.le_of_ble_eq_true rfl) (Nat.le_of_ble_eq_true rfl) rfl ⟨rfl, rfl⟩ dX4_start_11

