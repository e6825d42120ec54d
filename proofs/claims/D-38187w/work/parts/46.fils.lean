/-! 46.fils (printed by gen/silk.py) -/
set_option maxRecDepth 100000
set_option maxHeartbeats 4000000 in
theorem k_X13_piece (l : Launch) (D : va_G) (dT g : Nat → Nat) (z0 : Nat) (a : Nat) (b : Nat) (x : Int32) (k : Nat) (P : List Int32) (hk : k < P.length) (hk2 : k < 2 ^ 31) : Con l D dT g z0 yX13_piece (ws_ yX13_piece cX13_piece 1 (some .int)) ({ frames := 1, cells := 0, slots := 0, locals := 40 }) [.ref a] [[ob a 12 [.int x, .ref b, .int (nI k)]], [(b, aI dT P)]] (fun r LL => r = some (.int (P.getD k 0)) ∧ LL = [[ob a 12 [.int x, .ref b, .int (nI k)]], [(b, aI dT P)]]) noX 0 0 := by
  refine Con.of (maxL := 1) (ret := (some .int)) (by first | exact plainFor_of_name (by decide) | decide +kernel) (Nat.le_of_ble_eq_true rfl) ?_
  intro p e s m args below meth c A ls hf hr hlocks hnm hno hK hA hAz hw hl hst
  have hf : CallFix p m c cX13_piece 1 s args lw_all "SilkRow$Filament" := hf
  have hnm : meth.name = "piece" := hnm
  have hx := hf.1
  have hb := hf.2.1
  have hts := hf.2.2.2.2
  have hl : lv_has ls 1 [(0, .ref a)] := hl
  have hw : Wd D A s.heap s.heap [] [[ob a 12 [.int x, .ref b, .int (nI k)]], [(b, aI dT P)]] := hw
  refine lv_aload_n hx hb dX13_piece_0 rfl (lv_at hl 0 rfl) ?_
  refine xr_get hf hK hw 0 0 rfl rfl in_X13 1 (by decide) q452 (fun _ h => h) rfl dX13_piece_1 ?_
  refine lv_aload_n hx hb dX13_piece_4 rfl (lv_at hl 0 rfl) ?_
  refine xr_get hf hK hw 0 0 rfl rfl in_X13 2 (by decide) q454 (fun _ h => h) rfl dX13_piece_5 ?_
  refine xr_iald hf hK hw 1 0 rfl k (nI_pos hk2) (nI_clamp hk2) hk rfl dX13_piece_8 ?_
  exact xr_iret hf hr hlocks hw (Nat.le_of_ble_eq_true rfl) (Nat.le_of_ble_eq_true rfl) ⟨rfl, rfl⟩ dX13_piece_9

set_option maxHeartbeats 4000000 in
theorem k_X13_copy (l : Launch) (D : va_G) (dT g : Nat → Nat) (z0 : Nat) (a : Nat) (b : Nat) (x : Int32) (y : Int32) : Con l D dT g z0 yX13_copy (ws_ yX13_copy cX13_copy 2 (some (.object "SilkRow$Filament"))) ({ frames := 2, cells := 1, slots := 3, locals := 62 }) [.ref a] [[ob a 12 [.int x, .ref b, .int y]]] (fun r LL => ∃ (q : Nat), r = some (.ref q) ∧ LL = [[ob a 12 [.int x, .ref b, .int y]], [ob q 12 [.int x, .ref b, .int y]]]) noX 1 3 := by
  refine Con.of (maxL := 2) (ret := (some (.object "SilkRow$Filament"))) (by first | exact plainFor_of_name (by decide) | decide +kernel) (Nat.le_of_ble_eq_true rfl) ?_
  intro p e s m args below meth c A ls hf hr hlocks hnm hno hK hA hAz hw hl hst
  have hf : CallFix p m c cX13_copy 2 s args lw_all "SilkRow$Filament" := hf
  have hnm : meth.name = "copy" := hnm
  have hx := hf.1
  have hb := hf.2.1
  have hts := hf.2.2.2.2
  have hl : lv_has ls 2 [(0, .ref a)] := hl
  have hw : Wd D A s.heap s.heap [] [[ob a 12 [.int x, .ref b, .int y]]] := hw
  refine xr_new (LL' := [[ob a 12 [.int x, .ref b, .int y]]]) (fs := [.int 0, .null, .int 0]) hf hK hw hA 12 rfl in_X13 tyX13_ok q444 q445 q74 rfl (Nat.le_of_ble_eq_true rfl) (Nat.le_of_ble_eq_true rfl) (fun _ => rfl) dX13_copy_0 (fun qa1 H hw => ?_)
  have hw : Wd D A s.heap _ _ [[ob a 12 [.int x, .ref b, .int y]], [ob qa1 12 [.int 0, .null, .int 0]]] := hw
  refine lv_dup hx hb dX13_copy_3 rfl ?_
  refine lv_aload_n hx hb dX13_copy_4 rfl (lv_at hl 0 rfl) ?_
  refine xr_get hf hK hw 0 0 rfl rfl in_X13 0 (by decide) q450 (fun _ h => h) rfl dX13_copy_5 ?_
  refine lv_aload_n hx hb dX13_copy_8 rfl (lv_at hl 0 rfl) ?_
  refine xr_get hf hK hw 0 0 rfl rfl in_X13 1 (by decide) q452 (fun _ h => h) rfl dX13_copy_9 ?_
  refine xc_I (rest := [.ref qa1]) (As := [.int x, .ref b]) hf hK hA hAz hst (hw.pick [1] rfl rfl rfl) (k_X13_init l D dT g z0 qa1 b x) (cwI 2 hts (lw_meth q448) rfl rfl rfl (hts _ q74) (hts _ q446) (hts _ q447) rfl (by decide +kernel) ⟨Nat.le_of_ble_eq_true rfl, Nat.le_of_ble_eq_true rfl⟩) rfl hl.1 rfl (Nat.le_of_ble_eq_true rfl) dX13_copy_12 ⟨(Nat.le_of_ble_eq_true rfl), (Nat.le_of_ble_eq_true rfl)⟩ (fun _ _ _ _ _ _ h => h.elim) (fun v9 LL1 H locs hp hw => ?_)
  obtain ⟨r2, hr2⟩ : ∃ z, z = f_X13_init x := ⟨_, rfl⟩
  rw [← hr2] at hp
  obtain ⟨rfl, rfl⟩ := hp
  have hw : Wd D A s.heap _ _ [[ob qa1 12 [.int (r2 0), .ref b, .int (r2 1)]], [ob a 12 [.int x, .ref b, .int y]]] := hw
  refine W.eq (g2 := F0 m 15 ls [.ref qa1]) rfl ?_
  refine lv_astore_n (lv' := [(1, .ref qa1), (0, .ref a)]) hx hb dX13_copy_15 rfl hl (by decide) rfl (fun ls hl => ?_)
  refine lv_aload_n hx hb dX13_copy_16 rfl (lv_at hl 0 rfl) ?_
  refine lv_aload_n hx hb dX13_copy_17 rfl (lv_at hl 1 rfl) ?_
  refine xr_get hf hK hw 1 0 rfl rfl in_X13 2 (by decide) q454 (fun _ h => h) rfl dX13_copy_18 ?_
  refine xr_put (LL' := [[ob qa1 12 [.int (r2 0), .ref b, .int y]], [ob a 12 [.int x, .ref b, .int y]]]) hf hK hw 0 0 rfl rfl in_X13 tyX13_ok nmX13 2 (by decide) q454 (fun _ h => h) rfl rfl rfl (Nat.le_of_ble_eq_true rfl) rfl dX13_copy_21 (fun H locs hw => ?_)
  refine lv_aload_n hx hb dX13_copy_24 rfl (lv_at hl 0 rfl) ?_
  have hw : Wd D A s.heap _ _ [[ob a 12 [.int x, .ref b, .int y]], [ob qa1 12 [.int (r2 0), .ref b, .int y]]] := Wd.take hw [1, 0] rfl rfl
  have hwZ := hw
  subst hr2
  have hw := hwZ
  exact xr_aret hf hr (by first | exact Or.inl ⟨_, rfl⟩ | exact Or.inr ⟨_, rfl⟩) (Or.inr ⟨_, rfl⟩) hlocks hw (Nat.le_of_ble_eq_true rfl) (Nat.le_of_ble_eq_true rfl) ⟨qa1, rfl, rfl⟩ dX13_copy_25

