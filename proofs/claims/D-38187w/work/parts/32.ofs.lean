/-! 32.ofs (printed by gen/silk.py) -/
set_option maxRecDepth 100000
set_option maxHeartbeats 4000000 in
theorem k_X1_plotOf (l : Launch) (D : va_G) (dT g : Nat → Nat) (z0 : Nat) (x : Nat) (L : Nat → Nat) (sc : Nat → Int32) (u : Int32) (st : Option (Nat × Nat)) (pl : List (Nat × Nat × (Nat → Int32))) (i : Int32) (hok : alOK st (ads pl)) : Con l D dT g z0 yX1_plotOf (ws_ yX1_plotOf cX1_plotOf 2 (some (.object "SilkRow$Plot"))) ({ frames := 8, cells := 1, slots := 6, locals := 182 }) [.ref x, .int i] [[ob x 0 [.ref (L 0), .ref (L 1), .ref (L 2), .ref (L 3), .ref (L 4), .ref (L 5), .int (sc 0), .int (bz (sc 1)), .int (sc 2), .int (sc 3), .int (sc 4), .int (sc 5), .int (sc 6)]], ((ob (L 0) 15 [.int u, .ref (al_d g st), .int (nI (ads pl).length)]) :: (al_t dT st (ads pl))), (pl.flatMap (plE dT))] (fun r LL => ∃ (k : Nat) (q : Nat × Nat × (Nat → Int32)), (pl[k]? = some q ∧ i = nI k) ∧ r = some (.ref q.1) ∧ LL = [[ob x 0 [.ref (L 0), .ref (L 1), .ref (L 2), .ref (L 3), .ref (L 4), .ref (L 5), .int (sc 0), .int (bz (sc 1)), .int (sc 2), .int (sc 3), .int (sc 4), .int (sc 5), .int (sc 6)]], ((ob (L 0) 15 [.int u, .ref (al_d g st), .int (nI (ads pl).length)]) :: (al_t dT st (ads pl))), (pl.flatMap (plE dT))]) (fun E LL => (E = "java/lang/IndexOutOfBoundsException" ∧ (i < 0 ∨ ¬ i < nI (ads pl).length)) ∧ LL = [[ob x 0 [.ref (L 0), .ref (L 1), .ref (L 2), .ref (L 3), .ref (L 4), .ref (L 5), .int (sc 0), .int (bz (sc 1)), .int (sc 2), .int (sc 3), .int (sc 4), .int (sc 5), .int (sc 6)]], ((ob (L 0) 15 [.int u, .ref (al_d g st), .int (nI (ads pl).length)]) :: (al_t dT st (ads pl))), (pl.flatMap (plE dT))]) 1 6 := by
  refine Con.of (maxL := 2) (ret := (some (.object "SilkRow$Plot"))) (by first | exact plainFor_of_name (by decide) | decide +kernel) (Nat.le_of_ble_eq_true rfl) ?_
  intro p e s m args below meth c A ls hf hr hlocks hnm hno hK hA hAz hw hl hst
  have hf : CallFix p m c cX1_plotOf 2 s args lw_all "SilkRow" := hf
  have hnm : meth.name = "plotOf" := hnm
  have hx := hf.1
  have hb := hf.2.1
  have hts := hf.2.2.2.2
  have hl : lv_has ls 2 [(0, .ref x), (1, .int i)] := hl
  have hw : Wd D A s.heap s.heap [] [[ob x 0 [.ref (L 0), .ref (L 1), .ref (L 2), .ref (L 3), .ref (L 4), .ref (L 5), .int (sc 0), .int (bz (sc 1)), .int (sc 2), .int (sc 3), .int (sc 4), .int (sc 5), .int (sc 6)]], ((ob (L 0) 15 [.int u, .ref (al_d g st), .int (nI (ads pl).length)]) :: (al_t dT st (ads pl))), (pl.flatMap (plE dT))] := hw
  refine lv_aload_n hx hb dX1_plotOf_0 rfl (lv_at hl 0 rfl) ?_
  refine xr_get hf hK hw 0 0 rfl rfl in_X1 0 (by decide) q251 (fun _ h => h) rfl dX1_plotOf_1 ?_
  refine lv_iload_n hx hb dX1_plotOf_4 rfl (lv_at hl 1 rfl) ?_
  refine xc_S (rest := []) (As := [.ref (L 0), .int i]) hf hK hA hAz hst (hw.pick [1] rfl rfl rfl) (k_X1_at l D dT g z0 (L 0) u st (ads pl) i hok) (va_cwS 2 hts (lw_S q835 q836 q44 q837) rfl rfl rfl (by decide +kernel) ⟨Nat.le_of_ble_eq_true rfl, Nat.le_of_ble_eq_true rfl⟩) rfl hl.1 rfl (Nat.le_of_ble_eq_true rfl) dX1_plotOf_5 ⟨(Nat.le_of_ble_eq_true rfl), (Nat.le_of_ble_eq_true rfl)⟩ ?_ (fun v9 LL1 H locs hp hw => ?_)
  · intro E9 LL9 H locs q9 ce9 hp hw h91 h92 h93
    obtain ⟨hE, rfl⟩ := hp
    have hw := Wd.take (L2 := [[ob x 0 [.ref (L 0), .ref (L 1), .ref (L 2), .ref (L 3), .ref (L 4), .ref (L 5), .int (sc 0), .int (bz (sc 1)), .int (sc 2), .int (sc 3), .int (sc 4), .int (sc 5), .int (sc 6)]], ((ob (L 0) 15 [.int u, .ref (al_d g st), .int (nI (ads pl).length)]) :: (al_t dT st (ads pl))), (pl.flatMap (plE dT))]) hw [1, 0, 0] rfl rfl
    exact xr_out hno hlocks hw ⟨hE, rfl⟩ h91 h92 h93 (Nat.le_of_ble_eq_true rfl) (Nat.le_of_ble_eq_true rfl)
  obtain ⟨k_1, y_2, e_3, rfl, rfl⟩ := hp
  have hw : Wd D A s.heap _ _ [((ob (L 0) 15 [.int u, .ref (al_d g st), .int (nI (ads pl).length)]) :: (al_t dT st (ads pl))), [ob x 0 [.ref (L 0), .ref (L 1), .ref (L 2), .ref (L 3), .ref (L 4), .ref (L 5), .int (sc 0), .int (bz (sc 1)), .int (sc 2), .int (sc 3), .int (sc 4), .int (sc 5), .int (sc 6)]], (pl.flatMap (plE dT))] := hw
  refine W.eq (g2 := F0 m 8 ls [.ref y_2]) rfl ?_
  obtain ⟨q, hq, rfl⟩ := ads_get e_3.2.2
  refine W.eq (g2 := F0 m 8 ls [.ref q.1]) rfl ?_
  refine xr_castM hf hK hw (sg_mem 2 rfl (fm_mem hq List.mem_cons_self)) rfl q366 dX1_plotOf_8 ?_
  have hw : Wd D A s.heap _ _ [[ob x 0 [.ref (L 0), .ref (L 1), .ref (L 2), .ref (L 3), .ref (L 4), .ref (L 5), .int (sc 0), .int (bz (sc 1)), .int (sc 2), .int (sc 3), .int (sc 4), .int (sc 5), .int (sc 6)]], ((ob (L 0) 15 [.int u, .ref (al_d g st), .int (nI (ads pl).length)]) :: (al_t dT st (ads pl))), (pl.flatMap (plE dT))] := Wd.take hw [1, 0, 0] rfl rfl
  exact xr_aret hf hr (by first | exact Or.inl ⟨_, rfl⟩ | exact Or.inr ⟨_, rfl⟩) (Or.inr ⟨_, rfl⟩) hlocks hw (Nat.le_of_ble_eq_true rfl) (Nat.le_of_ble_eq_true rfl) ⟨k_1, q, ⟨hq, e_3.2.1⟩, rfl, rfl⟩ dX1_plotOf_11

set_option maxHeartbeats 4000000 in
theorem k_X1_lineOf (l : Launch) (D : va_G) (dT g : Nat → Nat) (z0 : Nat) (x : Nat) (L : Nat → Nat) (sc : Nat → Int32) (u : Int32) (st : Option (Nat × Nat)) (ln : List (Nat × (Nat → Int32))) (i : Int32) (hok : alOK st (ads ln)) : Con l D dT g z0 yX1_lineOf (ws_ yX1_lineOf cX1_lineOf 2 (some (.object "SilkRow$Line"))) ({ frames := 8, cells := 1, slots := 6, locals := 182 }) [.ref x, .int i] [[ob x 0 [.ref (L 0), .ref (L 1), .ref (L 2), .ref (L 3), .ref (L 4), .ref (L 5), .int (sc 0), .int (bz (sc 1)), .int (sc 2), .int (sc 3), .int (sc 4), .int (sc 5), .int (sc 6)]], ((ob (L 1) 15 [.int u, .ref (al_d g st), .int (nI (ads ln).length)]) :: (al_t dT st (ads ln))), (ln.flatMap lnE)] (fun r LL => ∃ (k : Nat) (q : Nat × (Nat → Int32)), (ln[k]? = some q ∧ i = nI k) ∧ r = some (.ref q.1) ∧ LL = [[ob x 0 [.ref (L 0), .ref (L 1), .ref (L 2), .ref (L 3), .ref (L 4), .ref (L 5), .int (sc 0), .int (bz (sc 1)), .int (sc 2), .int (sc 3), .int (sc 4), .int (sc 5), .int (sc 6)]], ((ob (L 1) 15 [.int u, .ref (al_d g st), .int (nI (ads ln).length)]) :: (al_t dT st (ads ln))), (ln.flatMap lnE)]) (fun E LL => (E = "java/lang/IndexOutOfBoundsException" ∧ (i < 0 ∨ ¬ i < nI (ads ln).length)) ∧ LL = [[ob x 0 [.ref (L 0), .ref (L 1), .ref (L 2), .ref (L 3), .ref (L 4), .ref (L 5), .int (sc 0), .int (bz (sc 1)), .int (sc 2), .int (sc 3), .int (sc 4), .int (sc 5), .int (sc 6)]], ((ob (L 1) 15 [.int u, .ref (al_d g st), .int (nI (ads ln).length)]) :: (al_t dT st (ads ln))), (ln.flatMap lnE)]) 1 6 := by
  refine Con.of (maxL := 2) (ret := (some (.object "SilkRow$Line"))) (by first | exact plainFor_of_name (by decide) | decide +kernel) (Nat.le_of_ble_eq_true rfl) ?_
  intro p e s m args below meth c A ls hf hr hlocks hnm hno hK hA hAz hw hl hst
  have hf : CallFix p m c cX1_lineOf 2 s args lw_all "SilkRow" := hf
  have hnm : meth.name = "lineOf" := hnm
  have hx := hf.1
  have hb := hf.2.1
  have hts := hf.2.2.2.2
  have hl : lv_has ls 2 [(0, .ref x), (1, .int i)] := hl
  have hw : Wd D A s.heap s.heap [] [[ob x 0 [.ref (L 0), .ref (L 1), .ref (L 2), .ref (L 3), .ref (L 4), .ref (L 5), .int (sc 0), .int (bz (sc 1)), .int (sc 2), .int (sc 3), .int (sc 4), .int (sc 5), .int (sc 6)]], ((ob (L 1) 15 [.int u, .ref (al_d g st), .int (nI (ads ln).length)]) :: (al_t dT st (ads ln))), (ln.flatMap lnE)] := hw
  refine lv_aload_n hx hb dX1_lineOf_0 rfl (lv_at hl 0 rfl) ?_
  refine xr_get hf hK hw 0 0 rfl rfl in_X1 1 (by decide) q252 (fun _ h => h) rfl dX1_lineOf_1 ?_
  refine lv_iload_n hx hb dX1_lineOf_4 rfl (lv_at hl 1 rfl) ?_
  refine xc_S (rest := []) (As := [.ref (L 1), .int i]) hf hK hA hAz hst (hw.pick [1] rfl rfl rfl) (k_X1_at l D dT g z0 (L 1) u st (ads ln) i hok) (va_cwS 2 hts (lw_S q835 q836 q44 q837) rfl rfl rfl (by decide +kernel) ⟨Nat.le_of_ble_eq_true rfl, Nat.le_of_ble_eq_true rfl⟩) rfl hl.1 rfl (Nat.le_of_ble_eq_true rfl) dX1_lineOf_5 ⟨(Nat.le_of_ble_eq_true rfl), (Nat.le_of_ble_eq_true rfl)⟩ ?_ (fun v9 LL1 H locs hp hw => ?_)
  · intro E9 LL9 H locs q9 ce9 hp hw h91 h92 h93
    obtain ⟨hE, rfl⟩ := hp
    have hw := Wd.take (L2 := [[ob x 0 [.ref (L 0), .ref (L 1), .ref (L 2), .ref (L 3), .ref (L 4), .ref (L 5), .int (sc 0), .int (bz (sc 1)), .int (sc 2), .int (sc 3), .int (sc 4), .int (sc 5), .int (sc 6)]], ((ob (L 1) 15 [.int u, .ref (al_d g st), .int (nI (ads ln).length)]) :: (al_t dT st (ads ln))), (ln.flatMap lnE)]) hw [1, 0, 0] rfl rfl
    exact xr_out hno hlocks hw ⟨hE, rfl⟩ h91 h92 h93 (Nat.le_of_ble_eq_true rfl) (Nat.le_of_ble_eq_true rfl)
  obtain ⟨k_1, y_2, e_3, rfl, rfl⟩ := hp
  have hw : Wd D A s.heap _ _ [((ob (L 1) 15 [.int u, .ref (al_d g st), .int (nI (ads ln).length)]) :: (al_t dT st (ads ln))), [ob x 0 [.ref (L 0), .ref (L 1), .ref (L 2), .ref (L 3), .ref (L 4), .ref (L 5), .int (sc 0), .int (bz (sc 1)), .int (sc 2), .int (sc 3), .int (sc 4), .int (sc 5), .int (sc 6)]], (ln.flatMap lnE)] := hw
  refine W.eq (g2 := F0 m 8 ls [.ref y_2]) rfl ?_
  obtain ⟨q, hq, rfl⟩ := ads_get e_3.2.2
  refine W.eq (g2 := F0 m 8 ls [.ref q.1]) rfl ?_
  refine xr_castM hf hK hw (sg_mem 2 rfl (fm_mem hq List.mem_cons_self)) rfl q114 dX1_lineOf_8 ?_
  have hw : Wd D A s.heap _ _ [[ob x 0 [.ref (L 0), .ref (L 1), .ref (L 2), .ref (L 3), .ref (L 4), .ref (L 5), .int (sc 0), .int (bz (sc 1)), .int (sc 2), .int (sc 3), .int (sc 4), .int (sc 5), .int (sc 6)]], ((ob (L 1) 15 [.int u, .ref (al_d g st), .int (nI (ads ln).length)]) :: (al_t dT st (ads ln))), (ln.flatMap lnE)] := Wd.take hw [1, 0, 0] rfl rfl
  exact xr_aret hf hr (by first | exact Or.inl ⟨_, rfl⟩ | exact Or.inr ⟨_, rfl⟩) (Or.inr ⟨_, rfl⟩) hlocks hw (Nat.le_of_ble_eq_true rfl) (Nat.le_of_ble_eq_true rfl) ⟨k_1, q, ⟨hq, e_3.2.1⟩, rfl, rfl⟩ dX1_lineOf_11

set_option maxHeartbeats 4000000 in
theorem k_X1_trayOf (l : Launch) (D : va_G) (dT g : Nat → Nat) (z0 : Nat) (x : Nat) (L : Nat → Nat) (sc : Nat → Int32) (u : Int32) (st : Option (Nat × Nat)) (tr : List (Nat × (Nat → Int32))) (i : Int32) (hok : alOK st (ads tr)) : Con l D dT g z0 yX1_trayOf (ws_ yX1_trayOf cX1_trayOf 2 (some (.object "SilkRow$Tray"))) ({ frames := 8, cells := 1, slots := 6, locals := 182 }) [.ref x, .int i] [[ob x 0 [.ref (L 0), .ref (L 1), .ref (L 2), .ref (L 3), .ref (L 4), .ref (L 5), .int (sc 0), .int (bz (sc 1)), .int (sc 2), .int (sc 3), .int (sc 4), .int (sc 5), .int (sc 6)]], ((ob (L 2) 15 [.int u, .ref (al_d g st), .int (nI (ads tr).length)]) :: (al_t dT st (ads tr))), (tr.flatMap trE)] (fun r LL => ∃ (k : Nat) (q : Nat × (Nat → Int32)), (tr[k]? = some q ∧ i = nI k) ∧ r = some (.ref q.1) ∧ LL = [[ob x 0 [.ref (L 0), .ref (L 1), .ref (L 2), .ref (L 3), .ref (L 4), .ref (L 5), .int (sc 0), .int (bz (sc 1)), .int (sc 2), .int (sc 3), .int (sc 4), .int (sc 5), .int (sc 6)]], ((ob (L 2) 15 [.int u, .ref (al_d g st), .int (nI (ads tr).length)]) :: (al_t dT st (ads tr))), (tr.flatMap trE)]) (fun E LL => (E = "java/lang/IndexOutOfBoundsException" ∧ (i < 0 ∨ ¬ i < nI (ads tr).length)) ∧ LL = [[ob x 0 [.ref (L 0), .ref (L 1), .ref (L 2), .ref (L 3), .ref (L 4), .ref (L 5), .int (sc 0), .int (bz (sc 1)), .int (sc 2), .int (sc 3), .int (sc 4), .int (sc 5), .int (sc 6)]], ((ob (L 2) 15 [.int u, .ref (al_d g st), .int (nI (ads tr).length)]) :: (al_t dT st (ads tr))), (tr.flatMap trE)]) 1 6 := by
  refine Con.of (maxL := 2) (ret := (some (.object "SilkRow$Tray"))) (by first | exact plainFor_of_name (by decide) | decide +kernel) (Nat.le_of_ble_eq_true rfl) ?_
  intro p e s m args below meth c A ls hf hr hlocks hnm hno hK hA hAz hw hl hst
  have hf : CallFix p m c cX1_trayOf 2 s args lw_all "SilkRow" := hf
  have hnm : meth.name = "trayOf" := hnm
  have hx := hf.1
  have hb := hf.2.1
  have hts := hf.2.2.2.2
  have hl : lv_has ls 2 [(0, .ref x), (1, .int i)] := hl
  have hw : Wd D A s.heap s.heap [] [[ob x 0 [.ref (L 0), .ref (L 1), .ref (L 2), .ref (L 3), .ref (L 4), .ref (L 5), .int (sc 0), .int (bz (sc 1)), .int (sc 2), .int (sc 3), .int (sc 4), .int (sc 5), .int (sc 6)]], ((ob (L 2) 15 [.int u, .ref (al_d g st), .int (nI (ads tr).length)]) :: (al_t dT st (ads tr))), (tr.flatMap trE)] := hw
  refine lv_aload_n hx hb dX1_trayOf_0 rfl (lv_at hl 0 rfl) ?_
  refine xr_get hf hK hw 0 0 rfl rfl in_X1 2 (by decide) q253 (fun _ h => h) rfl dX1_trayOf_1 ?_
  refine lv_iload_n hx hb dX1_trayOf_4 rfl (lv_at hl 1 rfl) ?_
  refine xc_S (rest := []) (As := [.ref (L 2), .int i]) hf hK hA hAz hst (hw.pick [1] rfl rfl rfl) (k_X1_at l D dT g z0 (L 2) u st (ads tr) i hok) (va_cwS 2 hts (lw_S q835 q836 q44 q837) rfl rfl rfl (by decide +kernel) ⟨Nat.le_of_ble_eq_true rfl, Nat.le_of_ble_eq_true rfl⟩) rfl hl.1 rfl (Nat.le_of_ble_eq_true rfl) dX1_trayOf_5 ⟨(Nat.le_of_ble_eq_true rfl), (Nat.le_of_ble_eq_true rfl)⟩ ?_ (fun v9 LL1 H locs hp hw => ?_)
  · intro E9 LL9 H locs q9 ce9 hp hw h91 h92 h93
    obtain ⟨hE, rfl⟩ := hp
    have hw := Wd.take (L2 := [[ob x 0 [.ref (L 0), .ref (L 1), .ref (L 2), .ref (L 3), .ref (L 4), .ref (L 5), .int (sc 0), .int (bz (sc 1)), .int (sc 2), .int (sc 3), .int (sc 4), .int (sc 5), .int (sc 6)]], ((ob (L 2) 15 [.int u, .ref (al_d g st), .int (nI (ads tr).length)]) :: (al_t dT st (ads tr))), (tr.flatMap trE)]) hw [1, 0, 0] rfl rfl
    exact xr_out hno hlocks hw ⟨hE, rfl⟩ h91 h92 h93 (Nat.le_of_ble_eq_true rfl) (Nat.le_of_ble_eq_true rfl)
  obtain ⟨k_1, y_2, e_3, rfl, rfl⟩ := hp
  have hw : Wd D A s.heap _ _ [((ob (L 2) 15 [.int u, .ref (al_d g st), .int (nI (ads tr).length)]) :: (al_t dT st (ads tr))), [ob x 0 [.ref (L 0), .ref (L 1), .ref (L 2), .ref (L 3), .ref (L 4), .ref (L 5), .int (sc 0), .int (bz (sc 1)), .int (sc 2), .int (sc 3), .int (sc 4), .int (sc 5), .int (sc 6)]], (tr.flatMap trE)] := hw
  refine W.eq (g2 := F0 m 8 ls [.ref y_2]) rfl ?_
  obtain ⟨q, hq, rfl⟩ := ads_get e_3.2.2
  refine W.eq (g2 := F0 m 8 ls [.ref q.1]) rfl ?_
  refine xr_castM hf hK hw (sg_mem 2 rfl (fm_mem hq List.mem_cons_self)) rfl q200 dX1_trayOf_8 ?_
  have hw : Wd D A s.heap _ _ [[ob x 0 [.ref (L 0), .ref (L 1), .ref (L 2), .ref (L 3), .ref (L 4), .ref (L 5), .int (sc 0), .int (bz (sc 1)), .int (sc 2), .int (sc 3), .int (sc 4), .int (sc 5), .int (sc 6)]], ((ob (L 2) 15 [.int u, .ref (al_d g st), .int (nI (ads tr).length)]) :: (al_t dT st (ads tr))), (tr.flatMap trE)] := Wd.take hw [1, 0, 0] rfl rfl
  exact xr_aret hf hr (by first | exact Or.inl ⟨_, rfl⟩ | exact Or.inr ⟨_, rfl⟩) (Or.inr ⟨_, rfl⟩) hlocks hw (Nat.le_of_ble_eq_true rfl) (Nat.le_of_ble_eq_true rfl) ⟨k_1, q, ⟨hq, e_3.2.1⟩, rfl, rfl⟩ dX1_trayOf_11

set_option maxHeartbeats 4000000 in
theorem k_X1_lotOf (l : Launch) (D : va_G) (dT g : Nat → Nat) (z0 : Nat) (x : Nat) (L : Nat → Nat) (sc : Nat → Int32) (u : Int32) (st : Option (Nat × Nat)) (lo : List (Nat × Nat × Nat × (Nat → Int32))) (i : Int32) (hok : alOK st (ads lo)) : Con l D dT g z0 yX1_lotOf (ws_ yX1_lotOf cX1_lotOf 2 (some (.object "SilkRow$Lot"))) ({ frames := 8, cells := 1, slots := 6, locals := 182 }) [.ref x, .int i] [[ob x 0 [.ref (L 0), .ref (L 1), .ref (L 2), .ref (L 3), .ref (L 4), .ref (L 5), .int (sc 0), .int (bz (sc 1)), .int (sc 2), .int (sc 3), .int (sc 4), .int (sc 5), .int (sc 6)]], ((ob (L 3) 15 [.int u, .ref (al_d g st), .int (nI (ads lo).length)]) :: (al_t dT st (ads lo))), (lo.flatMap (loE dT))] (fun r LL => ∃ (k : Nat) (q : Nat × Nat × Nat × (Nat → Int32)), (lo[k]? = some q ∧ i = nI k) ∧ r = some (.ref q.1) ∧ LL = [[ob x 0 [.ref (L 0), .ref (L 1), .ref (L 2), .ref (L 3), .ref (L 4), .ref (L 5), .int (sc 0), .int (bz (sc 1)), .int (sc 2), .int (sc 3), .int (sc 4), .int (sc 5), .int (sc 6)]], ((ob (L 3) 15 [.int u, .ref (al_d g st), .int (nI (ads lo).length)]) :: (al_t dT st (ads lo))), (lo.flatMap (loE dT))]) (fun E LL => (E = "java/lang/IndexOutOfBoundsException" ∧ (i < 0 ∨ ¬ i < nI (ads lo).length)) ∧ LL = [[ob x 0 [.ref (L 0), .ref (L 1), .ref (L 2), .ref (L 3), .ref (L 4), .ref (L 5), .int (sc 0), .int (bz (sc 1)), .int (sc 2), .int (sc 3), .int (sc 4), .int (sc 5), .int (sc 6)]], ((ob (L 3) 15 [.int u, .ref (al_d g st), .int (nI (ads lo).length)]) :: (al_t dT st (ads lo))), (lo.flatMap (loE dT))]) 1 6 := by
  refine Con.of (maxL := 2) (ret := (some (.object "SilkRow$Lot"))) (by first | exact plainFor_of_name (by decide) | decide +kernel) (Nat.le_of_ble_eq_true rfl) ?_
  intro p e s m args below meth c A ls hf hr hlocks hnm hno hK hA hAz hw hl hst
  have hf : CallFix p m c cX1_lotOf 2 s args lw_all "SilkRow" := hf
  have hnm : meth.name = "lotOf" := hnm
  have hx := hf.1
  have hb := hf.2.1
  have hts := hf.2.2.2.2
  have hl : lv_has ls 2 [(0, .ref x), (1, .int i)] := hl
  have hw : Wd D A s.heap s.heap [] [[ob x 0 [.ref (L 0), .ref (L 1), .ref (L 2), .ref (L 3), .ref (L 4), .ref (L 5), .int (sc 0), .int (bz (sc 1)), .int (sc 2), .int (sc 3), .int (sc 4), .int (sc 5), .int (sc 6)]], ((ob (L 3) 15 [.int u, .ref (al_d g st), .int (nI (ads lo).length)]) :: (al_t dT st (ads lo))), (lo.flatMap (loE dT))] := hw
  refine lv_aload_n hx hb dX1_lotOf_0 rfl (lv_at hl 0 rfl) ?_
  refine xr_get hf hK hw 0 0 rfl rfl in_X1 3 (by decide) q254 (fun _ h => h) rfl dX1_lotOf_1 ?_
  refine lv_iload_n hx hb dX1_lotOf_4 rfl (lv_at hl 1 rfl) ?_
  refine xc_S (rest := []) (As := [.ref (L 3), .int i]) hf hK hA hAz hst (hw.pick [1] rfl rfl rfl) (k_X1_at l D dT g z0 (L 3) u st (ads lo) i hok) (va_cwS 2 hts (lw_S q835 q836 q44 q837) rfl rfl rfl (by decide +kernel) ⟨Nat.le_of_ble_eq_true rfl, Nat.le_of_ble_eq_true rfl⟩) rfl hl.1 rfl (Nat.le_of_ble_eq_true rfl) dX1_lotOf_5 ⟨(Nat.le_of_ble_eq_true rfl), (Nat.le_of_ble_eq_true rfl)⟩ ?_ (fun v9 LL1 H locs hp hw => ?_)
  · intro E9 LL9 H locs q9 ce9 hp hw h91 h92 h93
    obtain ⟨hE, rfl⟩ := hp
    have hw := Wd.take (L2 := [[ob x 0 [.ref (L 0), .ref (L 1), .ref (L 2), .ref (L 3), .ref (L 4), .ref (L 5), .int (sc 0), .int (bz (sc 1)), .int (sc 2), .int (sc 3), .int (sc 4), .int (sc 5), .int (sc 6)]], ((ob (L 3) 15 [.int u, .ref (al_d g st), .int (nI (ads lo).length)]) :: (al_t dT st (ads lo))), (lo.flatMap (loE dT))]) hw [1, 0, 0] rfl rfl
    exact xr_out hno hlocks hw ⟨hE, rfl⟩ h91 h92 h93 (Nat.le_of_ble_eq_true rfl) (Nat.le_of_ble_eq_true rfl)
  obtain ⟨k_1, y_2, e_3, rfl, rfl⟩ := hp
  have hw : Wd D A s.heap _ _ [((ob (L 3) 15 [.int u, .ref (al_d g st), .int (nI (ads lo).length)]) :: (al_t dT st (ads lo))), [ob x 0 [.ref (L 0), .ref (L 1), .ref (L 2), .ref (L 3), .ref (L 4), .ref (L 5), .int (sc 0), .int (bz (sc 1)), .int (sc 2), .int (sc 3), .int (sc 4), .int (sc 5), .int (sc 6)]], (lo.flatMap (loE dT))] := hw
  refine W.eq (g2 := F0 m 8 ls [.ref y_2]) rfl ?_
  obtain ⟨q, hq, rfl⟩ := ads_get e_3.2.2
  refine W.eq (g2 := F0 m 8 ls [.ref q.1]) rfl ?_
  refine xr_castM hf hK hw (sg_mem 2 rfl (fm_mem hq List.mem_cons_self)) rfl q431 dX1_lotOf_8 ?_
  have hw : Wd D A s.heap _ _ [[ob x 0 [.ref (L 0), .ref (L 1), .ref (L 2), .ref (L 3), .ref (L 4), .ref (L 5), .int (sc 0), .int (bz (sc 1)), .int (sc 2), .int (sc 3), .int (sc 4), .int (sc 5), .int (sc 6)]], ((ob (L 3) 15 [.int u, .ref (al_d g st), .int (nI (ads lo).length)]) :: (al_t dT st (ads lo))), (lo.flatMap (loE dT))] := Wd.take hw [1, 0, 0] rfl rfl
  exact xr_aret hf hr (by first | exact Or.inl ⟨_, rfl⟩ | exact Or.inr ⟨_, rfl⟩) (Or.inr ⟨_, rfl⟩) hlocks hw (Nat.le_of_ble_eq_true rfl) (Nat.le_of_ble_eq_true rfl) ⟨k_1, q, ⟨hq, e_3.2.1⟩, rfl, rfl⟩ dX1_lotOf_11

