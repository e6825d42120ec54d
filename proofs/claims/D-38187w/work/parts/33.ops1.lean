/-! 33.ops1 (printed by gen/silk.py) -/
set_option maxRecDepth 100000
set_option maxHeartbeats 4000000 in
theorem k_X1_pick (l : Launch) (D : va_G) (dT g : Nat → Nat) (z0 : Nat) (x : Nat) (L : Nat → Nat) (sc : Nat → Int32) (u : Int32) (st : Option (Nat × Nat)) (pl : List (Nat × Nat × (Nat → Int32))) (i : Int32) (y : Int32) (hok : alOK st (ads pl)) : Con l D dT g z0 yX1_pick (ws_ yX1_pick cX1_pick 5 (some .int)) ({ frames := 9, cells := 3, slots := 16, locals := 203 }) [.ref x, .int i, .int y] [[ob x 0 [.ref (L 0), .ref (L 1), .ref (L 2), .ref (L 3), .ref (L 4), .ref (L 5), .int (sc 0), .int (bz (sc 1)), .int (sc 2), .int (sc 3), .int (sc 4), .int (sc 5), .int (sc 6)]], ((ob (L 0) 15 [.int u, .ref (al_d g st), .int (nI (ads pl).length)]) :: (al_t dT st (ads pl))), (pl.flatMap (plE dT))] (fun r LL => ∃ (k : Nat) (q : Nat × Nat × (Nat → Int32)), (pl[k]? = some q ∧ i = nI k ∧ ¬ y < 1 ∧ ¬ 99 < y) ∧ r = some (.int ((f_X8_pick q.2.2 y).1)) ∧ LL = [srS x L (sc_pick sc (f_X8_pick q.2.2 y).1), ((ob (L 0) 15 [.int u, .ref (al_d g st), .int (nI (ads pl).length)]) :: (al_t dT st (ads pl))), ((pl.set k (q.1, q.2.1, (f_X8_pick q.2.2 y).2)).flatMap (plE dT))]) (fun E LL => ((E = "java/lang/IndexOutOfBoundsException" ∧ (i < 0 ∨ ¬ i < nI (ads pl).length)) ∨ (E = "java/lang/IllegalArgumentException" ∧ ¬ (i < 0 ∨ ¬ i < nI (ads pl).length) ∧ (y < 1 ∨ 99 < y))) ∧ LL = [[ob x 0 [.ref (L 0), .ref (L 1), .ref (L 2), .ref (L 3), .ref (L 4), .ref (L 5), .int (sc 0), .int (bz (sc 1)), .int (sc 2), .int (sc 3), .int (sc 4), .int (sc 5), .int (sc 6)]], ((ob (L 0) 15 [.int u, .ref (al_d g st), .int (nI (ads pl).length)]) :: (al_t dT st (ads pl))), (pl.flatMap (plE dT))]) 3 16 := by
  refine Con.of (maxL := 5) (ret := (some .int)) (by first | exact plainFor_of_name (by decide) | decide +kernel) (Nat.le_of_ble_eq_true rfl) ?_
  intro p e s m args below meth c A ls hf hr hlocks hnm hno hK hA hAz hw hl hst
  have hf : CallFix p m c cX1_pick 5 s args lw_all "SilkRow" := hf
  have hnm : meth.name = "pick" := hnm
  have hx := hf.1
  have hb := hf.2.1
  have hts := hf.2.2.2.2
  have hl : lv_has ls 5 [(0, .ref x), (1, .int i), (2, .int y)] := hl
  have hw : Wd D A s.heap s.heap [] [[ob x 0 [.ref (L 0), .ref (L 1), .ref (L 2), .ref (L 3), .ref (L 4), .ref (L 5), .int (sc 0), .int (bz (sc 1)), .int (sc 2), .int (sc 3), .int (sc 4), .int (sc 5), .int (sc 6)]], ((ob (L 0) 15 [.int u, .ref (al_d g st), .int (nI (ads pl).length)]) :: (al_t dT st (ads pl))), (pl.flatMap (plE dT))] := hw
  refine lv_aload_n hx hb dX1_pick_0 rfl (lv_at hl 0 rfl) ?_
  refine lv_iload_n hx hb dX1_pick_1 rfl (lv_at hl 1 rfl) ?_
  refine xc_V (rest := []) (As := [.int i]) hf hK hA hAz hst (hw.pick [0, 0, 0] rfl rfl rfl) (k_X1_plotOf l D dT g z0 x L sc u st pl i hok) (cwV 1 hts (lw_V q831 q833 qs12 q44 q834) rfl rfl rfl (by decide +kernel) ⟨Nat.le_of_ble_eq_true rfl, Nat.le_of_ble_eq_true rfl⟩) (xr_rv hK hw 0 0 rfl rfl) rfl hl.1 rfl (Nat.le_of_ble_eq_true rfl) dX1_pick_2 ⟨(Nat.le_of_ble_eq_true rfl), (Nat.le_of_ble_eq_true rfl)⟩ ?_ (fun v9 LL1 H locs hp hw => ?_)
  · intro E9 LL9 H locs q9 ce9 hp hw h91 h92 h93
    obtain ⟨hE, rfl⟩ := hp
    have hw := Wd.take (L2 := [[ob x 0 [.ref (L 0), .ref (L 1), .ref (L 2), .ref (L 3), .ref (L 4), .ref (L 5), .int (sc 0), .int (bz (sc 1)), .int (sc 2), .int (sc 3), .int (sc 4), .int (sc 5), .int (sc 6)]], ((ob (L 0) 15 [.int u, .ref (al_d g st), .int (nI (ads pl).length)]) :: (al_t dT st (ads pl))), (pl.flatMap (plE dT))]) hw [0, 0, 0] rfl rfl
    exact xr_out hno hlocks hw ⟨Or.inl hE, rfl⟩ h91 h92 h93 (Nat.le_of_ble_eq_true rfl) (Nat.le_of_ble_eq_true rfl)
  obtain ⟨k_1, q_2, e_3, rfl, rfl⟩ := hp
  have hw : Wd D A s.heap _ _ [[ob x 0 [.ref (L 0), .ref (L 1), .ref (L 2), .ref (L 3), .ref (L 4), .ref (L 5), .int (sc 0), .int (bz (sc 1)), .int (sc 2), .int (sc 3), .int (sc 4), .int (sc 5), .int (sc 6)]], ((ob (L 0) 15 [.int u, .ref (al_d g st), .int (nI (ads pl).length)]) :: (al_t dT st (ads pl))), (pl.flatMap (plE dT))] := hw
  refine W.eq (g2 := F0 m 5 ls [.ref q_2.1]) rfl ?_
  refine lv_astore_n (lv' := [(3, .ref q_2.1), (0, .ref x), (1, .int i), (2, .int y)]) hx hb dX1_pick_5 rfl hl (by decide) rfl (fun ls hl => ?_)
  refine lv_iconst (v := 1) hx hb dX1_pick_6 (by decide) ?_
  refine lv_bipush (v := 99) hx hb dX1_pick_7 (by decide) ?_
  refine lv_iload_n hx hb dX1_pick_9 rfl (lv_at hl 3 rfl) ?_
  refine xc_S (rest := []) (As := [.int 1, .int 99, .int y]) hf hK hA hAz hst (hw.pick [] rfl rfl rfl) (k_X1_requireFrom l D dT g z0 1 99 y) (va_cwS 3 hts (lw_S q662 q663 q44 q664) rfl rfl rfl (by decide +kernel) ⟨Nat.le_of_ble_eq_true rfl, Nat.le_of_ble_eq_true rfl⟩) rfl hl.1 rfl (Nat.le_of_ble_eq_true rfl) dX1_pick_10 ⟨(Nat.le_of_ble_eq_true rfl), (Nat.le_of_ble_eq_true rfl)⟩ ?_ (fun v9 LL1 H locs hp hw => ?_)
  · intro E9 LL9 H locs q9 ce9 hp hw h91 h92 h93
    obtain ⟨hE, rfl⟩ := hp
    have hw := Wd.take (L2 := [[ob x 0 [.ref (L 0), .ref (L 1), .ref (L 2), .ref (L 3), .ref (L 4), .ref (L 5), .int (sc 0), .int (bz (sc 1)), .int (sc 2), .int (sc 3), .int (sc 4), .int (sc 5), .int (sc 6)]], ((ob (L 0) 15 [.int u, .ref (al_d g st), .int (nI (ads pl).length)]) :: (al_t dT st (ads pl))), (pl.flatMap (plE dT))]) hw [0, 0, 0] rfl rfl
    exact xr_out hno hlocks hw ⟨Or.inr ⟨hE.1, rng_no e_3 (al_short hok), hE.2⟩, rfl⟩ h91 h92 h93 (Nat.le_of_ble_eq_true rfl) (Nat.le_of_ble_eq_true rfl)
  obtain ⟨e_4, rfl, rfl⟩ := hp
  have hw : Wd D A s.heap _ _ [[ob x 0 [.ref (L 0), .ref (L 1), .ref (L 2), .ref (L 3), .ref (L 4), .ref (L 5), .int (sc 0), .int (bz (sc 1)), .int (sc 2), .int (sc 3), .int (sc 4), .int (sc 5), .int (sc 6)]], ((ob (L 0) 15 [.int u, .ref (al_d g st), .int (nI (ads pl).length)]) :: (al_t dT st (ads pl))), (pl.flatMap (plE dT))] := hw
  refine W.eq (g2 := F0 m 13 ls []) rfl ?_
  refine lv_aload_n hx hb dX1_pick_13 rfl (lv_at hl 0 rfl) ?_
  refine lv_iload_n hx hb dX1_pick_14 rfl (lv_at hl 3 rfl) ?_
  have hw : Wd D A s.heap _ _ [(pl.flatMap (plE dT)), [ob x 0 [.ref (L 0), .ref (L 1), .ref (L 2), .ref (L 3), .ref (L 4), .ref (L 5), .int (sc 0), .int (bz (sc 1)), .int (sc 2), .int (sc 3), .int (sc 4), .int (sc 5), .int (sc 6)]], ((ob (L 0) 15 [.int u, .ref (al_d g st), .int (nI (ads pl).length)]) :: (al_t dT st (ads pl)))] := hw.pick [2] rfl rfl rfl
  have hw : Wd D A s.heap _ _ [[ob q_2.1 7 [.int (q_2.2.2 0), .int (q_2.2.2 1), .ref q_2.2.1], (q_2.2.1, aI dT [q_2.2.2 2, q_2.2.2 3, q_2.2.2 4, q_2.2.2 5])], ((pl.eraseIdx k_1).flatMap (plE dT)), [ob x 0 [.ref (L 0), .ref (L 1), .ref (L 2), .ref (L 3), .ref (L 4), .ref (L 5), .int (sc 0), .int (bz (sc 1)), .int (sc 2), .int (sc 3), .int (sc 4), .int (sc 5), .int (sc 6)]], ((ob (L 0) 15 [.int u, .ref (al_d g st), .int (nI (ads pl).length)]) :: (al_t dT st (ads pl)))] := hw.foc e_3.1
  refine xc_V (rest := []) (As := [.int y]) hf hK hA hAz hst (hw.pick [0] rfl rfl rfl) (k_X8_pick l D dT g z0 q_2.1 q_2.2.1 q_2.2.2 y) (cwV 1 hts (lw_V q870 q871 q872 q63 q873) rfl rfl rfl (by decide +kernel) ⟨Nat.le_of_ble_eq_true rfl, Nat.le_of_ble_eq_true rfl⟩) (xr_rv hK hw 0 0 rfl rfl) rfl hl.1 rfl (Nat.le_of_ble_eq_true rfl) dX1_pick_15 ⟨(Nat.le_of_ble_eq_true rfl), (Nat.le_of_ble_eq_true rfl)⟩ (fun _ _ _ _ _ _ h => h.elim) (fun v9 LL1 H locs hp hw => ?_)
  obtain ⟨r5, hr5⟩ : ∃ z, z = f_X8_pick q_2.2.2 y := ⟨_, rfl⟩
  rw [← hr5] at hp
  obtain ⟨rfl, rfl⟩ := hp
  have hw : Wd D A s.heap _ _ [[ob q_2.1 7 [.int (r5.2 0), .int (r5.2 1), .ref q_2.2.1], (q_2.2.1, aI dT [r5.2 2, r5.2 3, r5.2 4, r5.2 5])], ((pl.eraseIdx k_1).flatMap (plE dT)), [ob x 0 [.ref (L 0), .ref (L 1), .ref (L 2), .ref (L 3), .ref (L 4), .ref (L 5), .int (sc 0), .int (bz (sc 1)), .int (sc 2), .int (sc 3), .int (sc 4), .int (sc 5), .int (sc 6)]], ((ob (L 0) 15 [.int u, .ref (al_d g st), .int (nI (ads pl).length)]) :: (al_t dT st (ads pl)))] := hw
  refine W.eq (g2 := F0 m 18 ls [.int r5.1]) rfl ?_
  refine lv_istore (lv' := [(4, .int r5.1), (3, .ref q_2.1), (0, .ref x), (1, .int i), (2, .int y)]) hx hb dX1_pick_18 hl (by decide) rfl (fun ls hl => ?_)
  refine lv_aload_n hx hb dX1_pick_20 rfl (lv_at hl 2 rfl) ?_
  refine lv_dup hx hb dX1_pick_21 rfl ?_
  refine xr_get hf hK hw 2 0 rfl rfl in_X1 8 (by decide) q259 (fun _ h => h) rfl dX1_pick_22 ?_
  refine lv_iload hx hb dX1_pick_25 (lv_at hl 0 rfl) ?_
  refine lv_iadd hx hb dX1_pick_27 ?_
  refine xr_put (LL' := [[ob q_2.1 7 [.int (r5.2 0), .int (r5.2 1), .ref q_2.2.1], (q_2.2.1, aI dT [r5.2 2, r5.2 3, r5.2 4, r5.2 5])], ((pl.eraseIdx k_1).flatMap (plE dT)), [ob x 0 [.ref (L 0), .ref (L 1), .ref (L 2), .ref (L 3), .ref (L 4), .ref (L 5), .int (sc 0), .int (bz (sc 1)), .int ((sc 2) + r5.1), .int (sc 3), .int (sc 4), .int (sc 5), .int (sc 6)]], ((ob (L 0) 15 [.int u, .ref (al_d g st), .int (nI (ads pl).length)]) :: (al_t dT st (ads pl)))]) hf hK hw 2 0 rfl rfl in_X1 tyX1_ok nmX1 8 (by decide) q259 (fun _ h => h) rfl rfl rfl (Nat.le_of_ble_eq_true rfl) rfl dX1_pick_28 (fun H locs hw => ?_)
  refine lv_aload_n hx hb dX1_pick_31 rfl (lv_at hl 2 rfl) ?_
  refine xr_get hf hK hw 2 0 rfl rfl in_X1 7 (by decide) q258 (fun _ h => h) rfl dX1_pick_32 ?_
  refine lv_if_eq (tgt := 49) hx hb dX1_pick_35 (by decide) (fun c_35 => ?_) (fun c_35 => ?_)
  · refine lv_iload hx hb dX1_pick_49 (lv_at hl 0 rfl) ?_
    have hw : Wd D A s.heap _ _ [((pl.set k_1 (q_2.1, q_2.2.1, r5.2)).flatMap (plE dT)), [ob x 0 [.ref (L 0), .ref (L 1), .ref (L 2), .ref (L 3), .ref (L 4), .ref (L 5), .int (sc 0), .int (bz (sc 1)), .int ((sc 2) + r5.1), .int (sc 3), .int (sc 4), .int (sc 5), .int (sc 6)]], ((ob (L 0) 15 [.int u, .ref (al_d g st), .int (nI (ads pl).length)]) :: (al_t dT st (ads pl)))] := Wd.unf (q' := (q_2.1, q_2.2.1, r5.2)) (L := pl) (k := k_1) hw e_3.1
    have hw : Wd D A s.heap _ _ [[ob x 0 [.ref (L 0), .ref (L 1), .ref (L 2), .ref (L 3), .ref (L 4), .ref (L 5), .int (sc 0), .int (bz (sc 1)), .int ((sc 2) + r5.1), .int (sc 3), .int (sc 4), .int (sc 5), .int (sc 6)]], ((ob (L 0) 15 [.int u, .ref (al_d g st), .int (nI (ads pl).length)]) :: (al_t dT st (ads pl))), ((pl.set k_1 (q_2.1, q_2.2.1, r5.2)).flatMap (plE dT))] := Wd.take hw [1, 1, 0] rfl rfl
    have hwZ := hw
    subst hr5
    have hw := hwZ
    exact xr_iret hf hr hlocks hw (Nat.le_of_ble_eq_true rfl) (Nat.le_of_ble_eq_true rfl) ⟨k_1, q_2, ⟨e_3.1, e_3.2, e_4.1, e_4.2⟩, rfl, (by first | rfl | (unfold sc_pick; first | rfl | (rw [if_pos c_35]; rfl) | (rw [if_neg c_35]; rfl) | rw [if_pos c_35] | rw [if_neg c_35]))⟩ dX1_pick_51
  · refine lv_aload_n hx hb dX1_pick_38 rfl (lv_at hl 2 rfl) ?_
    refine lv_dup hx hb dX1_pick_39 rfl ?_
    refine xr_get hf hK hw 2 0 rfl rfl in_X1 9 (by decide) q260 (fun _ h => h) rfl dX1_pick_40 ?_
    refine lv_iload hx hb dX1_pick_43 (lv_at hl 0 rfl) ?_
    refine lv_iadd hx hb dX1_pick_45 ?_
    refine xr_put (LL' := [[ob q_2.1 7 [.int (r5.2 0), .int (r5.2 1), .ref q_2.2.1], (q_2.2.1, aI dT [r5.2 2, r5.2 3, r5.2 4, r5.2 5])], ((pl.eraseIdx k_1).flatMap (plE dT)), [ob x 0 [.ref (L 0), .ref (L 1), .ref (L 2), .ref (L 3), .ref (L 4), .ref (L 5), .int (sc 0), .int (bz (sc 1)), .int ((sc 2) + r5.1), .int ((sc 3) + r5.1), .int (sc 4), .int (sc 5), .int (sc 6)]], ((ob (L 0) 15 [.int u, .ref (al_d g st), .int (nI (ads pl).length)]) :: (al_t dT st (ads pl)))]) hf hK hw 2 0 rfl rfl in_X1 tyX1_ok nmX1 9 (by decide) q260 (fun _ h => h) rfl rfl rfl (Nat.le_of_ble_eq_true rfl) rfl dX1_pick_46 (fun H locs hw => ?_)
    refine lv_iload hx hb dX1_pick_49 (lv_at hl 0 rfl) ?_
    have hw : Wd D A s.heap _ _ [((pl.set k_1 (q_2.1, q_2.2.1, r5.2)).flatMap (plE dT)), [ob x 0 [.ref (L 0), .ref (L 1), .ref (L 2), .ref (L 3), .ref (L 4), .ref (L 5), .int (sc 0), .int (bz (sc 1)), .int ((sc 2) + r5.1), .int ((sc 3) + r5.1), .int (sc 4), .int (sc 5), .int (sc 6)]], ((ob (L 0) 15 [.int u, .ref (al_d g st), .int (nI (ads pl).length)]) :: (al_t dT st (ads pl)))] := Wd.unf (q' := (q_2.1, q_2.2.1, r5.2)) (L := pl) (k := k_1) hw e_3.1
    have hw : Wd D A s.heap _ _ [[ob x 0 [.ref (L 0), .ref (L 1), .ref (L 2), .ref (L 3), .ref (L 4), .ref (L 5), .int (sc 0), .int (bz (sc 1)), .int ((sc 2) + r5.1), .int ((sc 3) + r5.1), .int (sc 4), .int (sc 5), .int (sc 6)]], ((ob (L 0) 15 [.int u, .ref (al_d g st), .int (nI (ads pl).length)]) :: (al_t dT st (ads pl))), ((pl.set k_1 (q_2.1, q_2.2.1, r5.2)).flatMap (plE dT))] := Wd.take hw [1, 1, 0] rfl rfl
    have hwZ := hw
    subst hr5
    have hw := hwZ
    exact xr_iret hf hr hlocks hw (Nat.le_of_ble_eq_true rfl) (Nat.le_of_ble_eq_true rfl) ⟨k_1, q_2, ⟨e_3.1, e_3.2, e_4.1, e_4.2⟩, rfl, (by first | rfl | (unfold sc_pick; first | rfl | (rw [if_pos c_35]; rfl) | (rw [if_neg c_35]; rfl) | rw [if_pos c_35] | rw [if_neg c_35]))⟩ dX1_pick_51

set_option maxHeartbeats 4000000 in
theorem k_X1_prune (l : Launch) (D : va_G) (dT g : Nat → Nat) (z0 : Nat) (x : Nat) (L : Nat → Nat) (sc : Nat → Int32) (u : Int32) (st : Option (Nat × Nat)) (pl : List (Nat × Nat × (Nat → Int32))) (i : Int32) (hok : alOK st (ads pl)) : Con l D dT g z0 yX1_prune (ws_ yX1_prune cX1_prune 2 (some .int)) ({ frames := 9, cells := 1, slots := 6, locals := 203 }) [.ref x, .int i] [[ob x 0 [.ref (L 0), .ref (L 1), .ref (L 2), .ref (L 3), .ref (L 4), .ref (L 5), .int (sc 0), .int (bz (sc 1)), .int (sc 2), .int (sc 3), .int (sc 4), .int (sc 5), .int (sc 6)]], ((ob (L 0) 15 [.int u, .ref (al_d g st), .int (nI (ads pl).length)]) :: (al_t dT st (ads pl))), (pl.flatMap (plE dT))] (fun r LL => ∃ (k : Nat) (q : Nat × Nat × (Nat → Int32)), (pl[k]? = some q ∧ i = nI k) ∧ r = some (.int ((f_X8_prune q.2.2).1)) ∧ LL = [[ob x 0 [.ref (L 0), .ref (L 1), .ref (L 2), .ref (L 3), .ref (L 4), .ref (L 5), .int (sc 0), .int (bz (sc 1)), .int (sc 2), .int (sc 3), .int (sc 4), .int (sc 5), .int (sc 6)]], ((ob (L 0) 15 [.int u, .ref (al_d g st), .int (nI (ads pl).length)]) :: (al_t dT st (ads pl))), ((pl.set k (q.1, q.2.1, (f_X8_prune q.2.2).2)).flatMap (plE dT))]) (fun E LL => (E = "java/lang/IndexOutOfBoundsException" ∧ (i < 0 ∨ ¬ i < nI (ads pl).length)) ∧ LL = [[ob x 0 [.ref (L 0), .ref (L 1), .ref (L 2), .ref (L 3), .ref (L 4), .ref (L 5), .int (sc 0), .int (bz (sc 1)), .int (sc 2), .int (sc 3), .int (sc 4), .int (sc 5), .int (sc 6)]], ((ob (L 0) 15 [.int u, .ref (al_d g st), .int (nI (ads pl).length)]) :: (al_t dT st (ads pl))), (pl.flatMap (plE dT))]) 1 6 := by
  refine Con.of (maxL := 2) (ret := (some .int)) (by first | exact plainFor_of_name (by decide) | decide +kernel) (Nat.le_of_ble_eq_true rfl) ?_
  intro p e s m args below meth c A ls hf hr hlocks hnm hno hK hA hAz hw hl hst
  have hf : CallFix p m c cX1_prune 2 s args lw_all "SilkRow" := hf
  have hnm : meth.name = "prune" := hnm
  have hx := hf.1
  have hb := hf.2.1
  have hts := hf.2.2.2.2
  have hl : lv_has ls 2 [(0, .ref x), (1, .int i)] := hl
  have hw : Wd D A s.heap s.heap [] [[ob x 0 [.ref (L 0), .ref (L 1), .ref (L 2), .ref (L 3), .ref (L 4), .ref (L 5), .int (sc 0), .int (bz (sc 1)), .int (sc 2), .int (sc 3), .int (sc 4), .int (sc 5), .int (sc 6)]], ((ob (L 0) 15 [.int u, .ref (al_d g st), .int (nI (ads pl).length)]) :: (al_t dT st (ads pl))), (pl.flatMap (plE dT))] := hw
  refine lv_aload_n hx hb dX1_prune_0 rfl (lv_at hl 0 rfl) ?_
  refine lv_iload_n hx hb dX1_prune_1 rfl (lv_at hl 1 rfl) ?_
  refine xc_V (rest := []) (As := [.int i]) hf hK hA hAz hst (hw.pick [0, 0, 0] rfl rfl rfl) (k_X1_plotOf l D dT g z0 x L sc u st pl i hok) (cwV 1 hts (lw_V q831 q833 qs12 q44 q834) rfl rfl rfl (by decide +kernel) ⟨Nat.le_of_ble_eq_true rfl, Nat.le_of_ble_eq_true rfl⟩) (xr_rv hK hw 0 0 rfl rfl) rfl hl.1 rfl (Nat.le_of_ble_eq_true rfl) dX1_prune_2 ⟨(Nat.le_of_ble_eq_true rfl), (Nat.le_of_ble_eq_true rfl)⟩ ?_ (fun v9 LL1 H locs hp hw => ?_)
  · intro E9 LL9 H locs q9 ce9 hp hw h91 h92 h93
    obtain ⟨hE, rfl⟩ := hp
    have hw := Wd.take (L2 := [[ob x 0 [.ref (L 0), .ref (L 1), .ref (L 2), .ref (L 3), .ref (L 4), .ref (L 5), .int (sc 0), .int (bz (sc 1)), .int (sc 2), .int (sc 3), .int (sc 4), .int (sc 5), .int (sc 6)]], ((ob (L 0) 15 [.int u, .ref (al_d g st), .int (nI (ads pl).length)]) :: (al_t dT st (ads pl))), (pl.flatMap (plE dT))]) hw [0, 0, 0] rfl rfl
    exact xr_out hno hlocks hw ⟨hE, rfl⟩ h91 h92 h93 (Nat.le_of_ble_eq_true rfl) (Nat.le_of_ble_eq_true rfl)
  obtain ⟨k_1, q_2, e_3, rfl, rfl⟩ := hp
  have hw : Wd D A s.heap _ _ [[ob x 0 [.ref (L 0), .ref (L 1), .ref (L 2), .ref (L 3), .ref (L 4), .ref (L 5), .int (sc 0), .int (bz (sc 1)), .int (sc 2), .int (sc 3), .int (sc 4), .int (sc 5), .int (sc 6)]], ((ob (L 0) 15 [.int u, .ref (al_d g st), .int (nI (ads pl).length)]) :: (al_t dT st (ads pl))), (pl.flatMap (plE dT))] := hw
  refine W.eq (g2 := F0 m 5 ls [.ref q_2.1]) rfl ?_
  have hw : Wd D A s.heap _ _ [(pl.flatMap (plE dT)), [ob x 0 [.ref (L 0), .ref (L 1), .ref (L 2), .ref (L 3), .ref (L 4), .ref (L 5), .int (sc 0), .int (bz (sc 1)), .int (sc 2), .int (sc 3), .int (sc 4), .int (sc 5), .int (sc 6)]], ((ob (L 0) 15 [.int u, .ref (al_d g st), .int (nI (ads pl).length)]) :: (al_t dT st (ads pl)))] := hw.pick [2] rfl rfl rfl
  have hw : Wd D A s.heap _ _ [[ob q_2.1 7 [.int (q_2.2.2 0), .int (q_2.2.2 1), .ref q_2.2.1], (q_2.2.1, aI dT [q_2.2.2 2, q_2.2.2 3, q_2.2.2 4, q_2.2.2 5])], ((pl.eraseIdx k_1).flatMap (plE dT)), [ob x 0 [.ref (L 0), .ref (L 1), .ref (L 2), .ref (L 3), .ref (L 4), .ref (L 5), .int (sc 0), .int (bz (sc 1)), .int (sc 2), .int (sc 3), .int (sc 4), .int (sc 5), .int (sc 6)]], ((ob (L 0) 15 [.int u, .ref (al_d g st), .int (nI (ads pl).length)]) :: (al_t dT st (ads pl)))] := hw.foc e_3.1
  refine xc_V (rest := []) (As := []) hf hK hA hAz hst (hw.pick [0] rfl rfl rfl) (k_X8_prune l D dT g z0 q_2.1 q_2.2.1 q_2.2.2) (cwV 0 hts (lw_V q881 q882 q883 q63 q884) rfl rfl rfl (by decide +kernel) ⟨Nat.le_of_ble_eq_true rfl, Nat.le_of_ble_eq_true rfl⟩) (xr_rv hK hw 0 0 rfl rfl) rfl hl.1 rfl (Nat.le_of_ble_eq_true rfl) dX1_prune_5 ⟨(Nat.le_of_ble_eq_true rfl), (Nat.le_of_ble_eq_true rfl)⟩ (fun _ _ _ _ _ _ h => h.elim) (fun v9 LL1 H locs hp hw => ?_)
  obtain ⟨r4, hr4⟩ : ∃ z, z = f_X8_prune q_2.2.2 := ⟨_, rfl⟩
  rw [← hr4] at hp
  obtain ⟨rfl, rfl⟩ := hp
  have hw : Wd D A s.heap _ _ [[ob q_2.1 7 [.int (r4.2 0), .int (r4.2 1), .ref q_2.2.1], (q_2.2.1, aI dT [r4.2 2, r4.2 3, r4.2 4, r4.2 5])], ((pl.eraseIdx k_1).flatMap (plE dT)), [ob x 0 [.ref (L 0), .ref (L 1), .ref (L 2), .ref (L 3), .ref (L 4), .ref (L 5), .int (sc 0), .int (bz (sc 1)), .int (sc 2), .int (sc 3), .int (sc 4), .int (sc 5), .int (sc 6)]], ((ob (L 0) 15 [.int u, .ref (al_d g st), .int (nI (ads pl).length)]) :: (al_t dT st (ads pl)))] := hw
  refine W.eq (g2 := F0 m 8 ls [.int r4.1]) rfl ?_
  have hw : Wd D A s.heap _ _ [((pl.set k_1 (q_2.1, q_2.2.1, r4.2)).flatMap (plE dT)), [ob x 0 [.ref (L 0), .ref (L 1), .ref (L 2), .ref (L 3), .ref (L 4), .ref (L 5), .int (sc 0), .int (bz (sc 1)), .int (sc 2), .int (sc 3), .int (sc 4), .int (sc 5), .int (sc 6)]], ((ob (L 0) 15 [.int u, .ref (al_d g st), .int (nI (ads pl).length)]) :: (al_t dT st (ads pl)))] := Wd.unf (q' := (q_2.1, q_2.2.1, r4.2)) (L := pl) (k := k_1) hw e_3.1
  have hw : Wd D A s.heap _ _ [[ob x 0 [.ref (L 0), .ref (L 1), .ref (L 2), .ref (L 3), .ref (L 4), .ref (L 5), .int (sc 0), .int (bz (sc 1)), .int (sc 2), .int (sc 3), .int (sc 4), .int (sc 5), .int (sc 6)]], ((ob (L 0) 15 [.int u, .ref (al_d g st), .int (nI (ads pl).length)]) :: (al_t dT st (ads pl))), ((pl.set k_1 (q_2.1, q_2.2.1, r4.2)).flatMap (plE dT))] := Wd.take hw [1, 1, 0] rfl rfl
  have hwZ := hw
  subst hr4
  have hw := hwZ
  exact xr_iret hf hr hlocks hw (Nat.le_of_ble_eq_true rfl) (Nat.le_of_ble_eq_true rfl) ⟨k_1, q_2, e_3, rfl, rfl⟩ dX1_prune_8

set_option maxHeartbeats 4000000 in
theorem k_X1_buy (l : Launch) (D : va_G) (dT g : Nat → Nat) (z0 : Nat) (x : Nat) (L : Nat → Nat) (sc : Nat → Int32) (y : Int32) : Con l D dT g z0 yX1_buy (ws_ yX1_buy cX1_buy 3 (some .int)) ({ frames := 8, cells := 2, slots := 12, locals := 182 }) [.ref x, .int y] [[ob x 0 [.ref (L 0), .ref (L 1), .ref (L 2), .ref (L 3), .ref (L 4), .ref (L 5), .int (sc 0), .int (bz (sc 1)), .int (sc 2), .int (sc 3), .int (sc 4), .int (sc 5), .int (sc 6)]]] (fun r LL => (¬ (y < 1 ∨ 300 < y) ∧ ¬ sc 5 < f_X1_up y 3) ∧ r = some (.int (f_X1_up y 3)) ∧ LL = [srS x L (sc_buy sc y)]) (fun E LL => ((E = "java/lang/IllegalArgumentException" ∧ (y < 1 ∨ 300 < y)) ∨ (E = "java/lang/IllegalStateException" ∧ ¬ (y < 1 ∨ 300 < y) ∧ sc 5 < f_X1_up y 3)) ∧ LL = [[ob x 0 [.ref (L 0), .ref (L 1), .ref (L 2), .ref (L 3), .ref (L 4), .ref (L 5), .int (sc 0), .int (bz (sc 1)), .int (sc 2), .int (sc 3), .int (sc 4), .int (sc 5), .int (sc 6)]]]) 2 12 := by
  refine Con.of (maxL := 3) (ret := (some .int)) (by first | exact plainFor_of_name (by decide) | decide +kernel) (Nat.le_of_ble_eq_true rfl) ?_
  intro p e s m args below meth c A ls hf hr hlocks hnm hno hK hA hAz hw hl hst
  have hf : CallFix p m c cX1_buy 3 s args lw_all "SilkRow" := hf
  have hnm : meth.name = "buy" := hnm
  have hx := hf.1
  have hb := hf.2.1
  have hts := hf.2.2.2.2
  have hl : lv_has ls 3 [(0, .ref x), (1, .int y)] := hl
  have hw : Wd D A s.heap s.heap [] [[ob x 0 [.ref (L 0), .ref (L 1), .ref (L 2), .ref (L 3), .ref (L 4), .ref (L 5), .int (sc 0), .int (bz (sc 1)), .int (sc 2), .int (sc 3), .int (sc 4), .int (sc 5), .int (sc 6)]]] := hw
  refine lv_iconst (v := 1) hx hb dX1_buy_0 (by decide) ?_
  refine lv_sipush (v := 300) hx hb dX1_buy_1 (by decide) ?_
  refine lv_iload_n hx hb dX1_buy_4 rfl (lv_at hl 1 rfl) ?_
  refine xc_S (rest := []) (As := [.int 1, .int 300, .int y]) hf hK hA hAz hst (hw.pick [] rfl rfl rfl) (k_X1_requireFrom l D dT g z0 1 300 y) (va_cwS 3 hts (lw_S q662 q663 q44 q664) rfl rfl rfl (by decide +kernel) ⟨Nat.le_of_ble_eq_true rfl, Nat.le_of_ble_eq_true rfl⟩) rfl hl.1 rfl (Nat.le_of_ble_eq_true rfl) dX1_buy_5 ⟨(Nat.le_of_ble_eq_true rfl), (Nat.le_of_ble_eq_true rfl)⟩ ?_ (fun v9 LL1 H locs hp hw => ?_)
  · intro E9 LL9 H locs q9 ce9 hp hw h91 h92 h93
    obtain ⟨hE, rfl⟩ := hp
    have hw := Wd.take (L2 := [[ob x 0 [.ref (L 0), .ref (L 1), .ref (L 2), .ref (L 3), .ref (L 4), .ref (L 5), .int (sc 0), .int (bz (sc 1)), .int (sc 2), .int (sc 3), .int (sc 4), .int (sc 5), .int (sc 6)]]]) hw [0] rfl rfl
    exact xr_out hno hlocks hw ⟨Or.inl hE, rfl⟩ h91 h92 h93 (Nat.le_of_ble_eq_true rfl) (Nat.le_of_ble_eq_true rfl)
  obtain ⟨e_1, rfl, rfl⟩ := hp
  have hw : Wd D A s.heap _ _ [[ob x 0 [.ref (L 0), .ref (L 1), .ref (L 2), .ref (L 3), .ref (L 4), .ref (L 5), .int (sc 0), .int (bz (sc 1)), .int (sc 2), .int (sc 3), .int (sc 4), .int (sc 5), .int (sc 6)]]] := hw
  refine W.eq (g2 := F0 m 8 ls []) rfl ?_
  refine lv_iload_n hx hb dX1_buy_8 rfl (lv_at hl 1 rfl) ?_
  refine lv_iconst (v := 3) hx hb dX1_buy_9 (by decide) ?_
  refine xc_S (rest := []) (As := [.int y, .int 3]) hf hK hA hAz hst (hw.pick [] rfl rfl rfl) (k_X1_up l D dT g z0 y 3 (by decide)) (va_cwS 2 hts (lw_S q789 q381 q44 q382) rfl rfl rfl (by decide +kernel) ⟨Nat.le_of_ble_eq_true rfl, Nat.le_of_ble_eq_true rfl⟩) rfl hl.1 rfl (Nat.le_of_ble_eq_true rfl) dX1_buy_10 ⟨(Nat.le_of_ble_eq_true rfl), (Nat.le_of_ble_eq_true rfl)⟩ (fun _ _ _ _ _ _ h => h.elim) (fun v9 LL1 H locs hp hw => ?_)
  obtain ⟨r2, hr2⟩ : ∃ z, z = f_X1_up y 3 := ⟨_, rfl⟩
  rw [← hr2] at hp
  obtain ⟨rfl, rfl⟩ := hp
  have hw : Wd D A s.heap _ _ [[ob x 0 [.ref (L 0), .ref (L 1), .ref (L 2), .ref (L 3), .ref (L 4), .ref (L 5), .int (sc 0), .int (bz (sc 1)), .int (sc 2), .int (sc 3), .int (sc 4), .int (sc 5), .int (sc 6)]]] := hw
  refine W.eq (g2 := F0 m 13 ls [.int r2]) rfl ?_
  refine lv_istore_n (lv' := [(2, .int r2), (0, .ref x), (1, .int y)]) hx hb dX1_buy_13 rfl hl (by decide) rfl (fun ls hl => ?_)
  refine lv_iload_n hx hb dX1_buy_14 rfl (lv_at hl 0 rfl) ?_
  refine lv_aload_n hx hb dX1_buy_15 rfl (lv_at hl 1 rfl) ?_
  refine xr_get hf hK hw 0 0 rfl rfl in_X1 11 (by decide) q262 (fun _ h => h) rfl dX1_buy_16 ?_
  refine lv_icmp_gt (tgt := 26) hx hb dX1_buy_19 (by decide) (fun c_19 => ?_) (fun c_19 => ?_)
  · refine lv_iconst (v := 0) hx hb dX1_buy_26 (by decide) ?_
    refine xc_S (rest := []) (As := [.int 0]) hf hK hA hAz hst (hw.pick [] rfl rfl rfl) (k_X1_requireState_bad l D dT g z0) (va_cwS 1 hts (lw_S q733 q734 q44 q735) rfl rfl rfl (by decide +kernel) ⟨Nat.le_of_ble_eq_true rfl, Nat.le_of_ble_eq_true rfl⟩) rfl hl.1 rfl (Nat.le_of_ble_eq_true rfl) dX1_buy_27 ⟨(Nat.le_of_ble_eq_true rfl), (Nat.le_of_ble_eq_true rfl)⟩ ?_ (fun v9 LL1 H locs hp hw => ?_)
    · intro E9 LL9 H locs q9 ce9 hp hw h91 h92 h93
      obtain ⟨hE, rfl⟩ := hp
      have hw := Wd.take (L2 := [[ob x 0 [.ref (L 0), .ref (L 1), .ref (L 2), .ref (L 3), .ref (L 4), .ref (L 5), .int (sc 0), .int (bz (sc 1)), .int (sc 2), .int (sc 3), .int (sc 4), .int (sc 5), .int (sc 6)]]]) hw [0] rfl rfl
      exact xr_out hno hlocks hw ⟨Or.inr ⟨hE, (fun z9 => z9.elim e_1.1 e_1.2), (by subst hr2;  exact c_19)⟩, rfl⟩ h91 h92 h93 (Nat.le_of_ble_eq_true rfl) (Nat.le_of_ble_eq_true rfl)
    exact hp.elim
  · refine lv_iconst (v := 1) hx hb dX1_buy_22 (by decide) ?_
    refine lv_goto (tgt := 27) hx hb dX1_buy_23 (by decide) ?_
    refine xc_S (rest := []) (As := [.int 1]) hf hK hA hAz hst (hw.pick [] rfl rfl rfl) (k_X1_requireState_ok l D dT g z0) (va_cwS 1 hts (lw_S q733 q734 q44 q735) rfl rfl rfl (by decide +kernel) ⟨Nat.le_of_ble_eq_true rfl, Nat.le_of_ble_eq_true rfl⟩) rfl hl.1 rfl (Nat.le_of_ble_eq_true rfl) dX1_buy_27 ⟨(Nat.le_of_ble_eq_true rfl), (Nat.le_of_ble_eq_true rfl)⟩ (fun _ _ _ _ _ _ h => h.elim) (fun v9 LL1 H locs hp hw => ?_)
    obtain ⟨rfl, rfl⟩ := hp
    have hw : Wd D A s.heap _ _ [[ob x 0 [.ref (L 0), .ref (L 1), .ref (L 2), .ref (L 3), .ref (L 4), .ref (L 5), .int (sc 0), .int (bz (sc 1)), .int (sc 2), .int (sc 3), .int (sc 4), .int (sc 5), .int (sc 6)]]] := hw
    refine W.eq (g2 := F0 m 30 ls []) rfl ?_
    refine lv_aload_n hx hb dX1_buy_30 rfl (lv_at hl 1 rfl) ?_
    refine lv_dup hx hb dX1_buy_31 rfl ?_
    refine xr_get hf hK hw 0 0 rfl rfl in_X1 11 (by decide) q262 (fun _ h => h) rfl dX1_buy_32 ?_
    refine lv_iload_n hx hb dX1_buy_35 rfl (lv_at hl 0 rfl) ?_
    refine lv_isub hx hb dX1_buy_36 ?_
    refine xr_put (LL' := [[ob x 0 [.ref (L 0), .ref (L 1), .ref (L 2), .ref (L 3), .ref (L 4), .ref (L 5), .int (sc 0), .int (bz (sc 1)), .int (sc 2), .int (sc 3), .int (sc 4), .int ((sc 5) - r2), .int (sc 6)]]]) hf hK hw 0 0 rfl rfl in_X1 tyX1_ok nmX1 11 (by decide) q262 (fun _ h => h) rfl rfl rfl (Nat.le_of_ble_eq_true rfl) rfl dX1_buy_37 (fun H locs hw => ?_)
    refine lv_aload_n hx hb dX1_buy_40 rfl (lv_at hl 1 rfl) ?_
    refine lv_dup hx hb dX1_buy_41 rfl ?_
    refine xr_get hf hK hw 0 0 rfl rfl in_X1 8 (by decide) q259 (fun _ h => h) rfl dX1_buy_42 ?_
    refine lv_iload_n hx hb dX1_buy_45 rfl (lv_at hl 2 rfl) ?_
    refine lv_iadd hx hb dX1_buy_46 ?_
    refine xr_put (LL' := [[ob x 0 [.ref (L 0), .ref (L 1), .ref (L 2), .ref (L 3), .ref (L 4), .ref (L 5), .int (sc 0), .int (bz (sc 1)), .int ((sc 2) + y), .int (sc 3), .int (sc 4), .int ((sc 5) - r2), .int (sc 6)]]]) hf hK hw 0 0 rfl rfl in_X1 tyX1_ok nmX1 8 (by decide) q259 (fun _ h => h) rfl rfl rfl (Nat.le_of_ble_eq_true rfl) rfl dX1_buy_47 (fun H locs hw => ?_)
    refine lv_iload_n hx hb dX1_buy_50 rfl (lv_at hl 0 rfl) ?_
    have hwZ := hw
    subst hr2
    have hw := hwZ
    exact xr_iret hf hr hlocks hw (Nat.le_of_ble_eq_true rfl) (Nat.le_of_ble_eq_true rfl) ⟨⟨(fun z9 => z9.elim e_1.1 e_1.2), c_19⟩, rfl, rfl⟩ dX1_buy_51

set_option maxHeartbeats 4000000 in
theorem k_X1_borrow (l : Launch) (D : va_G) (dT g : Nat → Nat) (z0 : Nat) (x : Nat) (L : Nat → Nat) (sc : Nat → Int32) (y : Int32) : Con l D dT g z0 yX1_borrow (ws_ yX1_borrow cX1_borrow 2 (some .int)) ({ frames := 8, cells := 2, slots := 12, locals := 182 }) [.ref x, .int y] [[ob x 0 [.ref (L 0), .ref (L 1), .ref (L 2), .ref (L 3), .ref (L 4), .ref (L 5), .int (sc 0), .int (bz (sc 1)), .int (sc 2), .int (sc 3), .int (sc 4), .int (sc 5), .int (sc 6)]]] (fun r LL => (¬ (y < 1 ∨ 500 < y) ∧ ¬ 9999 < sc 6 + y) ∧ r = some (.int (sc 6 + y)) ∧ LL = [srS x L (sc_borrow sc y)]) (fun E LL => ((E = "java/lang/IllegalArgumentException" ∧ (y < 1 ∨ 500 < y)) ∨ (E = "java/lang/IllegalStateException" ∧ ¬ (y < 1 ∨ 500 < y) ∧ 9999 < sc 6 + y)) ∧ LL = [[ob x 0 [.ref (L 0), .ref (L 1), .ref (L 2), .ref (L 3), .ref (L 4), .ref (L 5), .int (sc 0), .int (bz (sc 1)), .int (sc 2), .int (sc 3), .int (sc 4), .int (sc 5), .int (sc 6)]]]) 2 12 := by
  refine Con.of (maxL := 2) (ret := (some .int)) (by first | exact plainFor_of_name (by decide) | decide +kernel) (Nat.le_of_ble_eq_true rfl) ?_
  intro p e s m args below meth c A ls hf hr hlocks hnm hno hK hA hAz hw hl hst
  have hf : CallFix p m c cX1_borrow 2 s args lw_all "SilkRow" := hf
  have hnm : meth.name = "borrow" := hnm
  have hx := hf.1
  have hb := hf.2.1
  have hts := hf.2.2.2.2
  have hl : lv_has ls 2 [(0, .ref x), (1, .int y)] := hl
  have hw : Wd D A s.heap s.heap [] [[ob x 0 [.ref (L 0), .ref (L 1), .ref (L 2), .ref (L 3), .ref (L 4), .ref (L 5), .int (sc 0), .int (bz (sc 1)), .int (sc 2), .int (sc 3), .int (sc 4), .int (sc 5), .int (sc 6)]]] := hw
  refine lv_iconst (v := 1) hx hb dX1_borrow_0 (by decide) ?_
  refine lv_sipush (v := 500) hx hb dX1_borrow_1 (by decide) ?_
  refine lv_iload_n hx hb dX1_borrow_4 rfl (lv_at hl 1 rfl) ?_
  refine xc_S (rest := []) (As := [.int 1, .int 500, .int y]) hf hK hA hAz hst (hw.pick [] rfl rfl rfl) (k_X1_requireFrom l D dT g z0 1 500 y) (va_cwS 3 hts (lw_S q662 q663 q44 q664) rfl rfl rfl (by decide +kernel) ⟨Nat.le_of_ble_eq_true rfl, Nat.le_of_ble_eq_true rfl⟩) rfl hl.1 rfl (Nat.le_of_ble_eq_true rfl) dX1_borrow_5 ⟨(Nat.le_of_ble_eq_true rfl), (Nat.le_of_ble_eq_true rfl)⟩ ?_ (fun v9 LL1 H locs hp hw => ?_)
  · intro E9 LL9 H locs q9 ce9 hp hw h91 h92 h93
    obtain ⟨hE, rfl⟩ := hp
    have hw := Wd.take (L2 := [[ob x 0 [.ref (L 0), .ref (L 1), .ref (L 2), .ref (L 3), .ref (L 4), .ref (L 5), .int (sc 0), .int (bz (sc 1)), .int (sc 2), .int (sc 3), .int (sc 4), .int (sc 5), .int (sc 6)]]]) hw [0] rfl rfl
    exact xr_out hno hlocks hw ⟨Or.inl hE, rfl⟩ h91 h92 h93 (Nat.le_of_ble_eq_true rfl) (Nat.le_of_ble_eq_true rfl)
  obtain ⟨e_1, rfl, rfl⟩ := hp
  have hw : Wd D A s.heap _ _ [[ob x 0 [.ref (L 0), .ref (L 1), .ref (L 2), .ref (L 3), .ref (L 4), .ref (L 5), .int (sc 0), .int (bz (sc 1)), .int (sc 2), .int (sc 3), .int (sc 4), .int (sc 5), .int (sc 6)]]] := hw
  refine W.eq (g2 := F0 m 8 ls []) rfl ?_
  refine lv_aload_n hx hb dX1_borrow_8 rfl (lv_at hl 0 rfl) ?_
  refine xr_get hf hK hw 0 0 rfl rfl in_X1 12 (by decide) q263 (fun _ h => h) rfl dX1_borrow_9 ?_
  refine lv_iload_n hx hb dX1_borrow_12 rfl (lv_at hl 1 rfl) ?_
  refine lv_iadd hx hb dX1_borrow_13 ?_
  refine lv_sipush (v := 9999) hx hb dX1_borrow_14 (by decide) ?_
  refine lv_icmp_gt (tgt := 24) hx hb dX1_borrow_17 (by decide) (fun c_17 => ?_) (fun c_17 => ?_)
  · refine lv_iconst (v := 0) hx hb dX1_borrow_24 (by decide) ?_
    refine xc_S (rest := []) (As := [.int 0]) hf hK hA hAz hst (hw.pick [] rfl rfl rfl) (k_X1_requireState_bad l D dT g z0) (va_cwS 1 hts (lw_S q733 q734 q44 q735) rfl rfl rfl (by decide +kernel) ⟨Nat.le_of_ble_eq_true rfl, Nat.le_of_ble_eq_true rfl⟩) rfl hl.1 rfl (Nat.le_of_ble_eq_true rfl) dX1_borrow_25 ⟨(Nat.le_of_ble_eq_true rfl), (Nat.le_of_ble_eq_true rfl)⟩ ?_ (fun v9 LL1 H locs hp hw => ?_)
    · intro E9 LL9 H locs q9 ce9 hp hw h91 h92 h93
      obtain ⟨hE, rfl⟩ := hp
      have hw := Wd.take (L2 := [[ob x 0 [.ref (L 0), .ref (L 1), .ref (L 2), .ref (L 3), .ref (L 4), .ref (L 5), .int (sc 0), .int (bz (sc 1)), .int (sc 2), .int (sc 3), .int (sc 4), .int (sc 5), .int (sc 6)]]]) hw [0] rfl rfl
      exact xr_out hno hlocks hw ⟨Or.inr ⟨hE, (fun z9 => z9.elim e_1.1 e_1.2), c_17⟩, rfl⟩ h91 h92 h93 (Nat.le_of_ble_eq_true rfl) (Nat.le_of_ble_eq_true rfl)
    exact hp.elim
  · refine lv_iconst (v := 1) hx hb dX1_borrow_20 (by decide) ?_
    refine lv_goto (tgt := 25) hx hb dX1_borrow_21 (by decide) ?_
    refine xc_S (rest := []) (As := [.int 1]) hf hK hA hAz hst (hw.pick [] rfl rfl rfl) (k_X1_requireState_ok l D dT g z0) (va_cwS 1 hts (lw_S q733 q734 q44 q735) rfl rfl rfl (by decide +kernel) ⟨Nat.le_of_ble_eq_true rfl, Nat.le_of_ble_eq_true rfl⟩) rfl hl.1 rfl (Nat.le_of_ble_eq_true rfl) dX1_borrow_25 ⟨(Nat.le_of_ble_eq_true rfl), (Nat.le_of_ble_eq_true rfl)⟩ (fun _ _ _ _ _ _ h => h.elim) (fun v9 LL1 H locs hp hw => ?_)
    obtain ⟨rfl, rfl⟩ := hp
    have hw : Wd D A s.heap _ _ [[ob x 0 [.ref (L 0), .ref (L 1), .ref (L 2), .ref (L 3), .ref (L 4), .ref (L 5), .int (sc 0), .int (bz (sc 1)), .int (sc 2), .int (sc 3), .int (sc 4), .int (sc 5), .int (sc 6)]]] := hw
    refine W.eq (g2 := F0 m 28 ls []) rfl ?_
    refine lv_aload_n hx hb dX1_borrow_28 rfl (lv_at hl 0 rfl) ?_
    refine lv_dup hx hb dX1_borrow_29 rfl ?_
    refine xr_get hf hK hw 0 0 rfl rfl in_X1 11 (by decide) q262 (fun _ h => h) rfl dX1_borrow_30 ?_
    refine lv_iload_n hx hb dX1_borrow_33 rfl (lv_at hl 1 rfl) ?_
    refine lv_iadd hx hb dX1_borrow_34 ?_
    refine xr_put (LL' := [[ob x 0 [.ref (L 0), .ref (L 1), .ref (L 2), .ref (L 3), .ref (L 4), .ref (L 5), .int (sc 0), .int (bz (sc 1)), .int (sc 2), .int (sc 3), .int (sc 4), .int ((sc 5) + y), .int (sc 6)]]]) hf hK hw 0 0 rfl rfl in_X1 tyX1_ok nmX1 11 (by decide) q262 (fun _ h => h) rfl rfl rfl (Nat.le_of_ble_eq_true rfl) rfl dX1_borrow_35 (fun H locs hw => ?_)
    refine lv_aload_n hx hb dX1_borrow_38 rfl (lv_at hl 0 rfl) ?_
    refine lv_dup hx hb dX1_borrow_39 rfl ?_
    refine xr_get hf hK hw 0 0 rfl rfl in_X1 12 (by decide) q263 (fun _ h => h) rfl dX1_borrow_40 ?_
    refine lv_iload_n hx hb dX1_borrow_43 rfl (lv_at hl 1 rfl) ?_
    refine lv_iadd hx hb dX1_borrow_44 ?_
    refine xr_put (LL' := [[ob x 0 [.ref (L 0), .ref (L 1), .ref (L 2), .ref (L 3), .ref (L 4), .ref (L 5), .int (sc 0), .int (bz (sc 1)), .int (sc 2), .int (sc 3), .int (sc 4), .int ((sc 5) + y), .int ((sc 6) + y)]]]) hf hK hw 0 0 rfl rfl in_X1 tyX1_ok nmX1 12 (by decide) q263 (fun _ h => h) rfl rfl rfl (Nat.le_of_ble_eq_true rfl) rfl dX1_borrow_45 (fun H locs hw => ?_)
    refine lv_aload_n hx hb dX1_borrow_48 rfl (lv_at hl 0 rfl) ?_
    refine xr_get hf hK hw 0 0 rfl rfl in_X1 12 (by decide) q263 (fun _ h => h) rfl dX1_borrow_49 ?_
    exact xr_iret hf hr hlocks hw (Nat.le_of_ble_eq_true rfl) (Nat.le_of_ble_eq_true rfl) ⟨⟨(fun z9 => z9.elim e_1.1 e_1.2), c_17⟩, rfl, rfl⟩ dX1_borrow_52

set_option maxHeartbeats 4000000 in
theorem k_X1_pay (l : Launch) (D : va_G) (dT g : Nat → Nat) (z0 : Nat) (x : Nat) (L : Nat → Nat) (sc : Nat → Int32) (y : Int32) : Con l D dT g z0 yX1_pay (ws_ yX1_pay cX1_pay 3 (some .int)) ({ frames := 8, cells := 1, slots := 6, locals := 182 }) [.ref x, .int y] [[ob x 0 [.ref (L 0), .ref (L 1), .ref (L 2), .ref (L 3), .ref (L 4), .ref (L 5), .int (sc 0), .int (bz (sc 1)), .int (sc 2), .int (sc 3), .int (sc 4), .int (sc 5), .int (sc 6)]]] (fun r LL => (¬ (y < 1 ∨ 999 < y)) ∧ r = some (.int (sc 6 - imin y (imin (sc 5) (sc 6)))) ∧ LL = [srS x L (sc_pay sc y)]) (fun E LL => (E = "java/lang/IllegalArgumentException" ∧ (y < 1 ∨ 999 < y)) ∧ LL = [[ob x 0 [.ref (L 0), .ref (L 1), .ref (L 2), .ref (L 3), .ref (L 4), .ref (L 5), .int (sc 0), .int (bz (sc 1)), .int (sc 2), .int (sc 3), .int (sc 4), .int (sc 5), .int (sc 6)]]]) 1 6 := by
  refine Con.of (maxL := 3) (ret := (some .int)) (by first | exact plainFor_of_name (by decide) | decide +kernel) (Nat.le_of_ble_eq_true rfl) ?_
  intro p e s m args below meth c A ls hf hr hlocks hnm hno hK hA hAz hw hl hst
  have hf : CallFix p m c cX1_pay 3 s args lw_all "SilkRow" := hf
  have hnm : meth.name = "pay" := hnm
  have hx := hf.1
  have hb := hf.2.1
  have hts := hf.2.2.2.2
  have hl : lv_has ls 3 [(0, .ref x), (1, .int y)] := hl
  have hw : Wd D A s.heap s.heap [] [[ob x 0 [.ref (L 0), .ref (L 1), .ref (L 2), .ref (L 3), .ref (L 4), .ref (L 5), .int (sc 0), .int (bz (sc 1)), .int (sc 2), .int (sc 3), .int (sc 4), .int (sc 5), .int (sc 6)]]] := hw
  refine lv_iconst (v := 1) hx hb dX1_pay_0 (by decide) ?_
  refine lv_sipush (v := 999) hx hb dX1_pay_1 (by decide) ?_
  refine lv_iload_n hx hb dX1_pay_4 rfl (lv_at hl 1 rfl) ?_
  refine xc_S (rest := []) (As := [.int 1, .int 999, .int y]) hf hK hA hAz hst (hw.pick [] rfl rfl rfl) (k_X1_requireFrom l D dT g z0 1 999 y) (va_cwS 3 hts (lw_S q662 q663 q44 q664) rfl rfl rfl (by decide +kernel) ⟨Nat.le_of_ble_eq_true rfl, Nat.le_of_ble_eq_true rfl⟩) rfl hl.1 rfl (Nat.le_of_ble_eq_true rfl) dX1_pay_5 ⟨(Nat.le_of_ble_eq_true rfl), (Nat.le_of_ble_eq_true rfl)⟩ ?_ (fun v9 LL1 H locs hp hw => ?_)
  · intro E9 LL9 H locs q9 ce9 hp hw h91 h92 h93
    obtain ⟨hE, rfl⟩ := hp
    have hw := Wd.take (L2 := [[ob x 0 [.ref (L 0), .ref (L 1), .ref (L 2), .ref (L 3), .ref (L 4), .ref (L 5), .int (sc 0), .int (bz (sc 1)), .int (sc 2), .int (sc 3), .int (sc 4), .int (sc 5), .int (sc 6)]]]) hw [0] rfl rfl
    exact xr_out hno hlocks hw ⟨hE, rfl⟩ h91 h92 h93 (Nat.le_of_ble_eq_true rfl) (Nat.le_of_ble_eq_true rfl)
  obtain ⟨e_1, rfl, rfl⟩ := hp
  have hw : Wd D A s.heap _ _ [[ob x 0 [.ref (L 0), .ref (L 1), .ref (L 2), .ref (L 3), .ref (L 4), .ref (L 5), .int (sc 0), .int (bz (sc 1)), .int (sc 2), .int (sc 3), .int (sc 4), .int (sc 5), .int (sc 6)]]] := hw
  refine W.eq (g2 := F0 m 8 ls []) rfl ?_
  refine lv_iload_n hx hb dX1_pay_8 rfl (lv_at hl 1 rfl) ?_
  refine lv_aload_n hx hb dX1_pay_9 rfl (lv_at hl 0 rfl) ?_
  refine xr_get hf hK hw 0 0 rfl rfl in_X1 11 (by decide) q262 (fun _ h => h) rfl dX1_pay_10 ?_
  refine lv_aload_n hx hb dX1_pay_13 rfl (lv_at hl 0 rfl) ?_
  refine xr_get hf hK hw 0 0 rfl rfl in_X1 12 (by decide) q263 (fun _ h => h) rfl dX1_pay_14 ?_
  refine va_mmin hx hb (by rw [hf.2.2.1]; exact hl.1.symm) hf.2.2.2.1 (hts _ q790) (hts _ q193) (hts _ q50) (hts _ q194) (Nat.le_of_ble_eq_true rfl) (Nat.le_of_ble_eq_true rfl) (Nat.le_of_ble_eq_true rfl) (Nat.le_of_ble_eq_true rfl) dX1_pay_17 ?_
  refine lv_as (y := imin (sc 5) (sc 6)) rfl ?_
  refine va_mmin hx hb (by rw [hf.2.2.1]; exact hl.1.symm) hf.2.2.2.1 (hts _ q790) (hts _ q193) (hts _ q50) (hts _ q194) (Nat.le_of_ble_eq_true rfl) (Nat.le_of_ble_eq_true rfl) (Nat.le_of_ble_eq_true rfl) (Nat.le_of_ble_eq_true rfl) dX1_pay_20 ?_
  refine lv_as (y := imin y (imin (sc 5) (sc 6))) rfl ?_
  refine lv_istore_n (lv' := [(2, .int (imin y (imin (sc 5) (sc 6)))), (0, .ref x), (1, .int y)]) hx hb dX1_pay_23 rfl hl (by decide) rfl (fun ls hl => ?_)
  refine lv_aload_n hx hb dX1_pay_24 rfl (lv_at hl 1 rfl) ?_
  refine lv_dup hx hb dX1_pay_25 rfl ?_
  refine xr_get hf hK hw 0 0 rfl rfl in_X1 11 (by decide) q262 (fun _ h => h) rfl dX1_pay_26 ?_
  refine lv_iload_n hx hb dX1_pay_29 rfl (lv_at hl 0 rfl) ?_
  refine lv_isub hx hb dX1_pay_30 ?_
  refine xr_put (LL' := [[ob x 0 [.ref (L 0), .ref (L 1), .ref (L 2), .ref (L 3), .ref (L 4), .ref (L 5), .int (sc 0), .int (bz (sc 1)), .int (sc 2), .int (sc 3), .int (sc 4), .int ((sc 5) - (imin y (imin (sc 5) (sc 6)))), .int (sc 6)]]]) hf hK hw 0 0 rfl rfl in_X1 tyX1_ok nmX1 11 (by decide) q262 (fun _ h => h) rfl rfl rfl (Nat.le_of_ble_eq_true rfl) rfl dX1_pay_31 (fun H locs hw => ?_)
  refine lv_aload_n hx hb dX1_pay_34 rfl (lv_at hl 1 rfl) ?_
  refine lv_dup hx hb dX1_pay_35 rfl ?_
  refine xr_get hf hK hw 0 0 rfl rfl in_X1 12 (by decide) q263 (fun _ h => h) rfl dX1_pay_36 ?_
  refine lv_iload_n hx hb dX1_pay_39 rfl (lv_at hl 0 rfl) ?_
  refine lv_isub hx hb dX1_pay_40 ?_
  refine xr_put (LL' := [[ob x 0 [.ref (L 0), .ref (L 1), .ref (L 2), .ref (L 3), .ref (L 4), .ref (L 5), .int (sc 0), .int (bz (sc 1)), .int (sc 2), .int (sc 3), .int (sc 4), .int ((sc 5) - (imin y (imin (sc 5) (sc 6)))), .int ((sc 6) - (imin y (imin (sc 5) (sc 6))))]]]) hf hK hw 0 0 rfl rfl in_X1 tyX1_ok nmX1 12 (by decide) q263 (fun _ h => h) rfl rfl rfl (Nat.le_of_ble_eq_true rfl) rfl dX1_pay_41 (fun H locs hw => ?_)
  refine lv_aload_n hx hb dX1_pay_44 rfl (lv_at hl 1 rfl) ?_
  refine xr_get hf hK hw 0 0 rfl rfl in_X1 12 (by decide) q263 (fun _ h => h) rfl dX1_pay_45 ?_
  exact xr_iret hf hr hlocks hw (Nat.le_of_ble_eq_true rfl) (Nat.le_of_ble_eq_true rfl) ⟨(fun z9 => z9.elim e_1.1 e_1.2), rfl, rfl⟩ dX1_pay_48

set_option maxHeartbeats 4000000 in
theorem k_X1_line (l : Launch) (D : va_G) (dT g : Nat → Nat) (z0 : Nat) (x : Nat) (L : Nat → Nat) (sc : Nat → Int32) (u : Int32) (st : Option (Nat × Nat)) (ln : List (Nat × (Nat → Int32))) (i : Int32) (y : Int32) (z : Int32) (t : Int32) (hok : alOK st (ads ln)) : Con l D dT g z0 yX1_line (ws_ yX1_line cX1_line 7 (some .int)) ({ frames := 9, cells := 4, slots := 24, locals := 203 }) [.ref x, .int i, .int y, .int z, .int t] [[ob x 0 [.ref (L 0), .ref (L 1), .ref (L 2), .ref (L 3), .ref (L 4), .ref (L 5), .int (sc 0), .int (bz (sc 1)), .int (sc 2), .int (sc 3), .int (sc 4), .int (sc 5), .int (sc 6)]], ((ob (L 1) 15 [.int u, .ref (al_d g st), .int (nI (ads ln).length)]) :: (al_t dT st (ads ln))), (ln.flatMap lnE)] (fun r LL => ∃ (k : Nat) (q : Nat × (Nat → Int32)), (ln[k]? = some q ∧ i = nI k ∧ ¬ ((y < 2 ∨ 6 < y) ∨ (z < 0 ∨ 9 < z) ∨ (t < 0 ∨ 10 < t))) ∧ r = some (.int (q.2 2)) ∧ LL = [[ob x 0 [.ref (L 0), .ref (L 1), .ref (L 2), .ref (L 3), .ref (L 4), .ref (L 5), .int (sc 0), .int (bz (sc 1)), .int (sc 2), .int (sc 3), .int (sc 4), .int (sc 5), .int (sc 6)]], ((ob (L 1) 15 [.int u, .ref (al_d g st), .int (nI (ads ln).length)]) :: (al_t dT st (ads ln))), ((ln.set k (q.1, (vec [y, z, t]))).flatMap lnE)]) (fun E LL => ((E = "java/lang/IndexOutOfBoundsException" ∧ (i < 0 ∨ ¬ i < nI (ads ln).length)) ∨ (E = "java/lang/IllegalArgumentException" ∧ ¬ (i < 0 ∨ ¬ i < nI (ads ln).length) ∧ ((y < 2 ∨ 6 < y) ∨ (z < 0 ∨ 9 < z) ∨ (t < 0 ∨ 10 < t)))) ∧ LL = [[ob x 0 [.ref (L 0), .ref (L 1), .ref (L 2), .ref (L 3), .ref (L 4), .ref (L 5), .int (sc 0), .int (bz (sc 1)), .int (sc 2), .int (sc 3), .int (sc 4), .int (sc 5), .int (sc 6)]], ((ob (L 1) 15 [.int u, .ref (al_d g st), .int (nI (ads ln).length)]) :: (al_t dT st (ads ln))), (ln.flatMap lnE)]) 4 24 := by
  refine Con.of (maxL := 7) (ret := (some .int)) (by first | exact plainFor_of_name (by decide) | decide +kernel) (Nat.le_of_ble_eq_true rfl) ?_
  intro p e s m args below meth c A ls hf hr hlocks hnm hno hK hA hAz hw hl hst
  have hf : CallFix p m c cX1_line 7 s args lw_all "SilkRow" := hf
  have hnm : meth.name = "line" := hnm
  have hx := hf.1
  have hb := hf.2.1
  have hts := hf.2.2.2.2
  have hl : lv_has ls 7 [(0, .ref x), (1, .int i), (2, .int y), (3, .int z), (4, .int t)] := hl
  have hw : Wd D A s.heap s.heap [] [[ob x 0 [.ref (L 0), .ref (L 1), .ref (L 2), .ref (L 3), .ref (L 4), .ref (L 5), .int (sc 0), .int (bz (sc 1)), .int (sc 2), .int (sc 3), .int (sc 4), .int (sc 5), .int (sc 6)]], ((ob (L 1) 15 [.int u, .ref (al_d g st), .int (nI (ads ln).length)]) :: (al_t dT st (ads ln))), (ln.flatMap lnE)] := hw
  refine lv_aload_n hx hb dX1_line_0 rfl (lv_at hl 0 rfl) ?_
  refine lv_iload_n hx hb dX1_line_1 rfl (lv_at hl 1 rfl) ?_
  refine xc_V (rest := []) (As := [.int i]) hf hK hA hAz hst (hw.pick [0, 0, 0] rfl rfl rfl) (k_X1_lineOf l D dT g z0 x L sc u st ln i hok) (cwV 1 hts (lw_V q899 q901 qs13 q44 q902) rfl rfl rfl (by decide +kernel) ⟨Nat.le_of_ble_eq_true rfl, Nat.le_of_ble_eq_true rfl⟩) (xr_rv hK hw 0 0 rfl rfl) rfl hl.1 rfl (Nat.le_of_ble_eq_true rfl) dX1_line_2 ⟨(Nat.le_of_ble_eq_true rfl), (Nat.le_of_ble_eq_true rfl)⟩ ?_ (fun v9 LL1 H locs hp hw => ?_)
  · intro E9 LL9 H locs q9 ce9 hp hw h91 h92 h93
    obtain ⟨hE, rfl⟩ := hp
    have hw := Wd.take (L2 := [[ob x 0 [.ref (L 0), .ref (L 1), .ref (L 2), .ref (L 3), .ref (L 4), .ref (L 5), .int (sc 0), .int (bz (sc 1)), .int (sc 2), .int (sc 3), .int (sc 4), .int (sc 5), .int (sc 6)]], ((ob (L 1) 15 [.int u, .ref (al_d g st), .int (nI (ads ln).length)]) :: (al_t dT st (ads ln))), (ln.flatMap lnE)]) hw [0, 0, 0] rfl rfl
    exact xr_out hno hlocks hw ⟨Or.inl hE, rfl⟩ h91 h92 h93 (Nat.le_of_ble_eq_true rfl) (Nat.le_of_ble_eq_true rfl)
  obtain ⟨k_1, q_2, e_3, rfl, rfl⟩ := hp
  have hw : Wd D A s.heap _ _ [[ob x 0 [.ref (L 0), .ref (L 1), .ref (L 2), .ref (L 3), .ref (L 4), .ref (L 5), .int (sc 0), .int (bz (sc 1)), .int (sc 2), .int (sc 3), .int (sc 4), .int (sc 5), .int (sc 6)]], ((ob (L 1) 15 [.int u, .ref (al_d g st), .int (nI (ads ln).length)]) :: (al_t dT st (ads ln))), (ln.flatMap lnE)] := hw
  refine W.eq (g2 := F0 m 5 ls [.ref q_2.1]) rfl ?_
  refine lv_astore (lv' := [(5, .ref q_2.1), (0, .ref x), (1, .int i), (2, .int y), (3, .int z), (4, .int t)]) hx hb dX1_line_5 hl (by decide) rfl (fun ls hl => ?_)
  refine lv_iconst (v := 2) hx hb dX1_line_7 (by decide) ?_
  refine lv_bipush (v := 6) hx hb dX1_line_8 (by decide) ?_
  refine lv_iload_n hx hb dX1_line_10 rfl (lv_at hl 3 rfl) ?_
  refine xc_S (rest := []) (As := [.int 2, .int 6, .int y]) hf hK hA hAz hst (hw.pick [] rfl rfl rfl) (k_X1_requireFrom l D dT g z0 2 6 y) (va_cwS 3 hts (lw_S q662 q663 q44 q664) rfl rfl rfl (by decide +kernel) ⟨Nat.le_of_ble_eq_true rfl, Nat.le_of_ble_eq_true rfl⟩) rfl hl.1 rfl (Nat.le_of_ble_eq_true rfl) dX1_line_11 ⟨(Nat.le_of_ble_eq_true rfl), (Nat.le_of_ble_eq_true rfl)⟩ ?_ (fun v9 LL1 H locs hp hw => ?_)
  · intro E9 LL9 H locs q9 ce9 hp hw h91 h92 h93
    obtain ⟨hE, rfl⟩ := hp
    have hw := Wd.take (L2 := [[ob x 0 [.ref (L 0), .ref (L 1), .ref (L 2), .ref (L 3), .ref (L 4), .ref (L 5), .int (sc 0), .int (bz (sc 1)), .int (sc 2), .int (sc 3), .int (sc 4), .int (sc 5), .int (sc 6)]], ((ob (L 1) 15 [.int u, .ref (al_d g st), .int (nI (ads ln).length)]) :: (al_t dT st (ads ln))), (ln.flatMap lnE)]) hw [0, 0, 0] rfl rfl
    exact xr_out hno hlocks hw ⟨Or.inr ⟨hE.1, rng_no e_3 (al_short hok), Or.inl hE.2⟩, rfl⟩ h91 h92 h93 (Nat.le_of_ble_eq_true rfl) (Nat.le_of_ble_eq_true rfl)
  obtain ⟨e_4, rfl, rfl⟩ := hp
  have hw : Wd D A s.heap _ _ [[ob x 0 [.ref (L 0), .ref (L 1), .ref (L 2), .ref (L 3), .ref (L 4), .ref (L 5), .int (sc 0), .int (bz (sc 1)), .int (sc 2), .int (sc 3), .int (sc 4), .int (sc 5), .int (sc 6)]], ((ob (L 1) 15 [.int u, .ref (al_d g st), .int (nI (ads ln).length)]) :: (al_t dT st (ads ln))), (ln.flatMap lnE)] := hw
  refine W.eq (g2 := F0 m 14 ls []) rfl ?_
  refine lv_iconst (v := 0) hx hb dX1_line_14 (by decide) ?_
  refine lv_bipush (v := 9) hx hb dX1_line_15 (by decide) ?_
  refine lv_iload_n hx hb dX1_line_17 rfl (lv_at hl 4 rfl) ?_
  refine xc_S (rest := []) (As := [.int 0, .int 9, .int z]) hf hK hA hAz hst (hw.pick [] rfl rfl rfl) (k_X1_requireFrom l D dT g z0 0 9 z) (va_cwS 3 hts (lw_S q662 q663 q44 q664) rfl rfl rfl (by decide +kernel) ⟨Nat.le_of_ble_eq_true rfl, Nat.le_of_ble_eq_true rfl⟩) rfl hl.1 rfl (Nat.le_of_ble_eq_true rfl) dX1_line_18 ⟨(Nat.le_of_ble_eq_true rfl), (Nat.le_of_ble_eq_true rfl)⟩ ?_ (fun v9 LL1 H locs hp hw => ?_)
  · intro E9 LL9 H locs q9 ce9 hp hw h91 h92 h93
    obtain ⟨hE, rfl⟩ := hp
    have hw := Wd.take (L2 := [[ob x 0 [.ref (L 0), .ref (L 1), .ref (L 2), .ref (L 3), .ref (L 4), .ref (L 5), .int (sc 0), .int (bz (sc 1)), .int (sc 2), .int (sc 3), .int (sc 4), .int (sc 5), .int (sc 6)]], ((ob (L 1) 15 [.int u, .ref (al_d g st), .int (nI (ads ln).length)]) :: (al_t dT st (ads ln))), (ln.flatMap lnE)]) hw [0, 0, 0] rfl rfl
    exact xr_out hno hlocks hw ⟨Or.inr ⟨hE.1, rng_no e_3 (al_short hok), Or.inr (Or.inl hE.2)⟩, rfl⟩ h91 h92 h93 (Nat.le_of_ble_eq_true rfl) (Nat.le_of_ble_eq_true rfl)
  obtain ⟨e_5, rfl, rfl⟩ := hp
  have hw : Wd D A s.heap _ _ [[ob x 0 [.ref (L 0), .ref (L 1), .ref (L 2), .ref (L 3), .ref (L 4), .ref (L 5), .int (sc 0), .int (bz (sc 1)), .int (sc 2), .int (sc 3), .int (sc 4), .int (sc 5), .int (sc 6)]], ((ob (L 1) 15 [.int u, .ref (al_d g st), .int (nI (ads ln).length)]) :: (al_t dT st (ads ln))), (ln.flatMap lnE)] := hw
  refine W.eq (g2 := F0 m 21 ls []) rfl ?_
  refine lv_iconst (v := 0) hx hb dX1_line_21 (by decide) ?_
  refine lv_bipush (v := 10) hx hb dX1_line_22 (by decide) ?_
  refine lv_iload hx hb dX1_line_24 (lv_at hl 5 rfl) ?_
  refine xc_S (rest := []) (As := [.int 0, .int 10, .int t]) hf hK hA hAz hst (hw.pick [] rfl rfl rfl) (k_X1_requireFrom l D dT g z0 0 10 t) (va_cwS 3 hts (lw_S q662 q663 q44 q664) rfl rfl rfl (by decide +kernel) ⟨Nat.le_of_ble_eq_true rfl, Nat.le_of_ble_eq_true rfl⟩) rfl hl.1 rfl (Nat.le_of_ble_eq_true rfl) dX1_line_26 ⟨(Nat.le_of_ble_eq_true rfl), (Nat.le_of_ble_eq_true rfl)⟩ ?_ (fun v9 LL1 H locs hp hw => ?_)
  · intro E9 LL9 H locs q9 ce9 hp hw h91 h92 h93
    obtain ⟨hE, rfl⟩ := hp
    have hw := Wd.take (L2 := [[ob x 0 [.ref (L 0), .ref (L 1), .ref (L 2), .ref (L 3), .ref (L 4), .ref (L 5), .int (sc 0), .int (bz (sc 1)), .int (sc 2), .int (sc 3), .int (sc 4), .int (sc 5), .int (sc 6)]], ((ob (L 1) 15 [.int u, .ref (al_d g st), .int (nI (ads ln).length)]) :: (al_t dT st (ads ln))), (ln.flatMap lnE)]) hw [0, 0, 0] rfl rfl
    exact xr_out hno hlocks hw ⟨Or.inr ⟨hE.1, rng_no e_3 (al_short hok), Or.inr (Or.inr hE.2)⟩, rfl⟩ h91 h92 h93 (Nat.le_of_ble_eq_true rfl) (Nat.le_of_ble_eq_true rfl)
  obtain ⟨e_6, rfl, rfl⟩ := hp
  have hw : Wd D A s.heap _ _ [[ob x 0 [.ref (L 0), .ref (L 1), .ref (L 2), .ref (L 3), .ref (L 4), .ref (L 5), .int (sc 0), .int (bz (sc 1)), .int (sc 2), .int (sc 3), .int (sc 4), .int (sc 5), .int (sc 6)]], ((ob (L 1) 15 [.int u, .ref (al_d g st), .int (nI (ads ln).length)]) :: (al_t dT st (ads ln))), (ln.flatMap lnE)] := hw
  refine W.eq (g2 := F0 m 29 ls []) rfl ?_
  refine lv_aload hx hb dX1_line_29 (lv_at hl 0 rfl) ?_
  have hw : Wd D A s.heap _ _ [(ln.flatMap lnE), [ob x 0 [.ref (L 0), .ref (L 1), .ref (L 2), .ref (L 3), .ref (L 4), .ref (L 5), .int (sc 0), .int (bz (sc 1)), .int (sc 2), .int (sc 3), .int (sc 4), .int (sc 5), .int (sc 6)]], ((ob (L 1) 15 [.int u, .ref (al_d g st), .int (nI (ads ln).length)]) :: (al_t dT st (ads ln)))] := hw.pick [2] rfl rfl rfl
  have hw : Wd D A s.heap _ _ [[ob q_2.1 1 [.int (q_2.2 0), .int (q_2.2 1), .int (q_2.2 2)]], ((ln.eraseIdx k_1).flatMap lnE), [ob x 0 [.ref (L 0), .ref (L 1), .ref (L 2), .ref (L 3), .ref (L 4), .ref (L 5), .int (sc 0), .int (bz (sc 1)), .int (sc 2), .int (sc 3), .int (sc 4), .int (sc 5), .int (sc 6)]], ((ob (L 1) 15 [.int u, .ref (al_d g st), .int (nI (ads ln).length)]) :: (al_t dT st (ads ln)))] := hw.foc e_3.1
  refine xr_getN hf hK hw 0 0 rfl rfl in_X2 2 (by decide) q124 (fun _ h => h) rfl dX1_line_31 ?_
  refine lv_istore (lv' := [(6, .int (q_2.2 2)), (5, .ref q_2.1), (0, .ref x), (1, .int i), (2, .int y), (3, .int z), (4, .int t)]) hx hb dX1_line_34 hl (by decide) rfl (fun ls hl => ?_)
  refine lv_aload hx hb dX1_line_36 (lv_at hl 1 rfl) ?_
  refine lv_iload_n hx hb dX1_line_38 rfl (lv_at hl 4 rfl) ?_
  refine xr_putN (LL' := [[ob q_2.1 1 [.int y, .int (q_2.2 1), .int (q_2.2 2)]], ((ln.eraseIdx k_1).flatMap lnE), [ob x 0 [.ref (L 0), .ref (L 1), .ref (L 2), .ref (L 3), .ref (L 4), .ref (L 5), .int (sc 0), .int (bz (sc 1)), .int (sc 2), .int (sc 3), .int (sc 4), .int (sc 5), .int (sc 6)]], ((ob (L 1) 15 [.int u, .ref (al_d g st), .int (nI (ads ln).length)]) :: (al_t dT st (ads ln)))]) hf hK hw 0 0 rfl rfl in_X2 tyX2_ok nmX2 0 (by decide) q121 (fun _ h => h) rfl rfl rfl (Nat.le_of_ble_eq_true rfl) rfl dX1_line_39 (fun H locs hw => ?_)
  refine lv_aload hx hb dX1_line_42 (lv_at hl 1 rfl) ?_
  refine lv_iload_n hx hb dX1_line_44 rfl (lv_at hl 5 rfl) ?_
  refine xr_putN (LL' := [[ob q_2.1 1 [.int y, .int z, .int (q_2.2 2)]], ((ln.eraseIdx k_1).flatMap lnE), [ob x 0 [.ref (L 0), .ref (L 1), .ref (L 2), .ref (L 3), .ref (L 4), .ref (L 5), .int (sc 0), .int (bz (sc 1)), .int (sc 2), .int (sc 3), .int (sc 4), .int (sc 5), .int (sc 6)]], ((ob (L 1) 15 [.int u, .ref (al_d g st), .int (nI (ads ln).length)]) :: (al_t dT st (ads ln)))]) hf hK hw 0 0 rfl rfl in_X2 tyX2_ok nmX2 1 (by decide) q123 (fun _ h => h) rfl rfl rfl (Nat.le_of_ble_eq_true rfl) rfl dX1_line_45 (fun H locs hw => ?_)
  refine lv_aload hx hb dX1_line_48 (lv_at hl 1 rfl) ?_
  refine lv_iload hx hb dX1_line_50 (lv_at hl 6 rfl) ?_
  refine xr_putN (LL' := [[ob q_2.1 1 [.int y, .int z, .int t]], ((ln.eraseIdx k_1).flatMap lnE), [ob x 0 [.ref (L 0), .ref (L 1), .ref (L 2), .ref (L 3), .ref (L 4), .ref (L 5), .int (sc 0), .int (bz (sc 1)), .int (sc 2), .int (sc 3), .int (sc 4), .int (sc 5), .int (sc 6)]], ((ob (L 1) 15 [.int u, .ref (al_d g st), .int (nI (ads ln).length)]) :: (al_t dT st (ads ln)))]) hf hK hw 0 0 rfl rfl in_X2 tyX2_ok nmX2 2 (by decide) q124 (fun _ h => h) rfl rfl rfl (Nat.le_of_ble_eq_true rfl) rfl dX1_line_52 (fun H locs hw => ?_)
  refine lv_iload hx hb dX1_line_55 (lv_at hl 0 rfl) ?_
  have hw : Wd D A s.heap _ _ [((ln.set k_1 (q_2.1, (vec [y, z, t]))).flatMap lnE), [ob x 0 [.ref (L 0), .ref (L 1), .ref (L 2), .ref (L 3), .ref (L 4), .ref (L 5), .int (sc 0), .int (bz (sc 1)), .int (sc 2), .int (sc 3), .int (sc 4), .int (sc 5), .int (sc 6)]], ((ob (L 1) 15 [.int u, .ref (al_d g st), .int (nI (ads ln).length)]) :: (al_t dT st (ads ln)))] := Wd.unf (q' := (q_2.1, (vec [y, z, t]))) (L := ln) (k := k_1) hw e_3.1
  have hw : Wd D A s.heap _ _ [[ob x 0 [.ref (L 0), .ref (L 1), .ref (L 2), .ref (L 3), .ref (L 4), .ref (L 5), .int (sc 0), .int (bz (sc 1)), .int (sc 2), .int (sc 3), .int (sc 4), .int (sc 5), .int (sc 6)]], ((ob (L 1) 15 [.int u, .ref (al_d g st), .int (nI (ads ln).length)]) :: (al_t dT st (ads ln))), ((ln.set k_1 (q_2.1, (vec [y, z, t]))).flatMap lnE)] := Wd.take hw [1, 1, 0] rfl rfl
  exact xr_iret hf hr hlocks hw (Nat.le_of_ble_eq_true rfl) (Nat.le_of_ble_eq_true rfl) ⟨k_1, q_2, ⟨e_3.1, e_3.2, (fun z9 => z9.elim (fun z8 => z8.elim e_4.1 e_4.2) (fun z8 => z8.elim (fun z7 => z7.elim e_5.1 e_5.2) (fun z7 => z7.elim e_6.1 e_6.2)))⟩, rfl, rfl⟩ dX1_line_57

