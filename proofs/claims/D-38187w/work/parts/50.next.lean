/-! 50.next (printed by gen/silk.py) -/
set_option maxRecDepth 100000
set_option maxHeartbeats 4000000 in
theorem k_X1_next (l : Launch) (D : va_G) (dT g : Nat → Nat) (z0 : Nat) (a : Nat) (u : Int32) (st : Option (Nat × Nat)) (fl : List (Nat × Nat × FvT)) (pa : List (Nat × List Int32)) (hok : alOK st (ads fl)) (hfi : ∀ q ∈ fl, fiOK pa q) : Con l D dT g z0 yX1_next (ws_ yX1_next cX1_next 4 (some .int)) ({ frames := 3, cells := 1, slots := 4, locals := 82 }) [.ref a] [((ob a 15 [.int u, .ref (al_d g st), .int (nI (ads fl).length)]) :: (al_t dT st (ads fl))), (fl.flatMap fiE), (pa.flatMap (paE dT))] (fun r LL => r = some (.int (nI (sumF (vals fl)))) ∧ LL = [((ob a 15 [.int u, .ref (al_d g st), .int (nI (ads fl).length)]) :: (al_t dT st (ads fl))), (fl.flatMap fiE), (pa.flatMap (paE dT))]) noX 1 4 := by
  refine Con.of (maxL := 4) (ret := (some .int)) (by first | exact plainFor_of_name (by decide) | decide +kernel) (Nat.le_of_ble_eq_true rfl) ?_
  intro p e s m args below meth c A ls hf hr hlocks hnm hno hK hA hAz hw hl hst
  have hf : CallFix p m c cX1_next 4 s args lw_all "SilkRow" := hf
  have hnm : meth.name = "next" := hnm
  have hx := hf.1
  have hb := hf.2.1
  have hts := hf.2.2.2.2
  have hl : lv_has ls 4 [(0, .ref a)] := hl
  have hw : Wd D A s.heap s.heap [] [((ob a 15 [.int u, .ref (al_d g st), .int (nI (ads fl).length)]) :: (al_t dT st (ads fl))), (fl.flatMap fiE), (pa.flatMap (paE dT))] := hw
  refine lv_iconst (v := 0) hx hb dX1_next_0 (by decide) ?_
  refine lv_as (y := (nI 0)) (by decide) ?_
  refine lv_istore_n (lv' := [(1, .int (nI 0)), (0, .ref a)]) hx hb dX1_next_1 rfl hl (by decide) rfl (fun ls hl => ?_)
  refine lv_aload_n hx hb dX1_next_2 rfl (lv_at hl 1 rfl) ?_
  refine xc_F (ci := 15) (rest := []) (As := []) hf hK hA hAz hst (hw.pick [0] rfl rfl rfl) (k_J2_iterator l D dT g z0 a u (nI (ads fl).length) (.ref (al_d g st)) (al_t dT st (ads fl))) (va_cwF 0 hts (lw_Fc q540 q544 q296 q47 q298) rfl rfl rfl (hK.fw 3 rfl) (by decide +kernel) ⟨Nat.le_of_ble_eq_true rfl, Nat.le_of_ble_eq_true rfl⟩) rfl (xr_rv hK hw 0 0 rfl rfl) rfl hl.1 rfl (Nat.le_of_ble_eq_true rfl) dX1_next_3 ⟨(Nat.le_of_ble_eq_true rfl), (Nat.le_of_ble_eq_true rfl)⟩ (fun _ _ _ _ _ _ h => h.elim) (fun v9 LL1 H locs hp hw => ?_)
  obtain ⟨q_1, rfl, rfl⟩ := hp
  have hw : Wd D A s.heap _ _ [[ob q_1 16 [.int 0, .int (-1), .int u, .ref a]], ((ob a 15 [.int u, .ref (al_d g st), .int (nI (ads fl).length)]) :: (al_t dT st (ads fl))), (fl.flatMap fiE), (pa.flatMap (paE dT))] := hw
  refine W.eq (g2 := F0 m 8 ls [.ref q_1]) rfl ?_
  refine lv_astore_n (lv' := [(2, .ref q_1), (1, .int (nI 0)), (0, .ref a)]) hx hb dX1_next_8 rfl hl (by decide) rfl (fun ls hl => ?_)
  obtain ⟨rem, hrem⟩ : ∃ z, z = fl := ⟨_, rfl⟩
  obtain ⟨dn, hdn⟩ : ∃ z : List (Nat × Nat × FvT), z = [] := ⟨_, rfl⟩
  obtain ⟨last, hlast⟩ : ∃ z : Int32, z = (-1) := ⟨_, rfl⟩
  obtain ⟨a1, ha1⟩ : ∃ z : Nat, z = 0 := ⟨_, rfl⟩
  have hI : mapA sm_f 0 fl = ((mapA sm_f a1 rem).1, dn ++ (mapA sm_f a1 rem).2) := by subst hdn hlast ha1; rw [hrem]; rfl
  have hAd : ads fl = ads (dn ++ rem) := by subst hdn hlast ha1; rw [hrem]; rfl
  have hP : ∀ q ∈ rem, fiOK pa q := by rw [hrem]; exact hfi
  replace hl : lv_has ls 4 [(2, .ref q_1), (1, .int (nI a1)), (0, .ref a)] := by subst hdn hlast ha1; exact hl
  refine W.fresh (P := fun H locs => Wd D A s.heap H locs [[ob q_1 16 [.int (nI dn.length), .int last, .int u, .ref a]], ((ob a 15 [.int u, .ref (al_d g st), .int (nI (ads fl).length)]) :: (al_t dT st (ads fl))), ((dn ++ rem).flatMap fiE), (pa.flatMap (paE dT))]) (by subst hdn hlast ha1; rw [hrem]; exact hw) (fun H locs hw => ?_)
  clear hrem hdn hlast ha1
  induction rem generalizing dn last a1 ls H locs with
  | nil =>
    have hN := ads_nil hAd
    have hT := (mapA_end hI).1
    have hS := (mapA_end hI).2
    rw [hT] at hw
    have hw : Wd D A s.heap _ _ [[ob q_1 16 [.int (nI dn.length), .int last, .int u, .ref a]], ((ob a 15 [.int u, .ref (al_d g st), .int (nI (ads fl).length)]) :: (al_t dT st (ads fl))), (((mapA sm_f 0 fl).2).flatMap fiE), (pa.flatMap (paE dT))] := hw
    refine lv_aload_n hx hb dX1_next_9 rfl (lv_at hl 0 rfl) ?_
    refine xc_F (ci := 16) (rest := []) (As := []) hf hK hA hAz hst (hw.pick [0, 0] rfl rfl rfl) (k_J11_hasNext l D dT g z0 q_1 (nI dn.length) last a u (nI (ads fl).length) (.ref (al_d g st)) (al_t dT st (ads fl)) u) (va_cwF 0 hts (lw_Fc q319 q323 q325 q65 q327) rfl rfl rfl (hK.fw 7 rfl) (by decide +kernel) ⟨Nat.le_of_ble_eq_true rfl, Nat.le_of_ble_eq_true rfl⟩) rfl (xr_rv hK hw 0 0 rfl rfl) rfl hl.1 rfl (Nat.le_of_ble_eq_true rfl) dX1_next_10 ⟨(Nat.le_of_ble_eq_true rfl), (Nat.le_of_ble_eq_true rfl)⟩ (fun _ _ _ _ _ _ h => h.elim) (fun v9 LL1 H locs hp hw => ?_)
    obtain ⟨rfl, rfl⟩ := hp
    have hw : Wd D A s.heap _ _ [[ob q_1 16 [.int (nI dn.length), .int last, .int u, .ref a]], ((ob a 15 [.int u, .ref (al_d g st), .int (nI (ads fl).length)]) :: (al_t dT st (ads fl))), (((mapA sm_f 0 fl).2).flatMap fiE), (pa.flatMap (paE dT))] := hw
    refine W.eq (g2 := F0 m 15 ls [.int (if (nI dn.length) = (nI (ads fl).length) then 0 else 1)]) rfl ?_
    refine lv_if_eq (tgt := 38) hx hb dX1_next_15 (by decide) (fun _ => ?_) (fun c9 => absurd c9 (not_not_intro (if0 (by rw [hN]))))
    rw [sm_same] at hw
    have hw : Wd D A s.heap _ _ [[ob q_1 16 [.int (nI dn.length), .int last, .int u, .ref a]], ((ob a 15 [.int u, .ref (al_d g st), .int (nI (ads fl).length)]) :: (al_t dT st (ads fl))), (fl.flatMap fiE), (pa.flatMap (paE dT))] := hw
    refine lv_iload_n hx hb dX1_next_38 rfl (lv_at hl 1 rfl) ?_
    have hw : Wd D A s.heap _ _ [((ob a 15 [.int u, .ref (al_d g st), .int (nI (ads fl).length)]) :: (al_t dT st (ads fl))), (fl.flatMap fiE), (pa.flatMap (paE dT))] := Wd.take hw [1, 1, 1] rfl rfl
    exact xr_iret hf hr hlocks hw (Nat.le_of_ble_eq_true rfl) (Nat.le_of_ble_eq_true rfl) ⟨congrArg (fun z => some (Value.int (nI z))) (by have h9 := sm_sum fl 0; rw [← hS] at h9; omega), rfl⟩ dX1_next_39
  | cons q rem ih =>
    have hX := ads_mid hAd
    have hN := ads_midlen hAd
    have hSh := al_short hok
    obtain ⟨d, cap, hd, hc, hC⟩ := al_some (k := dn.length) hok (by omega)
    subst hd
    have hw : Wd D A s.heap _ _ [[ob q_1 16 [.int (nI dn.length), .int last, .int u, .ref a]], [ob a 15 [.int u, .ref d, .int (nI (ads fl).length)], (d, aR dT 1 cap (fun i => (ads fl)[i]?))], ((dn ++ q :: rem).flatMap fiE), (pa.flatMap (paE dT))] := hw
    refine lv_aload_n hx hb dX1_next_9 rfl (lv_at hl 0 rfl) ?_
    refine xc_F (ci := 16) (rest := []) (As := []) hf hK hA hAz hst (hw.pick [0, 0] rfl rfl rfl) (k_J11_hasNext l D dT g z0 q_1 (nI dn.length) last a u (nI (ads fl).length) (.ref d) ((d, aR dT 1 cap (fun i => (ads fl)[i]?)) :: []) u) (va_cwF 0 hts (lw_Fc q319 q323 q325 q65 q327) rfl rfl rfl (hK.fw 7 rfl) (by decide +kernel) ⟨Nat.le_of_ble_eq_true rfl, Nat.le_of_ble_eq_true rfl⟩) rfl (xr_rv hK hw 0 0 rfl rfl) rfl hl.1 rfl (Nat.le_of_ble_eq_true rfl) dX1_next_10 ⟨(Nat.le_of_ble_eq_true rfl), (Nat.le_of_ble_eq_true rfl)⟩ (fun _ _ _ _ _ _ h => h.elim) (fun v9 LL1 H locs hp hw => ?_)
    obtain ⟨rfl, rfl⟩ := hp
    have hw : Wd D A s.heap _ _ [[ob q_1 16 [.int (nI dn.length), .int last, .int u, .ref a]], [ob a 15 [.int u, .ref d, .int (nI (ads fl).length)], (d, aR dT 1 cap (fun i => (ads fl)[i]?))], ((dn ++ q :: rem).flatMap fiE), (pa.flatMap (paE dT))] := hw
    refine W.eq (g2 := F0 m 15 ls [.int (if (nI dn.length) = (nI (ads fl).length) then 0 else 1)]) rfl ?_
    refine lv_if_eq (tgt := 38) hx hb dX1_next_15 (by decide) (fun c9 => absurd c9 (if1 (fun z => absurd ((nI_eq (by omega) (by omega)).mp z) (by omega)))) (fun _ => ?_)
    refine lv_aload_n hx hb dX1_next_18 rfl (lv_at hl 0 rfl) ?_
    refine xc_F (ci := 16) (rest := []) (As := []) hf hK hA hAz hst (hw.pick [0, 0] rfl rfl rfl) (k_J11_next l D dT g z0 q_1 last a d cap u (ads fl) dn.length q.1 hc hC (by omega) hX) (va_cwF 0 hts (lw_Fc q329 q332 q334 q65 q336) rfl rfl rfl (hK.fw 8 rfl) (by decide +kernel) ⟨Nat.le_of_ble_eq_true rfl, Nat.le_of_ble_eq_true rfl⟩) rfl (xr_rv hK hw 0 0 rfl rfl) rfl hl.1 rfl (Nat.le_of_ble_eq_true rfl) dX1_next_19 ⟨(Nat.le_of_ble_eq_true rfl), (Nat.le_of_ble_eq_true rfl)⟩ (fun _ _ _ _ _ _ h => h.elim) (fun v9 LL1 H locs hp hw => ?_)
    obtain ⟨rfl, rfl⟩ := hp
    have hw : Wd D A s.heap _ _ [[ob q_1 16 [.int (nI (dn.length + 1)), .int (nI dn.length), .int u, .ref a]], [ob a 15 [.int u, .ref d, .int (nI (ads fl).length)], (d, aR dT 1 cap (fun i => (ads fl)[i]?))], ((dn ++ q :: rem).flatMap fiE), (pa.flatMap (paE dT))] := hw
    refine W.eq (g2 := F0 m 24 ls [.ref q.1]) rfl ?_
    have hw : Wd D A s.heap _ _ [[ob q_1 16 [.int (nI (dn.length + 1)), .int (nI dn.length), .int u, .ref a]], ((ob a 15 [.int u, .ref (al_d g (some (d, cap))), .int (nI (ads fl).length)]) :: (al_t dT (some (d, cap)) (ads fl))), ((dn ++ q :: rem).flatMap fiE), (pa.flatMap (paE dT))] := hw
    refine xr_castM hf hK hw (sg_mem 2 rfl (fm_mem mid_get List.mem_cons_self)) rfl q439 dX1_next_24 ?_
    refine lv_astore_n (lv' := [(3, .ref q.1), (2, .ref q_1), (1, .int (nI a1)), (0, .ref a)]) hx hb dX1_next_27 rfl hl (by decide) rfl (fun ls hl => ?_)
    refine lv_iload_n hx hb dX1_next_28 rfl (lv_at hl 2 rfl) ?_
    refine lv_aload_n hx hb dX1_next_29 rfl (lv_at hl 0 rfl) ?_
    have hw : Wd D A s.heap _ _ [((dn ++ q :: rem).flatMap fiE), [ob q_1 16 [.int (nI (dn.length + 1)), .int (nI dn.length), .int u, .ref a]], ((ob a 15 [.int u, .ref (al_d g (some (d, cap))), .int (nI (ads fl).length)]) :: (al_t dT (some (d, cap)) (ads fl))), (pa.flatMap (paE dT))] := hw.pick [2] rfl rfl rfl
    have hw : Wd D A s.heap _ _ [[ob q.1 12 [.int (nI q.2.2.1), .ref q.2.1, .int (nI q.2.2.2.1)]], (((dn ++ q :: rem).eraseIdx dn.length).flatMap fiE), [ob q_1 16 [.int (nI (dn.length + 1)), .int (nI dn.length), .int u, .ref a]], ((ob a 15 [.int u, .ref (al_d g (some (d, cap))), .int (nI (ads fl).length)]) :: (al_t dT (some (d, cap)) (ads fl))), (pa.flatMap (paE dT))] := hw.foc mid_get
    have hq9 := hP q List.mem_cons_self
    obtain ⟨j_9, hj_9⟩ := hq9.2
    have hw : Wd D A s.heap _ _ [(pa.flatMap (paE dT)), [ob q.1 12 [.int (nI q.2.2.1), .ref q.2.1, .int (nI q.2.2.2.1)]], (((dn ++ q :: rem).eraseIdx dn.length).flatMap fiE), [ob q_1 16 [.int (nI (dn.length + 1)), .int (nI dn.length), .int u, .ref a]], ((ob a 15 [.int u, .ref (al_d g (some (d, cap))), .int (nI (ads fl).length)]) :: (al_t dT (some (d, cap)) (ads fl)))] := hw.pick [4] rfl rfl rfl
    have hw : Wd D A s.heap _ _ [[(q.2.1, aI dT ((pcs q.2.2.2.2.2 q.2.2.2.2.1).map nI))], ((pa.eraseIdx j_9).flatMap (paE dT)), [ob q.1 12 [.int (nI q.2.2.1), .ref q.2.1, .int (nI q.2.2.2.1)]], (((dn ++ q :: rem).eraseIdx dn.length).flatMap fiE), [ob q_1 16 [.int (nI (dn.length + 1)), .int (nI dn.length), .int u, .ref a]], ((ob a 15 [.int u, .ref (al_d g (some (d, cap))), .int (nI (ads fl).length)]) :: (al_t dT (some (d, cap)) (ads fl)))] := hw.foc hj_9
    refine xc_V (rest := [.int (nI a1)]) (As := []) hf hK hA hAz hst (hw.pick [2, 0] rfl rfl rfl) (k_X13_piece l D dT g z0 q.1 q.2.1 (nI q.2.2.1) q.2.2.2.1 ((pcs q.2.2.2.2.2 q.2.2.2.2.1).map nI) (pc_ln hq9.1) (at_bd hq9.1)) (cwV 0 hts (lw_V q547 q548 q549 q74 q550) rfl rfl rfl (by decide +kernel) ⟨Nat.le_of_ble_eq_true rfl, Nat.le_of_ble_eq_true rfl⟩) (xr_rv hK hw 2 0 rfl rfl) rfl hl.1 rfl (Nat.le_of_ble_eq_true rfl) dX1_next_30 ⟨(Nat.le_of_ble_eq_true rfl), (Nat.le_of_ble_eq_true rfl)⟩ (fun _ _ _ _ _ _ h => h.elim) (fun v9 LL1 H locs hp hw => ?_)
    obtain ⟨rfl, rfl⟩ := hp
    have hw : Wd D A s.heap _ _ [[ob q.1 12 [.int (nI q.2.2.1), .ref q.2.1, .int (nI q.2.2.2.1)]], [(q.2.1, aI dT ((pcs q.2.2.2.2.2 q.2.2.2.2.1).map nI))], ((pa.eraseIdx j_9).flatMap (paE dT)), (((dn ++ q :: rem).eraseIdx dn.length).flatMap fiE), [ob q_1 16 [.int (nI (dn.length + 1)), .int (nI dn.length), .int u, .ref a]], ((ob a 15 [.int u, .ref (al_d g (some (d, cap))), .int (nI (ads fl).length)]) :: (al_t dT (some (d, cap)) (ads fl)))] := hw
    refine W.eq (g2 := F0 m 33 ls [.int (((pcs q.2.2.2.2.2 q.2.2.2.2.1).map nI).getD q.2.2.2.1 0), .int (nI a1)]) rfl ?_
    refine lv_iadd hx hb dX1_next_33 ?_
    refine lv_as (y := (nI (a1 + pcv q.2.2))) (by rw [pc_get hq9.1, nI_add]) ?_
    have hw : Wd D A s.heap _ _ [[ob q.1 12 [.int (nI q.2.2.1), .ref q.2.1, .int (nI q.2.2.2.1)]], (((dn ++ q :: rem).eraseIdx dn.length).flatMap fiE), [(q.2.1, aI dT ((pcs q.2.2.2.2.2 q.2.2.2.2.1).map nI))], ((pa.eraseIdx j_9).flatMap (paE dT)), [ob q_1 16 [.int (nI (dn.length + 1)), .int (nI dn.length), .int u, .ref a]], ((ob a 15 [.int u, .ref (al_d g (some (d, cap))), .int (nI (ads fl).length)]) :: (al_t dT (some (d, cap)) (ads fl)))] := hw.pick [0, 2] rfl rfl rfl
    have hw : Wd D A s.heap _ _ [((dn ++ q :: rem).flatMap fiE), [(q.2.1, aI dT ((pcs q.2.2.2.2.2 q.2.2.2.2.1).map nI))], ((pa.eraseIdx j_9).flatMap (paE dT)), [ob q_1 16 [.int (nI (dn.length + 1)), .int (nI dn.length), .int u, .ref a]], ((ob a 15 [.int u, .ref (al_d g (some (d, cap))), .int (nI (ads fl).length)]) :: (al_t dT (some (d, cap)) (ads fl)))] := Wd.unf0 (q := q) (L := (dn ++ q :: rem)) (k := dn.length) hw mid_get
    have hw : Wd D A s.heap _ _ [[(q.2.1, aI dT ((pcs q.2.2.2.2.2 q.2.2.2.2.1).map nI))], ((pa.eraseIdx j_9).flatMap (paE dT)), ((dn ++ q :: rem).flatMap fiE), [ob q_1 16 [.int (nI (dn.length + 1)), .int (nI dn.length), .int u, .ref a]], ((ob a 15 [.int u, .ref (al_d g (some (d, cap))), .int (nI (ads fl).length)]) :: (al_t dT (some (d, cap)) (ads fl)))] := hw.pick [1, 1] rfl rfl rfl
    have hw : Wd D A s.heap _ _ [(pa.flatMap (paE dT)), ((dn ++ q :: rem).flatMap fiE), [ob q_1 16 [.int (nI (dn.length + 1)), .int (nI dn.length), .int u, .ref a]], ((ob a 15 [.int u, .ref (al_d g (some (d, cap))), .int (nI (ads fl).length)]) :: (al_t dT (some (d, cap)) (ads fl)))] := Wd.unf0 (q := (q.2.1, (pcs q.2.2.2.2.2 q.2.2.2.2.1).map nI)) (L := pa) (k := j_9) hw hj_9
    refine lv_istore_n (lv' := [(1, .int (nI (a1 + pcv q.2.2))), (3, .ref q.1), (2, .ref q_1), (0, .ref a)]) hx hb dX1_next_34 rfl hl (by decide) rfl (fun ls hl => ?_)
    refine lv_goto (tgt := 9) hx hb dX1_next_35 (by decide) ?_
    have hw9 : Wd D A s.heap H locs [(pa.flatMap (paE dT)), (((dn ++ [q]) ++ rem).flatMap fiE), [ob q_1 16 [.int (nI (dn ++ [q]).length), .int (nI dn.length), .int u, .ref a]], ((ob a 15 [.int u, .ref (al_d g (some (d, cap))), .int (nI (ads fl).length)]) :: (al_t dT (some (d, cap)) (ads fl)))] := by rw [← mid0, snoc_len]; exact hw
    have hF9 : sm_f a1 q = ((a1 + pcv q.2.2), q) := rfl
    have hI9 := mapA_step hF9 hI
    have hAd9 : ads fl = ads ((dn ++ [q]) ++ rem) := hAd.trans (ads_step rfl)
    have hP9 : ∀ q ∈ rem, fiOK pa q := fun z9 h9 => hP z9 (List.mem_cons_of_mem _ h9)
    have hw9 : Wd D A s.heap _ _ [[ob q_1 16 [.int (nI (dn ++ [q]).length), .int (nI dn.length), .int u, .ref a]], ((ob a 15 [.int u, .ref (al_d g (some (d, cap))), .int (nI (ads fl).length)]) :: (al_t dT (some (d, cap)) (ads fl))), (((dn ++ [q]) ++ rem).flatMap fiE), (pa.flatMap (paE dT))] := Wd.take hw9 [2, 2, 1, 0] rfl rfl
    have hl9 := lv_sub hl [2, 0, 3] rfl
    exact ih (dn := dn ++ [q]) (last := (nI dn.length)) (a1 := (a1 + pcv q.2.2)) (ls := _) (H := _) (locs := _) hI9 hAd9 hP9 hl9 hw9

