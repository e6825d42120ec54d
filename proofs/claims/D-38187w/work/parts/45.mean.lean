/-! 45.mean (printed by gen/silk.py) -/
set_option maxRecDepth 100000
set_option maxHeartbeats 4000000 in
theorem k_X1_meanGrade (l : Launch) (D : va_G) (dT g : Nat → Nat) (z0 : Nat) (x : Nat) (L : Nat → Nat) (sc : Nat → Int32) (u : Int32) (st : Option (Nat × Nat)) (sk : List (Nat × Nat × (Nat → Int32))) (hok : alOK st (ads sk)) : Con l D dT g z0 yX1_meanGrade (ws_ yX1_meanGrade cX1_meanGrade 5 (some .double)) ({ frames := 3, cells := 1, slots := 4, locals := 82 }) [.ref x] [[ob x 0 [.ref (L 0), .ref (L 1), .ref (L 2), .ref (L 3), .ref (L 4), .ref (L 5), .int (sc 0), .int (bz (sc 1)), .int (sc 2), .int (sc 3), .int (sc 4), .int (sc 5), .int (sc 6)]], ((ob (L 5) 15 [.int u, .ref (al_d g st), .int (nI (ads sk).length)]) :: (al_t dT st (ads sk))), (sk.flatMap (skE dT))] (fun r LL => r = some (.double (mg_val (mapA mg_f (0, 0) sk).1)) ∧ LL = [[ob x 0 [.ref (L 0), .ref (L 1), .ref (L 2), .ref (L 3), .ref (L 4), .ref (L 5), .int (sc 0), .int (bz (sc 1)), .int (sc 2), .int (sc 3), .int (sc 4), .int (sc 5), .int (sc 6)]], ((ob (L 5) 15 [.int u, .ref (al_d g st), .int (nI (ads sk).length)]) :: (al_t dT st (ads sk))), (sk.flatMap (skE dT))]) noX 1 4 := by
  refine Con.of (maxL := 5) (ret := (some .double)) (by first | exact plainFor_of_name (by decide) | decide +kernel) (Nat.le_of_ble_eq_true rfl) ?_
  intro p e s m args below meth c A ls hf hr hlocks hnm hno hK hA hAz hw hl hst
  have hf : CallFix p m c cX1_meanGrade 5 s args lw_all "SilkRow" := hf
  have hnm : meth.name = "meanGrade" := hnm
  have hx := hf.1
  have hb := hf.2.1
  have hts := hf.2.2.2.2
  have hl : lv_has ls 5 [(0, .ref x)] := hl
  have hw : Wd D A s.heap s.heap [] [[ob x 0 [.ref (L 0), .ref (L 1), .ref (L 2), .ref (L 3), .ref (L 4), .ref (L 5), .int (sc 0), .int (bz (sc 1)), .int (sc 2), .int (sc 3), .int (sc 4), .int (sc 5), .int (sc 6)]], ((ob (L 5) 15 [.int u, .ref (al_d g st), .int (nI (ads sk).length)]) :: (al_t dT st (ads sk))), (sk.flatMap (skE dT))] := hw
  refine lv_iconst (v := 0) hx hb dX1_meanGrade_0 (by decide) ?_
  refine lv_istore_n (lv' := [(1, .int 0), (0, .ref x)]) hx hb dX1_meanGrade_1 rfl hl (by decide) rfl (fun ls hl => ?_)
  refine lv_iconst (v := 0) hx hb dX1_meanGrade_2 (by decide) ?_
  refine lv_istore_n (lv' := [(2, .int 0), (1, .int 0), (0, .ref x)]) hx hb dX1_meanGrade_3 rfl hl (by decide) rfl (fun ls hl => ?_)
  refine lv_aload_n hx hb dX1_meanGrade_4 rfl (lv_at hl 2 rfl) ?_
  refine xr_get hf hK hw 0 0 rfl rfl in_X1 5 (by decide) q256 (fun _ h => h) rfl dX1_meanGrade_5 ?_
  refine xc_V (rest := []) (As := []) hf hK hA hAz hst (hw.pick [1] rfl rfl rfl) (k_J2_iterator l D dT g z0 (L 5) u (nI (ads sk).length) (.ref (al_d g st)) (al_t dT st (ads sk))) (cwV 0 hts (lw_V q295 q296 q297 q47 q298) rfl rfl rfl (by decide +kernel) ⟨Nat.le_of_ble_eq_true rfl, Nat.le_of_ble_eq_true rfl⟩) (xr_rv hK hw 1 0 rfl rfl) rfl hl.1 rfl (Nat.le_of_ble_eq_true rfl) dX1_meanGrade_8 ⟨(Nat.le_of_ble_eq_true rfl), (Nat.le_of_ble_eq_true rfl)⟩ (fun _ _ _ _ _ _ h => h.elim) (fun v9 LL1 H locs hp hw => ?_)
  obtain ⟨q_1, rfl, rfl⟩ := hp
  have hw : Wd D A s.heap _ _ [[ob q_1 16 [.int 0, .int (-1), .int u, .ref (L 5)]], ((ob (L 5) 15 [.int u, .ref (al_d g st), .int (nI (ads sk).length)]) :: (al_t dT st (ads sk))), [ob x 0 [.ref (L 0), .ref (L 1), .ref (L 2), .ref (L 3), .ref (L 4), .ref (L 5), .int (sc 0), .int (bz (sc 1)), .int (sc 2), .int (sc 3), .int (sc 4), .int (sc 5), .int (sc 6)]], (sk.flatMap (skE dT))] := hw
  refine W.eq (g2 := F0 m 11 ls [.ref q_1]) rfl ?_
  refine lv_astore_n (lv' := [(3, .ref q_1), (2, .int 0), (1, .int 0), (0, .ref x)]) hx hb dX1_meanGrade_11 rfl hl (by decide) rfl (fun ls hl => ?_)
  obtain ⟨rem, hrem⟩ : ∃ z, z = sk := ⟨_, rfl⟩
  obtain ⟨dn, hdn⟩ : ∃ z : List (Nat × Nat × (Nat → Int32)), z = [] := ⟨_, rfl⟩
  obtain ⟨last, hlast⟩ : ∃ z : Int32, z = (-1) := ⟨_, rfl⟩
  obtain ⟨a1, ha1⟩ : ∃ z : Int32, z = 0 := ⟨_, rfl⟩
  obtain ⟨a2, ha2⟩ : ∃ z : Int32, z = 0 := ⟨_, rfl⟩
  have hI : mapA mg_f (0, 0) sk = ((mapA mg_f (a1, a2) rem).1, dn ++ (mapA mg_f (a1, a2) rem).2) := by subst hdn hlast ha1 ha2; rw [hrem]; rfl
  have hAd : ads sk = ads (dn ++ rem) := by subst hdn hlast ha1 ha2; rw [hrem]; rfl
  replace hl : lv_has ls 5 [(3, .ref q_1), (2, .int a2), (1, .int a1), (0, .ref x)] := by subst hdn hlast ha1 ha2; exact hl
  refine W.fresh (P := fun H locs => Wd D A s.heap H locs [[ob q_1 16 [.int (nI dn.length), .int last, .int u, .ref (L 5)]], ((ob (L 5) 15 [.int u, .ref (al_d g st), .int (nI (ads sk).length)]) :: (al_t dT st (ads sk))), [ob x 0 [.ref (L 0), .ref (L 1), .ref (L 2), .ref (L 3), .ref (L 4), .ref (L 5), .int (sc 0), .int (bz (sc 1)), .int (sc 2), .int (sc 3), .int (sc 4), .int (sc 5), .int (sc 6)]], ((dn ++ rem).flatMap (skE dT))]) (by subst hdn hlast ha1 ha2; rw [hrem]; exact hw) (fun H locs hw => ?_)
  clear hrem hdn hlast ha1 ha2
  induction rem generalizing dn last a1 a2 ls H locs with
  | nil =>
    have hN := ads_nil hAd
    have hT := (mapA_end hI).1
    have hS := (mapA_end hI).2
    rw [hT] at hw
    have hw : Wd D A s.heap _ _ [[ob q_1 16 [.int (nI dn.length), .int last, .int u, .ref (L 5)]], ((ob (L 5) 15 [.int u, .ref (al_d g st), .int (nI (ads sk).length)]) :: (al_t dT st (ads sk))), [ob x 0 [.ref (L 0), .ref (L 1), .ref (L 2), .ref (L 3), .ref (L 4), .ref (L 5), .int (sc 0), .int (bz (sc 1)), .int (sc 2), .int (sc 3), .int (sc 4), .int (sc 5), .int (sc 6)]], (((mapA mg_f (0, 0) sk).2).flatMap (skE dT))] := hw
    refine lv_aload_n hx hb dX1_meanGrade_12 rfl (lv_at hl 0 rfl) ?_
    refine xc_F (ci := 16) (rest := []) (As := []) hf hK hA hAz hst (hw.pick [0, 0] rfl rfl rfl) (k_J11_hasNext l D dT g z0 q_1 (nI dn.length) last (L 5) u (nI (ads sk).length) (.ref (al_d g st)) (al_t dT st (ads sk)) u) (va_cwF 0 hts (lw_Fc q319 q323 q325 q65 q327) rfl rfl rfl (hK.fw 7 rfl) (by decide +kernel) ⟨Nat.le_of_ble_eq_true rfl, Nat.le_of_ble_eq_true rfl⟩) rfl (xr_rv hK hw 0 0 rfl rfl) rfl hl.1 rfl (Nat.le_of_ble_eq_true rfl) dX1_meanGrade_13 ⟨(Nat.le_of_ble_eq_true rfl), (Nat.le_of_ble_eq_true rfl)⟩ (fun _ _ _ _ _ _ h => h.elim) (fun v9 LL1 H locs hp hw => ?_)
    obtain ⟨rfl, rfl⟩ := hp
    have hw : Wd D A s.heap _ _ [[ob q_1 16 [.int (nI dn.length), .int last, .int u, .ref (L 5)]], ((ob (L 5) 15 [.int u, .ref (al_d g st), .int (nI (ads sk).length)]) :: (al_t dT st (ads sk))), [ob x 0 [.ref (L 0), .ref (L 1), .ref (L 2), .ref (L 3), .ref (L 4), .ref (L 5), .int (sc 0), .int (bz (sc 1)), .int (sc 2), .int (sc 3), .int (sc 4), .int (sc 5), .int (sc 6)]], (((mapA mg_f (0, 0) sk).2).flatMap (skE dT))] := hw
    refine W.eq (g2 := F0 m 18 ls [.int (if (nI dn.length) = (nI (ads sk).length) then 0 else 1)]) rfl ?_
    refine lv_if_eq (tgt := 57) hx hb dX1_meanGrade_18 (by decide) (fun _ => ?_) (fun c9 => absurd c9 (not_not_intro (if0 (by rw [hN]))))
    rw [mg_same] at hw
    have hw : Wd D A s.heap _ _ [[ob q_1 16 [.int (nI dn.length), .int last, .int u, .ref (L 5)]], ((ob (L 5) 15 [.int u, .ref (al_d g st), .int (nI (ads sk).length)]) :: (al_t dT st (ads sk))), [ob x 0 [.ref (L 0), .ref (L 1), .ref (L 2), .ref (L 3), .ref (L 4), .ref (L 5), .int (sc 0), .int (bz (sc 1)), .int (sc 2), .int (sc 3), .int (sc 4), .int (sc 5), .int (sc 6)]], (sk.flatMap (skE dT))] := hw
    refine lv_iload_n hx hb dX1_meanGrade_57 rfl (lv_at hl 1 rfl) ?_
    refine lv_if_ne (tgt := 65) hx hb dX1_meanGrade_58 (by decide) (fun c_58 => ?_) (fun c_58 => ?_)
    · refine lv_iload_n hx hb dX1_meanGrade_65 rfl (lv_at hl 2 rfl) ?_
      refine lv_i2d hx hb dX1_meanGrade_66 ?_
      refine lv_iload_n hx hb dX1_meanGrade_67 rfl (lv_at hl 1 rfl) ?_
      refine lv_i2d hx hb dX1_meanGrade_68 ?_
      refine lv_ddiv hx hb dX1_meanGrade_69 (dd_n64 _ c_58) ?_
      have hw : Wd D A s.heap _ _ [[ob x 0 [.ref (L 0), .ref (L 1), .ref (L 2), .ref (L 3), .ref (L 4), .ref (L 5), .int (sc 0), .int (bz (sc 1)), .int (sc 2), .int (sc 3), .int (sc 4), .int (sc 5), .int (sc 6)]], ((ob (L 5) 15 [.int u, .ref (al_d g st), .int (nI (ads sk).length)]) :: (al_t dT st (ads sk))), (sk.flatMap (skE dT))] := Wd.take hw [2, 1, 1] rfl rfl
      exact xr_dret hf hr hlocks hw (Nat.le_of_ble_eq_true rfl) (Nat.le_of_ble_eq_true rfl) ⟨congrArg (fun z => some (Value.double z)) (by unfold mg_val; rw [← hS]; simp only [if_neg (show ¬ (a2 = 0) from c_58)]), rfl⟩ dX1_meanGrade_70
    · refine lv_dconst0 hx hb dX1_meanGrade_61 ?_
      refine lv_goto (tgt := 70) hx hb dX1_meanGrade_62 (by decide) ?_
      have hw : Wd D A s.heap _ _ [[ob x 0 [.ref (L 0), .ref (L 1), .ref (L 2), .ref (L 3), .ref (L 4), .ref (L 5), .int (sc 0), .int (bz (sc 1)), .int (sc 2), .int (sc 3), .int (sc 4), .int (sc 5), .int (sc 6)]], ((ob (L 5) 15 [.int u, .ref (al_d g st), .int (nI (ads sk).length)]) :: (al_t dT st (ads sk))), (sk.flatMap (skE dT))] := Wd.take hw [2, 1, 1] rfl rfl
      exact xr_dret hf hr hlocks hw (Nat.le_of_ble_eq_true rfl) (Nat.le_of_ble_eq_true rfl) ⟨congrArg (fun z => some (Value.double z)) (by unfold mg_val; rw [← hS]; simp only [if_pos (show a2 = 0 from c_58)]), rfl⟩ dX1_meanGrade_70
  | cons q rem ih =>
    have hX := ads_mid hAd
    have hN := ads_midlen hAd
    have hSh := al_short hok
    obtain ⟨d, cap, hd, hc, hC⟩ := al_some (k := dn.length) hok (by omega)
    subst hd
    have hw : Wd D A s.heap _ _ [[ob q_1 16 [.int (nI dn.length), .int last, .int u, .ref (L 5)]], [ob (L 5) 15 [.int u, .ref d, .int (nI (ads sk).length)], (d, aR dT 1 cap (fun i => (ads sk)[i]?))], [ob x 0 [.ref (L 0), .ref (L 1), .ref (L 2), .ref (L 3), .ref (L 4), .ref (L 5), .int (sc 0), .int (bz (sc 1)), .int (sc 2), .int (sc 3), .int (sc 4), .int (sc 5), .int (sc 6)]], ((dn ++ q :: rem).flatMap (skE dT))] := hw
    refine lv_aload_n hx hb dX1_meanGrade_12 rfl (lv_at hl 0 rfl) ?_
    refine xc_F (ci := 16) (rest := []) (As := []) hf hK hA hAz hst (hw.pick [0, 0] rfl rfl rfl) (k_J11_hasNext l D dT g z0 q_1 (nI dn.length) last (L 5) u (nI (ads sk).length) (.ref d) ((d, aR dT 1 cap (fun i => (ads sk)[i]?)) :: []) u) (va_cwF 0 hts (lw_Fc q319 q323 q325 q65 q327) rfl rfl rfl (hK.fw 7 rfl) (by decide +kernel) ⟨Nat.le_of_ble_eq_true rfl, Nat.le_of_ble_eq_true rfl⟩) rfl (xr_rv hK hw 0 0 rfl rfl) rfl hl.1 rfl (Nat.le_of_ble_eq_true rfl) dX1_meanGrade_13 ⟨(Nat.le_of_ble_eq_true rfl), (Nat.le_of_ble_eq_true rfl)⟩ (fun _ _ _ _ _ _ h => h.elim) (fun v9 LL1 H locs hp hw => ?_)
    obtain ⟨rfl, rfl⟩ := hp
    have hw : Wd D A s.heap _ _ [[ob q_1 16 [.int (nI dn.length), .int last, .int u, .ref (L 5)]], [ob (L 5) 15 [.int u, .ref d, .int (nI (ads sk).length)], (d, aR dT 1 cap (fun i => (ads sk)[i]?))], [ob x 0 [.ref (L 0), .ref (L 1), .ref (L 2), .ref (L 3), .ref (L 4), .ref (L 5), .int (sc 0), .int (bz (sc 1)), .int (sc 2), .int (sc 3), .int (sc 4), .int (sc 5), .int (sc 6)]], ((dn ++ q :: rem).flatMap (skE dT))] := hw
    refine W.eq (g2 := F0 m 18 ls [.int (if (nI dn.length) = (nI (ads sk).length) then 0 else 1)]) rfl ?_
    refine lv_if_eq (tgt := 57) hx hb dX1_meanGrade_18 (by decide) (fun c9 => absurd c9 (if1 (fun z => absurd ((nI_eq (by omega) (by omega)).mp z) (by omega)))) (fun _ => ?_)
    refine lv_aload_n hx hb dX1_meanGrade_21 rfl (lv_at hl 0 rfl) ?_
    refine xc_F (ci := 16) (rest := []) (As := []) hf hK hA hAz hst (hw.pick [0, 0] rfl rfl rfl) (k_J11_next l D dT g z0 q_1 last (L 5) d cap u (ads sk) dn.length q.1 hc hC (by omega) hX) (va_cwF 0 hts (lw_Fc q329 q332 q334 q65 q336) rfl rfl rfl (hK.fw 8 rfl) (by decide +kernel) ⟨Nat.le_of_ble_eq_true rfl, Nat.le_of_ble_eq_true rfl⟩) rfl (xr_rv hK hw 0 0 rfl rfl) rfl hl.1 rfl (Nat.le_of_ble_eq_true rfl) dX1_meanGrade_22 ⟨(Nat.le_of_ble_eq_true rfl), (Nat.le_of_ble_eq_true rfl)⟩ (fun _ _ _ _ _ _ h => h.elim) (fun v9 LL1 H locs hp hw => ?_)
    obtain ⟨rfl, rfl⟩ := hp
    have hw : Wd D A s.heap _ _ [[ob q_1 16 [.int (nI (dn.length + 1)), .int (nI dn.length), .int u, .ref (L 5)]], [ob (L 5) 15 [.int u, .ref d, .int (nI (ads sk).length)], (d, aR dT 1 cap (fun i => (ads sk)[i]?))], [ob x 0 [.ref (L 0), .ref (L 1), .ref (L 2), .ref (L 3), .ref (L 4), .ref (L 5), .int (sc 0), .int (bz (sc 1)), .int (sc 2), .int (sc 3), .int (sc 4), .int (sc 5), .int (sc 6)]], ((dn ++ q :: rem).flatMap (skE dT))] := hw
    refine W.eq (g2 := F0 m 27 ls [.ref q.1]) rfl ?_
    have hw : Wd D A s.heap _ _ [[ob q_1 16 [.int (nI (dn.length + 1)), .int (nI dn.length), .int u, .ref (L 5)]], ((ob (L 5) 15 [.int u, .ref (al_d g (some (d, cap))), .int (nI (ads sk).length)]) :: (al_t dT (some (d, cap)) (ads sk))), [ob x 0 [.ref (L 0), .ref (L 1), .ref (L 2), .ref (L 3), .ref (L 4), .ref (L 5), .int (sc 0), .int (bz (sc 1)), .int (sc 2), .int (sc 3), .int (sc 4), .int (sc 5), .int (sc 6)]], ((dn ++ q :: rem).flatMap (skE dT))] := hw
    refine xr_castM hf hK hw (sg_mem 3 rfl (fm_mem mid_get List.mem_cons_self)) rfl q341 dX1_meanGrade_27 ?_
    refine lv_astore (lv' := [(4, .ref q.1), (3, .ref q_1), (2, .int a2), (1, .int a1), (0, .ref x)]) hx hb dX1_meanGrade_30 hl (by decide) rfl (fun ls hl => ?_)
    refine lv_iload_n hx hb dX1_meanGrade_32 rfl (lv_at hl 3 rfl) ?_
    refine lv_aload hx hb dX1_meanGrade_33 (lv_at hl 0 rfl) ?_
    have hw : Wd D A s.heap _ _ [((dn ++ q :: rem).flatMap (skE dT)), [ob q_1 16 [.int (nI (dn.length + 1)), .int (nI dn.length), .int u, .ref (L 5)]], ((ob (L 5) 15 [.int u, .ref (al_d g (some (d, cap))), .int (nI (ads sk).length)]) :: (al_t dT (some (d, cap)) (ads sk))), [ob x 0 [.ref (L 0), .ref (L 1), .ref (L 2), .ref (L 3), .ref (L 4), .ref (L 5), .int (sc 0), .int (bz (sc 1)), .int (sc 2), .int (sc 3), .int (sc 4), .int (sc 5), .int (sc 6)]]] := hw.pick [3] rfl rfl rfl
    have hw : Wd D A s.heap _ _ [[ob q.1 11 [.int (q.2.2 0), .int (q.2.2 1), .int (q.2.2 2), .int (q.2.2 3), .int (bz (q.2.2 4)), .ref q.2.1], (q.2.1, aI dT [q.2.2 5, q.2.2 6, q.2.2 7, q.2.2 8])], (((dn ++ q :: rem).eraseIdx dn.length).flatMap (skE dT)), [ob q_1 16 [.int (nI (dn.length + 1)), .int (nI dn.length), .int u, .ref (L 5)]], ((ob (L 5) 15 [.int u, .ref (al_d g (some (d, cap))), .int (nI (ads sk).length)]) :: (al_t dT (some (d, cap)) (ads sk))), [ob x 0 [.ref (L 0), .ref (L 1), .ref (L 2), .ref (L 3), .ref (L 4), .ref (L 5), .int (sc 0), .int (bz (sc 1)), .int (sc 2), .int (sc 3), .int (sc 4), .int (sc 5), .int (sc 6)]]] := hw.foc mid_get
    refine xc_V (rest := [.int a1]) (As := []) hf hK hA hAz hst (hw.pick [0] rfl rfl rfl) (k_X12_grade l D dT g z0 q.1 q.2.1 q.2.2) (cwV 0 hts (lw_V q342 q343 q344 q73 q345) rfl rfl rfl (by decide +kernel) ⟨Nat.le_of_ble_eq_true rfl, Nat.le_of_ble_eq_true rfl⟩) (xr_rv hK hw 0 0 rfl rfl) rfl hl.1 rfl (Nat.le_of_ble_eq_true rfl) dX1_meanGrade_35 ⟨(Nat.le_of_ble_eq_true rfl), (Nat.le_of_ble_eq_true rfl)⟩ (fun _ _ _ _ _ _ h => h.elim) (fun v9 LL1 H locs hp hw => ?_)
    rw [fs_X12_grade] at hp
    obtain ⟨r2, hr2⟩ : ∃ z, z = f_X12_grade q.2.2 := ⟨_, rfl⟩
    rw [← hr2] at hp
    obtain ⟨rfl, rfl⟩ := hp
    have hw : Wd D A s.heap _ _ [[ob q.1 11 [.int (q.2.2 0), .int (q.2.2 1), .int (q.2.2 2), .int (q.2.2 3), .int (bz (q.2.2 4)), .ref q.2.1], (q.2.1, aI dT [q.2.2 5, q.2.2 6, q.2.2 7, q.2.2 8])], (((dn ++ q :: rem).eraseIdx dn.length).flatMap (skE dT)), [ob q_1 16 [.int (nI (dn.length + 1)), .int (nI dn.length), .int u, .ref (L 5)]], ((ob (L 5) 15 [.int u, .ref (al_d g (some (d, cap))), .int (nI (ads sk).length)]) :: (al_t dT (some (d, cap)) (ads sk))), [ob x 0 [.ref (L 0), .ref (L 1), .ref (L 2), .ref (L 3), .ref (L 4), .ref (L 5), .int (sc 0), .int (bz (sc 1)), .int (sc 2), .int (sc 3), .int (sc 4), .int (sc 5), .int (sc 6)]]] := hw
    refine W.eq (g2 := F0 m 38 ls [.int r2.1, .int a1]) rfl ?_
    refine lv_aload hx hb dX1_meanGrade_38 (lv_at hl 0 rfl) ?_
    refine xr_getN hf hK hw 0 0 rfl rfl in_X12 0 (by decide) q513 (fun _ h => h) rfl dX1_meanGrade_40 ?_
    refine lv_imul hx hb dX1_meanGrade_43 ?_
    refine lv_iadd hx hb dX1_meanGrade_44 ?_
    refine lv_istore_n (lv' := [(1, .int (a1 + (r2.1 * q.2.2 0))), (4, .ref q.1), (3, .ref q_1), (2, .int a2), (0, .ref x)]) hx hb dX1_meanGrade_45 rfl hl (by decide) rfl (fun ls hl => ?_)
    refine lv_iload_n hx hb dX1_meanGrade_46 rfl (lv_at hl 3 rfl) ?_
    refine lv_aload hx hb dX1_meanGrade_47 (lv_at hl 1 rfl) ?_
    refine xr_getN hf hK hw 0 0 rfl rfl in_X12 0 (by decide) q513 (fun _ h => h) rfl dX1_meanGrade_49 ?_
    refine lv_iadd hx hb dX1_meanGrade_52 ?_
    refine lv_istore_n (lv' := [(2, .int (a2 + q.2.2 0)), (1, .int (a1 + (r2.1 * q.2.2 0))), (4, .ref q.1), (3, .ref q_1), (0, .ref x)]) hx hb dX1_meanGrade_53 rfl hl (by decide) rfl (fun ls hl => ?_)
    refine lv_goto (tgt := 12) hx hb dX1_meanGrade_54 (by decide) ?_
    have hw : Wd D A s.heap _ _ [((dn ++ q :: rem).flatMap (skE dT)), [ob q_1 16 [.int (nI (dn.length + 1)), .int (nI dn.length), .int u, .ref (L 5)]], ((ob (L 5) 15 [.int u, .ref (al_d g (some (d, cap))), .int (nI (ads sk).length)]) :: (al_t dT (some (d, cap)) (ads sk))), [ob x 0 [.ref (L 0), .ref (L 1), .ref (L 2), .ref (L 3), .ref (L 4), .ref (L 5), .int (sc 0), .int (bz (sc 1)), .int (sc 2), .int (sc 3), .int (sc 4), .int (sc 5), .int (sc 6)]]] := Wd.unf0 (q := q) (L := (dn ++ q :: rem)) (k := dn.length) hw mid_get
    have hwZ := hw
    have hlZ := hl
    subst hr2
    have hw := hwZ
    have hl := hlZ
    have hw9 : Wd D A s.heap H locs [(((dn ++ [q]) ++ rem).flatMap (skE dT)), [ob q_1 16 [.int (nI (dn ++ [q]).length), .int (nI dn.length), .int u, .ref (L 5)]], ((ob (L 5) 15 [.int u, .ref (al_d g (some (d, cap))), .int (nI (ads sk).length)]) :: (al_t dT (some (d, cap)) (ads sk))), [ob x 0 [.ref (L 0), .ref (L 1), .ref (L 2), .ref (L 3), .ref (L 4), .ref (L 5), .int (sc 0), .int (bz (sc 1)), .int (sc 2), .int (sc 3), .int (sc 4), .int (sc 5), .int (sc 6)]]] := by rw [← mid0, snoc_len]; exact hw
    have hF9 : mg_f (a1, a2) q = (((a1 + ((f_X12_grade q.2.2).1 * q.2.2 0)), (a2 + q.2.2 0)), q) := rfl
    have hI9 := mapA_step hF9 hI
    have hAd9 : ads sk = ads ((dn ++ [q]) ++ rem) := hAd.trans (ads_step rfl)
    have hw9 : Wd D A s.heap _ _ [[ob q_1 16 [.int (nI (dn ++ [q]).length), .int (nI dn.length), .int u, .ref (L 5)]], ((ob (L 5) 15 [.int u, .ref (al_d g (some (d, cap))), .int (nI (ads sk).length)]) :: (al_t dT (some (d, cap)) (ads sk))), [ob x 0 [.ref (L 0), .ref (L 1), .ref (L 2), .ref (L 3), .ref (L 4), .ref (L 5), .int (sc 0), .int (bz (sc 1)), .int (sc 2), .int (sc 3), .int (sc 4), .int (sc 5), .int (sc 6)]], (((dn ++ [q]) ++ rem).flatMap (skE dT))] := Wd.take hw9 [1, 1, 1, 0] rfl rfl
    have hl9 := lv_sub hl [3, 0, 1, 4] rfl
    exact ih (dn := dn ++ [q]) (last := (nI dn.length)) (a1 := (a1 + ((f_X12_grade q.2.2).1 * q.2.2 0))) (a2 := (a2 + q.2.2 0)) (ls := _) (H := _) (locs := _) hI9 hAd9 hl9 hw9

