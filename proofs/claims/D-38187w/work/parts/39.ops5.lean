/-! 39.ops5 (printed by gen/silk.py) -/
set_option maxRecDepth 100000
set_option maxHeartbeats 4000000 in
theorem k_X1_part (l : Launch) (D : va_G) (dT g : Nat → Nat) (z0 : Nat) (x : Nat) (L : Nat → Nat) (sc : Nat → Int32) (u : Int32) (st : Option (Nat × Nat)) (tr : List (Nat × (Nat → Int32))) (i : Int32) (j : Int32) (y : Int32) (hok : alOK st (ads tr)) (hnd : ∀ (k k2 : Nat) (q q2 : Nat × (Nat → Int32)), tr[k]? = some q → tr[k2]? = some q2 → q.1 = q2.1 → k = k2) : Con l D dT g z0 yX1_part (ws_ yX1_part cX1_part 7 (some .int)) ({ frames := 9, cells := 3, slots := 23, locals := 203 }) [.ref x, .int i, .int j, .int y] [[ob x 0 [.ref (L 0), .ref (L 1), .ref (L 2), .ref (L 3), .ref (L 4), .ref (L 5), .int (sc 0), .int (bz (sc 1)), .int (sc 2), .int (sc 3), .int (sc 4), .int (sc 5), .int (sc 6)]], ((ob (L 2) 15 [.int u, .ref (al_d g st), .int (nI (ads tr).length)]) :: (al_t dT st (ads tr))), (tr.flatMap trE)] (fun r LL => ∃ (k : Nat) (q : Nat × (Nat → Int32)) (k2 : Nat) (q2 : Nat × (Nat → Int32)), (tr[k]? = some q ∧ i = nI k ∧ tr[k2]? = some q2 ∧ j = nI k2 ∧ ¬ (i = j ∨ y < 1) ∧ ¬ q.2 0 ≤ y ∧ bz (q.2 10) = 0 ∧ q2.2 0 = 0) ∧ r = some (.int ((f_X3_part q.2 q2.2 y).1)) ∧ LL = [srS x L (pt_sc sc q.2 q2.2 y), ((ob (L 2) 15 [.int u, .ref (al_d g st), .int (nI (ads tr).length)]) :: (al_t dT st (ads tr))), (((tr.set k (q.1, (f_X3_part q.2 q2.2 y).2.1)).set k2 (q2.1, pt_to q.2 q2.2 y)).flatMap trE)]) (fun E LL => ((E = "java/lang/IndexOutOfBoundsException" ∧ ((i < 0 ∨ ¬ i < nI (ads tr).length) ∨ j < 0 ∨ ¬ j < nI (ads tr).length)) ∨ (E = "java/lang/IllegalArgumentException" ∧ ¬ ((i < 0 ∨ ¬ i < nI (ads tr).length) ∨ j < 0 ∨ ¬ j < nI (ads tr).length) ∧ (i = j ∨ y < 1)) ∨ (E = "java/lang/IllegalStateException" ∧ ¬ ((i < 0 ∨ ¬ i < nI (ads tr).length) ∨ j < 0 ∨ ¬ j < nI (ads tr).length) ∧ ¬ (i = j ∨ y < 1) ∧ (∃ k q k2 q2, tr[k]? = some q ∧ i = nI k ∧ tr[k2]? = some q2 ∧ j = nI k2 ∧ (q.2 0 ≤ y ∨ ¬ bz (q.2 10) = 0 ∨ ¬ q2.2 0 = 0)))) ∧ LL = [[ob x 0 [.ref (L 0), .ref (L 1), .ref (L 2), .ref (L 3), .ref (L 4), .ref (L 5), .int (sc 0), .int (bz (sc 1)), .int (sc 2), .int (sc 3), .int (sc 4), .int (sc 5), .int (sc 6)]], ((ob (L 2) 15 [.int u, .ref (al_d g st), .int (nI (ads tr).length)]) :: (al_t dT st (ads tr))), (tr.flatMap trE)]) 3 23 := by
  refine Con.of (maxL := 7) (ret := (some .int)) (by first | exact plainFor_of_name (by decide) | decide +kernel) (Nat.le_of_ble_eq_true rfl) ?_
  intro p e s m args below meth c A ls hf hr hlocks hnm hno hK hA hAz hw hl hst
  have hf : CallFix p m c cX1_part 7 s args lw_all "SilkRow" := hf
  have hnm : meth.name = "part" := hnm
  have hx := hf.1
  have hb := hf.2.1
  have hts := hf.2.2.2.2
  have hl : lv_has ls 7 [(0, .ref x), (1, .int i), (2, .int j), (3, .int y)] := hl
  have hw : Wd D A s.heap s.heap [] [[ob x 0 [.ref (L 0), .ref (L 1), .ref (L 2), .ref (L 3), .ref (L 4), .ref (L 5), .int (sc 0), .int (bz (sc 1)), .int (sc 2), .int (sc 3), .int (sc 4), .int (sc 5), .int (sc 6)]], ((ob (L 2) 15 [.int u, .ref (al_d g st), .int (nI (ads tr).length)]) :: (al_t dT st (ads tr))), (tr.flatMap trE)] := hw
  refine lv_aload_n hx hb dX1_part_0 rfl (lv_at hl 0 rfl) ?_
  refine lv_iload_n hx hb dX1_part_1 rfl (lv_at hl 1 rfl) ?_
  refine xc_V (rest := []) (As := [.int i]) hf hK hA hAz hst (hw.pick [0, 0, 0] rfl rfl rfl) (k_X1_trayOf l D dT g z0 x L sc u st tr i hok) (cwV 1 hts (lw_V q910 q912 qs14 q44 q913) rfl rfl rfl (by decide +kernel) ⟨Nat.le_of_ble_eq_true rfl, Nat.le_of_ble_eq_true rfl⟩) (xr_rv hK hw 0 0 rfl rfl) rfl hl.1 rfl (Nat.le_of_ble_eq_true rfl) dX1_part_2 ⟨(Nat.le_of_ble_eq_true rfl), (Nat.le_of_ble_eq_true rfl)⟩ ?_ (fun v9 LL1 H locs hp hw => ?_)
  · intro E9 LL9 H locs q9 ce9 hp hw h91 h92 h93
    obtain ⟨hE, rfl⟩ := hp
    have hw := Wd.take (L2 := [[ob x 0 [.ref (L 0), .ref (L 1), .ref (L 2), .ref (L 3), .ref (L 4), .ref (L 5), .int (sc 0), .int (bz (sc 1)), .int (sc 2), .int (sc 3), .int (sc 4), .int (sc 5), .int (sc 6)]], ((ob (L 2) 15 [.int u, .ref (al_d g st), .int (nI (ads tr).length)]) :: (al_t dT st (ads tr))), (tr.flatMap trE)]) hw [0, 0, 0] rfl rfl
    exact xr_out hno hlocks hw ⟨(Or.inl ⟨hE.1, (Or.inl hE.2)⟩), rfl⟩ h91 h92 h93 (Nat.le_of_ble_eq_true rfl) (Nat.le_of_ble_eq_true rfl)
  obtain ⟨k_1, q_2, e_3, rfl, rfl⟩ := hp
  have hw : Wd D A s.heap _ _ [[ob x 0 [.ref (L 0), .ref (L 1), .ref (L 2), .ref (L 3), .ref (L 4), .ref (L 5), .int (sc 0), .int (bz (sc 1)), .int (sc 2), .int (sc 3), .int (sc 4), .int (sc 5), .int (sc 6)]], ((ob (L 2) 15 [.int u, .ref (al_d g st), .int (nI (ads tr).length)]) :: (al_t dT st (ads tr))), (tr.flatMap trE)] := hw
  refine W.eq (g2 := F0 m 5 ls [.ref q_2.1]) rfl ?_
  refine lv_astore (lv' := [(4, .ref q_2.1), (0, .ref x), (1, .int i), (2, .int j), (3, .int y)]) hx hb dX1_part_5 hl (by decide) rfl (fun ls hl => ?_)
  refine lv_aload_n hx hb dX1_part_7 rfl (lv_at hl 1 rfl) ?_
  refine lv_iload_n hx hb dX1_part_8 rfl (lv_at hl 3 rfl) ?_
  refine xc_V (rest := []) (As := [.int j]) hf hK hA hAz hst (hw.pick [0, 0, 0] rfl rfl rfl) (k_X1_trayOf l D dT g z0 x L sc u st tr j hok) (cwV 1 hts (lw_V q910 q912 qs14 q44 q913) rfl rfl rfl (by decide +kernel) ⟨Nat.le_of_ble_eq_true rfl, Nat.le_of_ble_eq_true rfl⟩) (xr_rv hK hw 0 0 rfl rfl) rfl hl.1 rfl (Nat.le_of_ble_eq_true rfl) dX1_part_9 ⟨(Nat.le_of_ble_eq_true rfl), (Nat.le_of_ble_eq_true rfl)⟩ ?_ (fun v9 LL1 H locs hp hw => ?_)
  · intro E9 LL9 H locs q9 ce9 hp hw h91 h92 h93
    obtain ⟨hE, rfl⟩ := hp
    have hw := Wd.take (L2 := [[ob x 0 [.ref (L 0), .ref (L 1), .ref (L 2), .ref (L 3), .ref (L 4), .ref (L 5), .int (sc 0), .int (bz (sc 1)), .int (sc 2), .int (sc 3), .int (sc 4), .int (sc 5), .int (sc 6)]], ((ob (L 2) 15 [.int u, .ref (al_d g st), .int (nI (ads tr).length)]) :: (al_t dT st (ads tr))), (tr.flatMap trE)]) hw [0, 0, 0] rfl rfl
    exact xr_out hno hlocks hw ⟨(Or.inl ⟨hE.1, (Or.inr hE.2)⟩), rfl⟩ h91 h92 h93 (Nat.le_of_ble_eq_true rfl) (Nat.le_of_ble_eq_true rfl)
  obtain ⟨k_4, q_5, e_6, rfl, rfl⟩ := hp
  have hw : Wd D A s.heap _ _ [[ob x 0 [.ref (L 0), .ref (L 1), .ref (L 2), .ref (L 3), .ref (L 4), .ref (L 5), .int (sc 0), .int (bz (sc 1)), .int (sc 2), .int (sc 3), .int (sc 4), .int (sc 5), .int (sc 6)]], ((ob (L 2) 15 [.int u, .ref (al_d g st), .int (nI (ads tr).length)]) :: (al_t dT st (ads tr))), (tr.flatMap trE)] := hw
  refine W.eq (g2 := F0 m 12 ls [.ref q_5.1]) rfl ?_
  refine lv_astore (lv' := [(5, .ref q_5.1), (4, .ref q_2.1), (0, .ref x), (1, .int i), (2, .int j), (3, .int y)]) hx hb dX1_part_12 hl (by decide) rfl (fun ls hl => ?_)
  refine lv_aload hx hb dX1_part_14 (lv_at hl 1 rfl) ?_
  refine lv_aload hx hb dX1_part_16 (lv_at hl 0 rfl) ?_
  rcases Decidable.em (k_1 = k_4) with hkk | hkk
  · have hqq : q_2.1 = q_5.1 := by have h9 := e_3.1; rw [hkk] at h9; exact congrArg Prod.fst (Option.some.inj (h9.symm.trans e_6.1))
    refine lv_acmp_eq (rx := (some q_2.1)) (ry := (some q_5.1)) (tgt := 30) hx hb dX1_part_18 (by decide) (fun _ => ?_) (fun c9 => absurd c9 (not_not_intro (congrArg some hqq)))
    refine lv_iconst (v := 0) hx hb dX1_part_30 (by decide) ?_
    refine xc_S (rest := []) (As := [.int 0]) hf hK hA hAz hst (hw.pick [] rfl rfl rfl) (k_X1_require_bad l D dT g z0) (va_cwS 1 hts (lw_S q665 q666 q44 q667) rfl rfl rfl (by decide +kernel) ⟨Nat.le_of_ble_eq_true rfl, Nat.le_of_ble_eq_true rfl⟩) rfl hl.1 rfl (Nat.le_of_ble_eq_true rfl) dX1_part_31 ⟨(Nat.le_of_ble_eq_true rfl), (Nat.le_of_ble_eq_true rfl)⟩ ?_ (fun v9 LL1 H locs hp hw => ?_)
    · intro E9 LL9 H locs q9 ce9 hp hw h91 h92 h93
      obtain ⟨hE, rfl⟩ := hp
      have hw := Wd.take (L2 := [[ob x 0 [.ref (L 0), .ref (L 1), .ref (L 2), .ref (L 3), .ref (L 4), .ref (L 5), .int (sc 0), .int (bz (sc 1)), .int (sc 2), .int (sc 3), .int (sc 4), .int (sc 5), .int (sc 6)]], ((ob (L 2) 15 [.int u, .ref (al_d g st), .int (nI (ads tr).length)]) :: (al_t dT st (ads tr))), (tr.flatMap trE)]) hw [0, 0, 0] rfl rfl
      exact xr_out hno hlocks hw ⟨(Or.inr (Or.inl ⟨hE, (nor (rng_no e_3 (al_short hok)) (rng_no e_6 (al_short hok))), (Or.inl (e_3.2.trans ((congrArg nI hkk).trans e_6.2.symm)))⟩)), rfl⟩ h91 h92 h93 (Nat.le_of_ble_eq_true rfl) (Nat.le_of_ble_eq_true rfl)
    exact hp.elim
  · refine lv_acmp_eq (rx := (some q_2.1)) (ry := (some q_5.1)) (tgt := 30) hx hb dX1_part_18 (by decide) (fun c9 => absurd c9 (fun z => hkk (hnd _ _ _ _ e_3.1 e_6.1 (Option.some.inj z)))) (fun _ => ?_)
    refine lv_iload_n hx hb dX1_part_21 rfl (lv_at hl 5 rfl) ?_
    refine lv_iconst (v := 1) hx hb dX1_part_22 (by decide) ?_
    refine lv_icmp_lt (tgt := 30) hx hb dX1_part_23 (by decide) (fun c_23 => ?_) (fun c_23 => ?_)
    · refine lv_iconst (v := 0) hx hb dX1_part_30 (by decide) ?_
      refine xc_S (rest := []) (As := [.int 0]) hf hK hA hAz hst (hw.pick [] rfl rfl rfl) (k_X1_require_bad l D dT g z0) (va_cwS 1 hts (lw_S q665 q666 q44 q667) rfl rfl rfl (by decide +kernel) ⟨Nat.le_of_ble_eq_true rfl, Nat.le_of_ble_eq_true rfl⟩) rfl hl.1 rfl (Nat.le_of_ble_eq_true rfl) dX1_part_31 ⟨(Nat.le_of_ble_eq_true rfl), (Nat.le_of_ble_eq_true rfl)⟩ ?_ (fun v9 LL1 H locs hp hw => ?_)
      · intro E9 LL9 H locs q9 ce9 hp hw h91 h92 h93
        obtain ⟨hE, rfl⟩ := hp
        have hw := Wd.take (L2 := [[ob x 0 [.ref (L 0), .ref (L 1), .ref (L 2), .ref (L 3), .ref (L 4), .ref (L 5), .int (sc 0), .int (bz (sc 1)), .int (sc 2), .int (sc 3), .int (sc 4), .int (sc 5), .int (sc 6)]], ((ob (L 2) 15 [.int u, .ref (al_d g st), .int (nI (ads tr).length)]) :: (al_t dT st (ads tr))), (tr.flatMap trE)]) hw [0, 0, 0] rfl rfl
        exact xr_out hno hlocks hw ⟨(Or.inr (Or.inl ⟨hE, (nor (rng_no e_3 (al_short hok)) (rng_no e_6 (al_short hok))), (Or.inr c_23)⟩)), rfl⟩ h91 h92 h93 (Nat.le_of_ble_eq_true rfl) (Nat.le_of_ble_eq_true rfl)
      exact hp.elim
    · refine lv_iconst (v := 1) hx hb dX1_part_26 (by decide) ?_
      refine lv_goto (tgt := 31) hx hb dX1_part_27 (by decide) ?_
      refine xc_S (rest := []) (As := [.int 1]) hf hK hA hAz hst (hw.pick [] rfl rfl rfl) (k_X1_require_ok l D dT g z0) (va_cwS 1 hts (lw_S q665 q666 q44 q667) rfl rfl rfl (by decide +kernel) ⟨Nat.le_of_ble_eq_true rfl, Nat.le_of_ble_eq_true rfl⟩) rfl hl.1 rfl (Nat.le_of_ble_eq_true rfl) dX1_part_31 ⟨(Nat.le_of_ble_eq_true rfl), (Nat.le_of_ble_eq_true rfl)⟩ (fun _ _ _ _ _ _ h => h.elim) (fun v9 LL1 H locs hp hw => ?_)
      obtain ⟨rfl, rfl⟩ := hp
      have hw : Wd D A s.heap _ _ [[ob x 0 [.ref (L 0), .ref (L 1), .ref (L 2), .ref (L 3), .ref (L 4), .ref (L 5), .int (sc 0), .int (bz (sc 1)), .int (sc 2), .int (sc 3), .int (sc 4), .int (sc 5), .int (sc 6)]], ((ob (L 2) 15 [.int u, .ref (al_d g st), .int (nI (ads tr).length)]) :: (al_t dT st (ads tr))), (tr.flatMap trE)] := hw
      refine W.eq (g2 := F0 m 34 ls []) rfl ?_
      refine lv_aload hx hb dX1_part_34 (lv_at hl 1 rfl) ?_
      have hw : Wd D A s.heap _ _ [(tr.flatMap trE), [ob x 0 [.ref (L 0), .ref (L 1), .ref (L 2), .ref (L 3), .ref (L 4), .ref (L 5), .int (sc 0), .int (bz (sc 1)), .int (sc 2), .int (sc 3), .int (sc 4), .int (sc 5), .int (sc 6)]], ((ob (L 2) 15 [.int u, .ref (al_d g st), .int (nI (ads tr).length)]) :: (al_t dT st (ads tr)))] := hw.pick [2] rfl rfl rfl
      have hw : Wd D A s.heap _ _ [[ob q_2.1 2 [.int (q_2.2 0), .int (q_2.2 1), .int (q_2.2 2), .int (q_2.2 3), .int (q_2.2 4), .int (q_2.2 5), .int (q_2.2 6), .int (q_2.2 7), .int (q_2.2 8), .int (q_2.2 9), .int (bz (q_2.2 10))]], ((tr.eraseIdx k_1).flatMap trE), [ob x 0 [.ref (L 0), .ref (L 1), .ref (L 2), .ref (L 3), .ref (L 4), .ref (L 5), .int (sc 0), .int (bz (sc 1)), .int (sc 2), .int (sc 3), .int (sc 4), .int (sc 5), .int (sc 6)]], ((ob (L 2) 15 [.int u, .ref (al_d g st), .int (nI (ads tr).length)]) :: (al_t dT st (ads tr)))] := hw.foc e_3.1
      refine xr_getN hf hK hw 0 0 rfl rfl in_X3 0 (by decide) q207 (fun _ h => h) rfl dX1_part_36 ?_
      refine lv_iload_n hx hb dX1_part_39 rfl (lv_at hl 5 rfl) ?_
      refine lv_icmp_le (tgt := 63) hx hb dX1_part_40 (by decide) (fun c_40 => ?_) (fun c_40 => ?_)
      · refine lv_iconst (v := 0) hx hb dX1_part_63 (by decide) ?_
        refine xc_S (rest := []) (As := [.int 0]) hf hK hA hAz hst (hw.pick [] rfl rfl rfl) (k_X1_requireState_bad l D dT g z0) (va_cwS 1 hts (lw_S q733 q734 q44 q735) rfl rfl rfl (by decide +kernel) ⟨Nat.le_of_ble_eq_true rfl, Nat.le_of_ble_eq_true rfl⟩) rfl hl.1 rfl (Nat.le_of_ble_eq_true rfl) dX1_part_64 ⟨(Nat.le_of_ble_eq_true rfl), (Nat.le_of_ble_eq_true rfl)⟩ ?_ (fun v9 LL1 H locs hp hw => ?_)
        · intro E9 LL9 H locs q9 ce9 hp hw h91 h92 h93
          obtain ⟨hE, rfl⟩ := hp
          have hw : Wd D A s.heap _ _ [[ob q_2.1 2 [.int (q_2.2 0), .int (q_2.2 1), .int (q_2.2 2), .int (q_2.2 3), .int (q_2.2 4), .int (q_2.2 5), .int (q_2.2 6), .int (q_2.2 7), .int (q_2.2 8), .int (q_2.2 9), .int (bz (q_2.2 10))]], ((tr.eraseIdx k_1).flatMap trE), [ob x 0 [.ref (L 0), .ref (L 1), .ref (L 2), .ref (L 3), .ref (L 4), .ref (L 5), .int (sc 0), .int (bz (sc 1)), .int (sc 2), .int (sc 3), .int (sc 4), .int (sc 5), .int (sc 6)]], ((ob (L 2) 15 [.int u, .ref (al_d g st), .int (nI (ads tr).length)]) :: (al_t dT st (ads tr)))] := hw
          have hw : Wd D A s.heap _ _ [(tr.flatMap trE), [ob x 0 [.ref (L 0), .ref (L 1), .ref (L 2), .ref (L 3), .ref (L 4), .ref (L 5), .int (sc 0), .int (bz (sc 1)), .int (sc 2), .int (sc 3), .int (sc 4), .int (sc 5), .int (sc 6)]], ((ob (L 2) 15 [.int u, .ref (al_d g st), .int (nI (ads tr).length)]) :: (al_t dT st (ads tr)))] := Wd.unf0 (q := q_2) (L := tr) (k := k_1) hw e_3.1
          have hw := Wd.take (L2 := [[ob x 0 [.ref (L 0), .ref (L 1), .ref (L 2), .ref (L 3), .ref (L 4), .ref (L 5), .int (sc 0), .int (bz (sc 1)), .int (sc 2), .int (sc 3), .int (sc 4), .int (sc 5), .int (sc 6)]], ((ob (L 2) 15 [.int u, .ref (al_d g st), .int (nI (ads tr).length)]) :: (al_t dT st (ads tr))), (tr.flatMap trE)]) hw [1, 1, 0] rfl rfl
          exact xr_out hno hlocks hw ⟨(Or.inr (Or.inr ⟨hE, (nor (rng_no e_3 (al_short hok)) (rng_no e_6 (al_short hok))), (nor (ij_ne e_3 e_6 (al_short hok) hkk) c_23), ⟨_, _, _, _, e_3.1, e_3.2, e_6.1, e_6.2, (Or.inl c_40)⟩⟩)), rfl⟩ h91 h92 h93 (Nat.le_of_ble_eq_true rfl) (Nat.le_of_ble_eq_true rfl)
        exact hp.elim
      · refine lv_aload hx hb dX1_part_43 (lv_at hl 1 rfl) ?_
        refine xr_getN hf hK hw 0 0 rfl rfl in_X3 10 (by decide) q227 (fun _ h => h) rfl dX1_part_45 ?_
        refine lv_if_ne (tgt := 63) hx hb dX1_part_48 (by decide) (fun c_48 => ?_) (fun c_48 => ?_)
        · refine lv_iconst (v := 0) hx hb dX1_part_63 (by decide) ?_
          refine xc_S (rest := []) (As := [.int 0]) hf hK hA hAz hst (hw.pick [] rfl rfl rfl) (k_X1_requireState_bad l D dT g z0) (va_cwS 1 hts (lw_S q733 q734 q44 q735) rfl rfl rfl (by decide +kernel) ⟨Nat.le_of_ble_eq_true rfl, Nat.le_of_ble_eq_true rfl⟩) rfl hl.1 rfl (Nat.le_of_ble_eq_true rfl) dX1_part_64 ⟨(Nat.le_of_ble_eq_true rfl), (Nat.le_of_ble_eq_true rfl)⟩ ?_ (fun v9 LL1 H locs hp hw => ?_)
          · intro E9 LL9 H locs q9 ce9 hp hw h91 h92 h93
            obtain ⟨hE, rfl⟩ := hp
            have hw : Wd D A s.heap _ _ [[ob q_2.1 2 [.int (q_2.2 0), .int (q_2.2 1), .int (q_2.2 2), .int (q_2.2 3), .int (q_2.2 4), .int (q_2.2 5), .int (q_2.2 6), .int (q_2.2 7), .int (q_2.2 8), .int (q_2.2 9), .int (bz (q_2.2 10))]], ((tr.eraseIdx k_1).flatMap trE), [ob x 0 [.ref (L 0), .ref (L 1), .ref (L 2), .ref (L 3), .ref (L 4), .ref (L 5), .int (sc 0), .int (bz (sc 1)), .int (sc 2), .int (sc 3), .int (sc 4), .int (sc 5), .int (sc 6)]], ((ob (L 2) 15 [.int u, .ref (al_d g st), .int (nI (ads tr).length)]) :: (al_t dT st (ads tr)))] := hw
            have hw : Wd D A s.heap _ _ [(tr.flatMap trE), [ob x 0 [.ref (L 0), .ref (L 1), .ref (L 2), .ref (L 3), .ref (L 4), .ref (L 5), .int (sc 0), .int (bz (sc 1)), .int (sc 2), .int (sc 3), .int (sc 4), .int (sc 5), .int (sc 6)]], ((ob (L 2) 15 [.int u, .ref (al_d g st), .int (nI (ads tr).length)]) :: (al_t dT st (ads tr)))] := Wd.unf0 (q := q_2) (L := tr) (k := k_1) hw e_3.1
            have hw := Wd.take (L2 := [[ob x 0 [.ref (L 0), .ref (L 1), .ref (L 2), .ref (L 3), .ref (L 4), .ref (L 5), .int (sc 0), .int (bz (sc 1)), .int (sc 2), .int (sc 3), .int (sc 4), .int (sc 5), .int (sc 6)]], ((ob (L 2) 15 [.int u, .ref (al_d g st), .int (nI (ads tr).length)]) :: (al_t dT st (ads tr))), (tr.flatMap trE)]) hw [1, 1, 0] rfl rfl
            exact xr_out hno hlocks hw ⟨(Or.inr (Or.inr ⟨hE, (nor (rng_no e_3 (al_short hok)) (rng_no e_6 (al_short hok))), (nor (ij_ne e_3 e_6 (al_short hok) hkk) c_23), ⟨_, _, _, _, e_3.1, e_3.2, e_6.1, e_6.2, (Or.inr (Or.inl c_48))⟩⟩)), rfl⟩ h91 h92 h93 (Nat.le_of_ble_eq_true rfl) (Nat.le_of_ble_eq_true rfl)
          exact hp.elim
        · refine lv_aload hx hb dX1_part_51 (lv_at hl 0 rfl) ?_
          have hw : Wd D A s.heap _ _ [(tr.flatMap trE), [ob x 0 [.ref (L 0), .ref (L 1), .ref (L 2), .ref (L 3), .ref (L 4), .ref (L 5), .int (sc 0), .int (bz (sc 1)), .int (sc 2), .int (sc 3), .int (sc 4), .int (sc 5), .int (sc 6)]], ((ob (L 2) 15 [.int u, .ref (al_d g st), .int (nI (ads tr).length)]) :: (al_t dT st (ads tr)))] := Wd.unf0 (q := q_2) (L := tr) (k := k_1) hw e_3.1
          have hw : Wd D A s.heap _ _ [[ob q_5.1 2 [.int (q_5.2 0), .int (q_5.2 1), .int (q_5.2 2), .int (q_5.2 3), .int (q_5.2 4), .int (q_5.2 5), .int (q_5.2 6), .int (q_5.2 7), .int (q_5.2 8), .int (q_5.2 9), .int (bz (q_5.2 10))]], ((tr.eraseIdx k_4).flatMap trE), [ob x 0 [.ref (L 0), .ref (L 1), .ref (L 2), .ref (L 3), .ref (L 4), .ref (L 5), .int (sc 0), .int (bz (sc 1)), .int (sc 2), .int (sc 3), .int (sc 4), .int (sc 5), .int (sc 6)]], ((ob (L 2) 15 [.int u, .ref (al_d g st), .int (nI (ads tr).length)]) :: (al_t dT st (ads tr)))] := hw.foc e_6.1
          refine xr_getN hf hK hw 0 0 rfl rfl in_X3 0 (by decide) q207 (fun _ h => h) rfl dX1_part_53 ?_
          refine lv_if_ne (tgt := 63) hx hb dX1_part_56 (by decide) (fun c_56 => ?_) (fun c_56 => ?_)
          · refine lv_iconst (v := 0) hx hb dX1_part_63 (by decide) ?_
            refine xc_S (rest := []) (As := [.int 0]) hf hK hA hAz hst (hw.pick [] rfl rfl rfl) (k_X1_requireState_bad l D dT g z0) (va_cwS 1 hts (lw_S q733 q734 q44 q735) rfl rfl rfl (by decide +kernel) ⟨Nat.le_of_ble_eq_true rfl, Nat.le_of_ble_eq_true rfl⟩) rfl hl.1 rfl (Nat.le_of_ble_eq_true rfl) dX1_part_64 ⟨(Nat.le_of_ble_eq_true rfl), (Nat.le_of_ble_eq_true rfl)⟩ ?_ (fun v9 LL1 H locs hp hw => ?_)
            · intro E9 LL9 H locs q9 ce9 hp hw h91 h92 h93
              obtain ⟨hE, rfl⟩ := hp
              have hw : Wd D A s.heap _ _ [[ob q_5.1 2 [.int (q_5.2 0), .int (q_5.2 1), .int (q_5.2 2), .int (q_5.2 3), .int (q_5.2 4), .int (q_5.2 5), .int (q_5.2 6), .int (q_5.2 7), .int (q_5.2 8), .int (q_5.2 9), .int (bz (q_5.2 10))]], ((tr.eraseIdx k_4).flatMap trE), [ob x 0 [.ref (L 0), .ref (L 1), .ref (L 2), .ref (L 3), .ref (L 4), .ref (L 5), .int (sc 0), .int (bz (sc 1)), .int (sc 2), .int (sc 3), .int (sc 4), .int (sc 5), .int (sc 6)]], ((ob (L 2) 15 [.int u, .ref (al_d g st), .int (nI (ads tr).length)]) :: (al_t dT st (ads tr)))] := hw
              have hw : Wd D A s.heap _ _ [(tr.flatMap trE), [ob x 0 [.ref (L 0), .ref (L 1), .ref (L 2), .ref (L 3), .ref (L 4), .ref (L 5), .int (sc 0), .int (bz (sc 1)), .int (sc 2), .int (sc 3), .int (sc 4), .int (sc 5), .int (sc 6)]], ((ob (L 2) 15 [.int u, .ref (al_d g st), .int (nI (ads tr).length)]) :: (al_t dT st (ads tr)))] := Wd.unf0 (q := q_5) (L := tr) (k := k_4) hw e_6.1
              have hw := Wd.take (L2 := [[ob x 0 [.ref (L 0), .ref (L 1), .ref (L 2), .ref (L 3), .ref (L 4), .ref (L 5), .int (sc 0), .int (bz (sc 1)), .int (sc 2), .int (sc 3), .int (sc 4), .int (sc 5), .int (sc 6)]], ((ob (L 2) 15 [.int u, .ref (al_d g st), .int (nI (ads tr).length)]) :: (al_t dT st (ads tr))), (tr.flatMap trE)]) hw [1, 1, 0] rfl rfl
              exact xr_out hno hlocks hw ⟨(Or.inr (Or.inr ⟨hE, (nor (rng_no e_3 (al_short hok)) (rng_no e_6 (al_short hok))), (nor (ij_ne e_3 e_6 (al_short hok) hkk) c_23), ⟨_, _, _, _, e_3.1, e_3.2, e_6.1, e_6.2, (Or.inr (Or.inr c_56))⟩⟩)), rfl⟩ h91 h92 h93 (Nat.le_of_ble_eq_true rfl) (Nat.le_of_ble_eq_true rfl)
            exact hp.elim
          · refine lv_iconst (v := 1) hx hb dX1_part_59 (by decide) ?_
            refine lv_goto (tgt := 64) hx hb dX1_part_60 (by decide) ?_
            refine xc_S (rest := []) (As := [.int 1]) hf hK hA hAz hst (hw.pick [] rfl rfl rfl) (k_X1_requireState_ok l D dT g z0) (va_cwS 1 hts (lw_S q733 q734 q44 q735) rfl rfl rfl (by decide +kernel) ⟨Nat.le_of_ble_eq_true rfl, Nat.le_of_ble_eq_true rfl⟩) rfl hl.1 rfl (Nat.le_of_ble_eq_true rfl) dX1_part_64 ⟨(Nat.le_of_ble_eq_true rfl), (Nat.le_of_ble_eq_true rfl)⟩ (fun _ _ _ _ _ _ h => h.elim) (fun v9 LL1 H locs hp hw => ?_)
            obtain ⟨rfl, rfl⟩ := hp
            have hw : Wd D A s.heap _ _ [[ob q_5.1 2 [.int (q_5.2 0), .int (q_5.2 1), .int (q_5.2 2), .int (q_5.2 3), .int (q_5.2 4), .int (q_5.2 5), .int (q_5.2 6), .int (q_5.2 7), .int (q_5.2 8), .int (q_5.2 9), .int (bz (q_5.2 10))]], ((tr.eraseIdx k_4).flatMap trE), [ob x 0 [.ref (L 0), .ref (L 1), .ref (L 2), .ref (L 3), .ref (L 4), .ref (L 5), .int (sc 0), .int (bz (sc 1)), .int (sc 2), .int (sc 3), .int (sc 4), .int (sc 5), .int (sc 6)]], ((ob (L 2) 15 [.int u, .ref (al_d g st), .int (nI (ads tr).length)]) :: (al_t dT st (ads tr)))] := hw
            refine W.eq (g2 := F0 m 67 ls []) rfl ?_
            have hw : Wd D A s.heap _ _ [(tr.flatMap trE), [ob x 0 [.ref (L 0), .ref (L 1), .ref (L 2), .ref (L 3), .ref (L 4), .ref (L 5), .int (sc 0), .int (bz (sc 1)), .int (sc 2), .int (sc 3), .int (sc 4), .int (sc 5), .int (sc 6)]], ((ob (L 2) 15 [.int u, .ref (al_d g st), .int (nI (ads tr).length)]) :: (al_t dT st (ads tr)))] := Wd.unf0 (q := q_5) (L := tr) (k := k_4) hw e_6.1
            obtain ⟨R9, hR1, hR2⟩ := foc2 (f := trE) e_3.1 e_6.1 hkk
            have hw : Wd D A s.heap _ _ [(tr.flatMap trE), [ob x 0 [.ref (L 0), .ref (L 1), .ref (L 2), .ref (L 3), .ref (L 4), .ref (L 5), .int (sc 0), .int (bz (sc 1)), .int (sc 2), .int (sc 3), .int (sc 4), .int (sc 5), .int (sc 6)]], ((ob (L 2) 15 [.int u, .ref (al_d g st), .int (nI (ads tr).length)]) :: (al_t dT st (ads tr)))] := hw.pick [0] rfl rfl rfl
            have hw : Wd D A s.heap _ _ [[ob q_2.1 2 [.int (q_2.2 0), .int (q_2.2 1), .int (q_2.2 2), .int (q_2.2 3), .int (q_2.2 4), .int (q_2.2 5), .int (q_2.2 6), .int (q_2.2 7), .int (q_2.2 8), .int (q_2.2 9), .int (bz (q_2.2 10))]], [ob q_5.1 2 [.int (q_5.2 0), .int (q_5.2 1), .int (q_5.2 2), .int (q_5.2 3), .int (q_5.2 4), .int (q_5.2 5), .int (q_5.2 6), .int (q_5.2 7), .int (q_5.2 8), .int (q_5.2 9), .int (bz (q_5.2 10))]], R9, [ob x 0 [.ref (L 0), .ref (L 1), .ref (L 2), .ref (L 3), .ref (L 4), .ref (L 5), .int (sc 0), .int (bz (sc 1)), .int (sc 2), .int (sc 3), .int (sc 4), .int (sc 5), .int (sc 6)]], ((ob (L 2) 15 [.int u, .ref (al_d g st), .int (nI (ads tr).length)]) :: (al_t dT st (ads tr)))] := hw.foc2 hR1
            refine lv_aload hx hb dX1_part_67 (lv_at hl 1 rfl) ?_
            refine lv_aload hx hb dX1_part_69 (lv_at hl 0 rfl) ?_
            refine lv_iload_n hx hb dX1_part_71 rfl (lv_at hl 5 rfl) ?_
            refine xc_V (rest := []) (As := [.ref q_5.1, .int y]) hf hK hA hAz hst (hw.pick [0, 0] rfl rfl rfl) (k_X3_part l D dT g z0 q_2.1 q_5.1 q_2.2 q_5.2 y (pt_hv c_40 c_23)) (cwV 2 hts (lw_V q943 q944 q945 q53 q946) rfl rfl rfl (by decide +kernel) ⟨Nat.le_of_ble_eq_true rfl, Nat.le_of_ble_eq_true rfl⟩) (xr_rv hK hw 0 0 rfl rfl) rfl hl.1 rfl (Nat.le_of_ble_eq_true rfl) dX1_part_72 ⟨(Nat.le_of_ble_eq_true rfl), (Nat.le_of_ble_eq_true rfl)⟩ (fun _ _ _ _ _ _ h => h.elim) (fun v9 LL1 H locs hp hw => ?_)
            obtain ⟨r7, hr7⟩ : ∃ z, z = f_X3_part q_2.2 q_5.2 y := ⟨_, rfl⟩
            rw [← hr7] at hp
            obtain ⟨rfl, rfl⟩ := hp
            have hw : Wd D A s.heap _ _ [[ob q_2.1 2 [.int (r7.2.1 0), .int (r7.2.1 1), .int (r7.2.1 2), .int (r7.2.1 3), .int (r7.2.1 4), .int (r7.2.1 5), .int (r7.2.1 6), .int (r7.2.1 7), .int (r7.2.1 8), .int (r7.2.1 9), .int (bz (r7.2.1 10))]], [ob q_5.1 2 [.int (r7.2.2 0), .int (r7.2.2 1), .int (r7.2.2 2), .int (r7.2.2 3), .int (r7.2.2 4), .int (r7.2.2 5), .int (r7.2.2 6), .int (r7.2.2 7), .int (r7.2.2 8), .int (r7.2.2 9), .int (bz (r7.2.2 10))]], R9, [ob x 0 [.ref (L 0), .ref (L 1), .ref (L 2), .ref (L 3), .ref (L 4), .ref (L 5), .int (sc 0), .int (bz (sc 1)), .int (sc 2), .int (sc 3), .int (sc 4), .int (sc 5), .int (sc 6)]], ((ob (L 2) 15 [.int u, .ref (al_d g st), .int (nI (ads tr).length)]) :: (al_t dT st (ads tr)))] := hw
            refine W.eq (g2 := F0 m 75 ls [.int r7.1]) rfl ?_
            refine lv_istore (lv' := [(6, .int r7.1), (5, .ref q_5.1), (4, .ref q_2.1), (0, .ref x), (1, .int i), (2, .int j), (3, .int y)]) hx hb dX1_part_75 hl (by decide) rfl (fun ls hl => ?_)
            refine lv_aload hx hb dX1_part_77 (lv_at hl 2 rfl) ?_
            refine xr_getN hf hK hw 0 0 rfl rfl in_X3 5 (by decide) q217 (fun _ h => h) rfl dX1_part_79 ?_
            refine lv_if_le (tgt := 105) hx hb dX1_part_82 (by decide) (fun c_82 => ?_) (fun c_82 => ?_)
            · refine lv_iload hx hb dX1_part_105 (lv_at hl 0 rfl) ?_
              have hw : Wd D A s.heap _ _ [(((tr.set k_1 (q_2.1, r7.2.1)).set k_4 (q_5.1, r7.2.2)).flatMap trE), [ob x 0 [.ref (L 0), .ref (L 1), .ref (L 2), .ref (L 3), .ref (L 4), .ref (L 5), .int (sc 0), .int (bz (sc 1)), .int (sc 2), .int (sc 3), .int (sc 4), .int (sc 5), .int (sc 6)]], ((ob (L 2) 15 [.int u, .ref (al_d g st), .int (nI (ads tr).length)]) :: (al_t dT st (ads tr)))] := hw.unf2 (hR2 (q_2.1, r7.2.1) (q_5.1, r7.2.2))
              have hw : Wd D A s.heap _ _ [[ob x 0 [.ref (L 0), .ref (L 1), .ref (L 2), .ref (L 3), .ref (L 4), .ref (L 5), .int (sc 0), .int (bz (sc 1)), .int (sc 2), .int (sc 3), .int (sc 4), .int (sc 5), .int (sc 6)]], ((ob (L 2) 15 [.int u, .ref (al_d g st), .int (nI (ads tr).length)]) :: (al_t dT st (ads tr))), (((tr.set k_1 (q_2.1, r7.2.1)).set k_4 (q_5.1, r7.2.2)).flatMap trE)] := Wd.take hw [1, 1, 0] rfl rfl
              have hwZ := hw
              subst hr7
              have hw := hwZ
              exact xr_iret hf hr hlocks hw (Nat.le_of_ble_eq_true rfl) (Nat.le_of_ble_eq_true rfl) ⟨k_1, q_2, k_4, q_5, ⟨e_3.1, e_3.2, e_6.1, e_6.2, (nor (ij_ne e_3 e_6 (al_short hok) hkk) c_23), c_40, c_48, c_56⟩, rfl, by unfold pt_sc pt_to; simp only [if_pos (show (f_X3_part q_2.2 q_5.2 y).2.1 5 ≤ 0 from c_82)]; first | rfl | done⟩ dX1_part_107
            · refine lv_aload_n hx hb dX1_part_85 rfl (lv_at hl 3 rfl) ?_
              refine lv_dup hx hb dX1_part_86 rfl ?_
              refine xr_get hf hK hw 3 0 rfl rfl in_X1 10 (by decide) q261 (fun _ h => h) rfl dX1_part_87 ?_
              refine lv_aload hx hb dX1_part_90 (lv_at hl 1 rfl) ?_
              refine lv_iload_n hx hb dX1_part_92 rfl (lv_at hl 6 rfl) ?_
              refine lv_bipush (v := 10) hx hb dX1_part_93 (by decide) ?_
              refine xc_S (rest := [.ref q_5.1, .int (sc 4), .ref x]) (As := [.int y, .int 10]) hf hK hA hAz hst (hw.pick [] rfl rfl rfl) (k_X1_up l D dT g z0 y 10 (by decide)) (va_cwS 2 hts (lw_S q789 q381 q44 q382) rfl rfl rfl (by decide +kernel) ⟨Nat.le_of_ble_eq_true rfl, Nat.le_of_ble_eq_true rfl⟩) rfl hl.1 rfl (Nat.le_of_ble_eq_true rfl) dX1_part_95 ⟨(Nat.le_of_ble_eq_true rfl), (Nat.le_of_ble_eq_true rfl)⟩ (fun _ _ _ _ _ _ h => h.elim) (fun v9 LL1 H locs hp hw => ?_)
              obtain ⟨r8, hr8⟩ : ∃ z, z = f_X1_up y 10 := ⟨_, rfl⟩
              rw [← hr8] at hp
              obtain ⟨rfl, rfl⟩ := hp
              have hw : Wd D A s.heap _ _ [[ob q_2.1 2 [.int (r7.2.1 0), .int (r7.2.1 1), .int (r7.2.1 2), .int (r7.2.1 3), .int (r7.2.1 4), .int (r7.2.1 5), .int (r7.2.1 6), .int (r7.2.1 7), .int (r7.2.1 8), .int (r7.2.1 9), .int (bz (r7.2.1 10))]], [ob q_5.1 2 [.int (r7.2.2 0), .int (r7.2.2 1), .int (r7.2.2 2), .int (r7.2.2 3), .int (r7.2.2 4), .int (r7.2.2 5), .int (r7.2.2 6), .int (r7.2.2 7), .int (r7.2.2 8), .int (r7.2.2 9), .int (bz (r7.2.2 10))]], R9, [ob x 0 [.ref (L 0), .ref (L 1), .ref (L 2), .ref (L 3), .ref (L 4), .ref (L 5), .int (sc 0), .int (bz (sc 1)), .int (sc 2), .int (sc 3), .int (sc 4), .int (sc 5), .int (sc 6)]], ((ob (L 2) 15 [.int u, .ref (al_d g st), .int (nI (ads tr).length)]) :: (al_t dT st (ads tr)))] := hw
              refine W.eq (g2 := F0 m 98 ls [.int r8, .ref q_5.1, .int (sc 4), .ref x]) rfl ?_
              refine xc_V (rest := [.int (sc 4), .ref x]) (As := [.int r8]) hf hK hA hAz hst (hw.pick [1] rfl rfl rfl) (k_X3_lose l D dT g z0 q_5.1 r7.2.2 r8) (cwV 1 hts (lw_V q947 q418 q419 q53 q420) rfl rfl rfl (by decide +kernel) ⟨Nat.le_of_ble_eq_true rfl, Nat.le_of_ble_eq_true rfl⟩) (xr_rv hK hw 1 0 rfl rfl) rfl hl.1 rfl (Nat.le_of_ble_eq_true rfl) dX1_part_98 ⟨(Nat.le_of_ble_eq_true rfl), (Nat.le_of_ble_eq_true rfl)⟩ (fun _ _ _ _ _ _ h => h.elim) (fun v9 LL1 H locs hp hw => ?_)
              obtain ⟨r9, hr9⟩ : ∃ z, z = f_X3_lose r7.2.2 r8 := ⟨_, rfl⟩
              rw [← hr9] at hp
              obtain ⟨rfl, rfl⟩ := hp
              have hw : Wd D A s.heap _ _ [[ob q_5.1 2 [.int (r9.2 0), .int (r9.2 1), .int (r9.2 2), .int (r9.2 3), .int (r9.2 4), .int (r9.2 5), .int (r9.2 6), .int (r9.2 7), .int (r9.2 8), .int (r9.2 9), .int (bz (r9.2 10))]], [ob q_2.1 2 [.int (r7.2.1 0), .int (r7.2.1 1), .int (r7.2.1 2), .int (r7.2.1 3), .int (r7.2.1 4), .int (r7.2.1 5), .int (r7.2.1 6), .int (r7.2.1 7), .int (r7.2.1 8), .int (r7.2.1 9), .int (bz (r7.2.1 10))]], R9, [ob x 0 [.ref (L 0), .ref (L 1), .ref (L 2), .ref (L 3), .ref (L 4), .ref (L 5), .int (sc 0), .int (bz (sc 1)), .int (sc 2), .int (sc 3), .int (sc 4), .int (sc 5), .int (sc 6)]], ((ob (L 2) 15 [.int u, .ref (al_d g st), .int (nI (ads tr).length)]) :: (al_t dT st (ads tr)))] := hw
              refine W.eq (g2 := F0 m 101 ls [.int r9.1, .int (sc 4), .ref x]) rfl ?_
              refine lv_iadd hx hb dX1_part_101 ?_
              refine xr_put (LL' := [[ob q_5.1 2 [.int (r9.2 0), .int (r9.2 1), .int (r9.2 2), .int (r9.2 3), .int (r9.2 4), .int (r9.2 5), .int (r9.2 6), .int (r9.2 7), .int (r9.2 8), .int (r9.2 9), .int (bz (r9.2 10))]], [ob q_2.1 2 [.int (r7.2.1 0), .int (r7.2.1 1), .int (r7.2.1 2), .int (r7.2.1 3), .int (r7.2.1 4), .int (r7.2.1 5), .int (r7.2.1 6), .int (r7.2.1 7), .int (r7.2.1 8), .int (r7.2.1 9), .int (bz (r7.2.1 10))]], R9, [ob x 0 [.ref (L 0), .ref (L 1), .ref (L 2), .ref (L 3), .ref (L 4), .ref (L 5), .int (sc 0), .int (bz (sc 1)), .int (sc 2), .int (sc 3), .int ((sc 4) + r9.1), .int (sc 5), .int (sc 6)]], ((ob (L 2) 15 [.int u, .ref (al_d g st), .int (nI (ads tr).length)]) :: (al_t dT st (ads tr)))]) hf hK hw 3 0 rfl rfl in_X1 tyX1_ok nmX1 10 (by decide) q261 (fun _ h => h) rfl rfl rfl (Nat.le_of_ble_eq_true rfl) rfl dX1_part_102 (fun H locs hw => ?_)
              refine lv_iload hx hb dX1_part_105 (lv_at hl 0 rfl) ?_
              have hw : Wd D A s.heap _ _ [[ob q_2.1 2 [.int (r7.2.1 0), .int (r7.2.1 1), .int (r7.2.1 2), .int (r7.2.1 3), .int (r7.2.1 4), .int (r7.2.1 5), .int (r7.2.1 6), .int (r7.2.1 7), .int (r7.2.1 8), .int (r7.2.1 9), .int (bz (r7.2.1 10))]], [ob q_5.1 2 [.int (r9.2 0), .int (r9.2 1), .int (r9.2 2), .int (r9.2 3), .int (r9.2 4), .int (r9.2 5), .int (r9.2 6), .int (r9.2 7), .int (r9.2 8), .int (r9.2 9), .int (bz (r9.2 10))]], R9, [ob x 0 [.ref (L 0), .ref (L 1), .ref (L 2), .ref (L 3), .ref (L 4), .ref (L 5), .int (sc 0), .int (bz (sc 1)), .int (sc 2), .int (sc 3), .int ((sc 4) + r9.1), .int (sc 5), .int (sc 6)]], ((ob (L 2) 15 [.int u, .ref (al_d g st), .int (nI (ads tr).length)]) :: (al_t dT st (ads tr)))] := Wd.take hw [1, 0, 0, 0, 0] rfl rfl
              have hw : Wd D A s.heap _ _ [(((tr.set k_1 (q_2.1, r7.2.1)).set k_4 (q_5.1, r9.2)).flatMap trE), [ob x 0 [.ref (L 0), .ref (L 1), .ref (L 2), .ref (L 3), .ref (L 4), .ref (L 5), .int (sc 0), .int (bz (sc 1)), .int (sc 2), .int (sc 3), .int ((sc 4) + r9.1), .int (sc 5), .int (sc 6)]], ((ob (L 2) 15 [.int u, .ref (al_d g st), .int (nI (ads tr).length)]) :: (al_t dT st (ads tr)))] := hw.unf2 (hR2 (q_2.1, r7.2.1) (q_5.1, r9.2))
              have hw : Wd D A s.heap _ _ [[ob x 0 [.ref (L 0), .ref (L 1), .ref (L 2), .ref (L 3), .ref (L 4), .ref (L 5), .int (sc 0), .int (bz (sc 1)), .int (sc 2), .int (sc 3), .int ((sc 4) + r9.1), .int (sc 5), .int (sc 6)]], ((ob (L 2) 15 [.int u, .ref (al_d g st), .int (nI (ads tr).length)]) :: (al_t dT st (ads tr))), (((tr.set k_1 (q_2.1, r7.2.1)).set k_4 (q_5.1, r9.2)).flatMap trE)] := Wd.take hw [1, 1, 0] rfl rfl
              have hwZ := hw
              subst hr9
              subst hr8
              subst hr7
              have hw := hwZ
              exact xr_iret hf hr hlocks hw (Nat.le_of_ble_eq_true rfl) (Nat.le_of_ble_eq_true rfl) ⟨k_1, q_2, k_4, q_5, ⟨e_3.1, e_3.2, e_6.1, e_6.2, (nor (ij_ne e_3 e_6 (al_short hok) hkk) c_23), c_40, c_48, c_56⟩, rfl, by unfold pt_sc pt_to; simp only [if_neg (show ¬ ((f_X3_part q_2.2 q_5.2 y).2.1 5 ≤ 0) from c_82)]; first | rfl | done⟩ dX1_part_107

