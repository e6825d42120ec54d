/-! 30.checks (printed by gen/silk.py) -/
set_option maxRecDepth 100000
set_option maxHeartbeats 4000000 in
theorem k_X1_require_ok (l : Launch) (D : va_G) (dT g : Nat → Nat) (z0 : Nat)  : Con l D dT g z0 yX1_require (ws_ yX1_require cX1_require 1 none) ({ frames := 1, cells := 0, slots := 0, locals := 40 }) [.int 1] [] (fun r LL => r = none ∧ LL = []) noX 0 0 := by
  refine Con.of (maxL := 1) (ret := none) (by first | exact plainFor_of_name (by decide) | decide +kernel) (Nat.le_of_ble_eq_true rfl) ?_
  intro p e s m args below meth c A ls hf hr hlocks hnm hno hK hA hAz hw hl hst
  have hf : CallFix p m c cX1_require 1 s args lw_all "SilkRow" := hf
  have hnm : meth.name = "require" := hnm
  have hx := hf.1
  have hb := hf.2.1
  have hts := hf.2.2.2.2
  have hl : lv_has ls 1 [(0, .int 1)] := hl
  have hw : Wd D A s.heap s.heap [] [] := hw
  refine lv_iload_n hx hb dX1_require_0 rfl (lv_at hl 0 rfl) ?_
  refine lv_if_ne (tgt := 12) hx hb dX1_require_1 (by decide) (fun _ => ?_) (fun c9 => absurd c9 (by decide))
  exact xr_vret hf hr hlocks hw (Nat.le_of_ble_eq_true rfl) (Nat.le_of_ble_eq_true rfl) ⟨rfl, rfl⟩ dX1_require_12

set_option maxHeartbeats 4000000 in
theorem k_X1_require_bad (l : Launch) (D : va_G) (dT g : Nat → Nat) (z0 : Nat)  : Con l D dT g z0 yX1_require (ws_ yX1_require cX1_require 1 none) ({ frames := 6, cells := 1, slots := 6, locals := 140 }) [.int 0] [] (fun r LL => False) (fun E LL => (E = "java/lang/IllegalArgumentException") ∧ LL = []) 1 6 := by
  refine Con.of (maxL := 1) (ret := none) (by first | exact plainFor_of_name (by decide) | decide +kernel) (Nat.le_of_ble_eq_true rfl) ?_
  intro p e s m args below meth c A ls hf hr hlocks hnm hno hK hA hAz hw hl hst
  have hf : CallFix p m c cX1_require 1 s args lw_all "SilkRow" := hf
  have hnm : meth.name = "require" := hnm
  have hx := hf.1
  have hb := hf.2.1
  have hts := hf.2.2.2.2
  have hl : lv_has ls 1 [(0, .int 0)] := hl
  have hw : Wd D A s.heap s.heap [] [] := hw
  refine lv_iload_n hx hb dX1_require_0 rfl (lv_at hl 0 rfl) ?_
  refine lv_if_ne (tgt := 12) hx hb dX1_require_1 (by decide) (fun c9 => absurd c9 (by decide)) (fun _ => ?_)
  have hw : Wd D A s.heap _ _ [] := hw
  exact xr_throw0 hf hst hlocks hno hK hAz hw hl.1 (by decide) (by decide) q668 q61 hat_require hatg_require dX1_require_4 dX1_require_7 dX1_require_8 dX1_require_11 (by decide) (Nat.le_of_ble_eq_true rfl) (Nat.le_of_ble_eq_true rfl) (Nat.le_of_ble_eq_true rfl) ⟨rfl, rfl⟩ (Nat.le_of_ble_eq_true rfl) (Nat.le_of_ble_eq_true rfl)

set_option maxHeartbeats 4000000 in
theorem k_X1_requireState_ok (l : Launch) (D : va_G) (dT g : Nat → Nat) (z0 : Nat)  : Con l D dT g z0 yX1_requireState (ws_ yX1_requireState cX1_requireState 1 none) ({ frames := 1, cells := 0, slots := 0, locals := 40 }) [.int 1] [] (fun r LL => r = none ∧ LL = []) noX 0 0 := by
  refine Con.of (maxL := 1) (ret := none) (by first | exact plainFor_of_name (by decide) | decide +kernel) (Nat.le_of_ble_eq_true rfl) ?_
  intro p e s m args below meth c A ls hf hr hlocks hnm hno hK hA hAz hw hl hst
  have hf : CallFix p m c cX1_requireState 1 s args lw_all "SilkRow" := hf
  have hnm : meth.name = "requireState" := hnm
  have hx := hf.1
  have hb := hf.2.1
  have hts := hf.2.2.2.2
  have hl : lv_has ls 1 [(0, .int 1)] := hl
  have hw : Wd D A s.heap s.heap [] [] := hw
  refine lv_iload_n hx hb dX1_requireState_0 rfl (lv_at hl 0 rfl) ?_
  refine lv_if_ne (tgt := 12) hx hb dX1_requireState_1 (by decide) (fun _ => ?_) (fun c9 => absurd c9 (by decide))
  exact xr_vret hf hr hlocks hw (Nat.le_of_ble_eq_true rfl) (Nat.le_of_ble_eq_true rfl) ⟨rfl, rfl⟩ dX1_requireState_12

set_option maxHeartbeats 4000000 in
theorem k_X1_requireState_bad (l : Launch) (D : va_G) (dT g : Nat → Nat) (z0 : Nat)  : Con l D dT g z0 yX1_requireState (ws_ yX1_requireState cX1_requireState 1 none) ({ frames := 6, cells := 1, slots := 6, locals := 140 }) [.int 0] [] (fun r LL => False) (fun E LL => (E = "java/lang/IllegalStateException") ∧ LL = []) 1 6 := by
  refine Con.of (maxL := 1) (ret := none) (by first | exact plainFor_of_name (by decide) | decide +kernel) (Nat.le_of_ble_eq_true rfl) ?_
  intro p e s m args below meth c A ls hf hr hlocks hnm hno hK hA hAz hw hl hst
  have hf : CallFix p m c cX1_requireState 1 s args lw_all "SilkRow" := hf
  have hnm : meth.name = "requireState" := hnm
  have hx := hf.1
  have hb := hf.2.1
  have hts := hf.2.2.2.2
  have hl : lv_has ls 1 [(0, .int 0)] := hl
  have hw : Wd D A s.heap s.heap [] [] := hw
  refine lv_iload_n hx hb dX1_requireState_0 rfl (lv_at hl 0 rfl) ?_
  refine lv_if_ne (tgt := 12) hx hb dX1_requireState_1 (by decide) (fun c9 => absurd c9 (by decide)) (fun _ => ?_)
  have hw : Wd D A s.heap _ _ [] := hw
  exact xr_throw0 hf hst hlocks hno hK hAz hw hl.1 (by decide) (by decide) q736 q62 hat_requireState hatg_requireState dX1_requireState_4 dX1_requireState_7 dX1_requireState_8 dX1_requireState_11 (by decide) (Nat.le_of_ble_eq_true rfl) (Nat.le_of_ble_eq_true rfl) (Nat.le_of_ble_eq_true rfl) ⟨rfl, rfl⟩ (Nat.le_of_ble_eq_true rfl) (Nat.le_of_ble_eq_true rfl)

set_option maxHeartbeats 4000000 in
theorem k_X1_requireIndex (l : Launch) (D : va_G) (dT g : Nat → Nat) (z0 : Nat) (i : Int32) (n : Int32) : Con l D dT g z0 yX1_requireIndex (ws_ yX1_requireIndex cX1_requireIndex 2 none) ({ frames := 6, cells := 1, slots := 6, locals := 140 }) [.int i, .int n] [] (fun r LL => (¬ i < 0 ∧ i < n) ∧ r = none ∧ LL = []) (fun E LL => (E = "java/lang/IndexOutOfBoundsException" ∧ (i < 0 ∨ ¬ i < n)) ∧ LL = []) 1 6 := by
  refine Con.of (maxL := 2) (ret := none) (by first | exact plainFor_of_name (by decide) | decide +kernel) (Nat.le_of_ble_eq_true rfl) ?_
  intro p e s m args below meth c A ls hf hr hlocks hnm hno hK hA hAz hw hl hst
  have hf : CallFix p m c cX1_requireIndex 2 s args lw_all "SilkRow" := hf
  have hnm : meth.name = "requireIndex" := hnm
  have hx := hf.1
  have hb := hf.2.1
  have hts := hf.2.2.2.2
  have hl : lv_has ls 2 [(0, .int i), (1, .int n)] := hl
  have hw : Wd D A s.heap s.heap [] [] := hw
  refine lv_iload_n hx hb dX1_requireIndex_0 rfl (lv_at hl 0 rfl) ?_
  refine lv_if_lt (tgt := 9) hx hb dX1_requireIndex_1 (by decide) (fun c_1 => ?_) (fun c_1 => ?_)
  · have hw : Wd D A s.heap _ _ [] := hw
    exact xr_throw0 hf hst hlocks hno hK hAz hw hl.1 (by decide) (by decide) q848 q68 hat_requireIndex hatg_requireIndex dX1_requireIndex_9 dX1_requireIndex_12 dX1_requireIndex_13 dX1_requireIndex_16 (by decide) (Nat.le_of_ble_eq_true rfl) (Nat.le_of_ble_eq_true rfl) (Nat.le_of_ble_eq_true rfl) ⟨⟨rfl, Or.inl c_1⟩, rfl⟩ (Nat.le_of_ble_eq_true rfl) (Nat.le_of_ble_eq_true rfl)
  · refine lv_iload_n hx hb dX1_requireIndex_4 rfl (lv_at hl 0 rfl) ?_
    refine lv_iload_n hx hb dX1_requireIndex_5 rfl (lv_at hl 1 rfl) ?_
    refine lv_icmp_lt (tgt := 17) hx hb dX1_requireIndex_6 (by decide) (fun c_6 => ?_) (fun c_6 => ?_)
    · exact xr_vret hf hr hlocks hw (Nat.le_of_ble_eq_true rfl) (Nat.le_of_ble_eq_true rfl) ⟨⟨c_1, c_6⟩, rfl, rfl⟩ dX1_requireIndex_17
    · have hw : Wd D A s.heap _ _ [] := hw
      exact xr_throw0 hf hst hlocks hno hK hAz hw hl.1 (by decide) (by decide) q848 q68 hat_requireIndex hatg_requireIndex dX1_requireIndex_9 dX1_requireIndex_12 dX1_requireIndex_13 dX1_requireIndex_16 (by decide) (Nat.le_of_ble_eq_true rfl) (Nat.le_of_ble_eq_true rfl) (Nat.le_of_ble_eq_true rfl) ⟨⟨rfl, Or.inr c_6⟩, rfl⟩ (Nat.le_of_ble_eq_true rfl) (Nat.le_of_ble_eq_true rfl)

set_option maxHeartbeats 4000000 in
theorem k_X1_requireFrom (l : Launch) (D : va_G) (dT g : Nat → Nat) (z0 : Nat) (lo : Int32) (hi : Int32) (v : Int32) : Con l D dT g z0 yX1_requireFrom (ws_ yX1_requireFrom cX1_requireFrom 3 none) ({ frames := 7, cells := 1, slots := 6, locals := 160 }) [.int lo, .int hi, .int v] [] (fun r LL => (¬ v < lo ∧ ¬ hi < v) ∧ r = none ∧ LL = []) (fun E LL => (E = "java/lang/IllegalArgumentException" ∧ (v < lo ∨ hi < v)) ∧ LL = []) 1 6 := by
  refine Con.of (maxL := 3) (ret := none) (by first | exact plainFor_of_name (by decide) | decide +kernel) (Nat.le_of_ble_eq_true rfl) ?_
  intro p e s m args below meth c A ls hf hr hlocks hnm hno hK hA hAz hw hl hst
  have hf : CallFix p m c cX1_requireFrom 3 s args lw_all "SilkRow" := hf
  have hnm : meth.name = "requireFrom" := hnm
  have hx := hf.1
  have hb := hf.2.1
  have hts := hf.2.2.2.2
  have hl : lv_has ls 3 [(0, .int lo), (1, .int hi), (2, .int v)] := hl
  have hw : Wd D A s.heap s.heap [] [] := hw
  refine lv_iload_n hx hb dX1_requireFrom_0 rfl (lv_at hl 2 rfl) ?_
  refine lv_iload_n hx hb dX1_requireFrom_1 rfl (lv_at hl 0 rfl) ?_
  refine lv_icmp_lt (tgt := 14) hx hb dX1_requireFrom_2 (by decide) (fun c_2 => ?_) (fun c_2 => ?_)
  · refine lv_iconst (v := 0) hx hb dX1_requireFrom_14 (by decide) ?_
    refine xc_S (rest := []) (As := [.int 0]) hf hK hA hAz hst (hw.pick [] rfl rfl rfl) (k_X1_require_bad l D dT g z0) (va_cwS 1 hts (lw_S q665 q666 q44 q667) rfl rfl rfl (by decide +kernel) ⟨Nat.le_of_ble_eq_true rfl, Nat.le_of_ble_eq_true rfl⟩) rfl hl.1 rfl (Nat.le_of_ble_eq_true rfl) dX1_requireFrom_15 ⟨(Nat.le_of_ble_eq_true rfl), (Nat.le_of_ble_eq_true rfl)⟩ ?_ (fun v9 LL1 H locs hp hw => ?_)
    · intro E9 LL9 H locs q9 ce9 hp hw h91 h92 h93
      obtain ⟨hE, rfl⟩ := hp
      have hw := Wd.take (L2 := []) hw [] rfl rfl
      exact xr_out hno hlocks hw ⟨⟨hE, Or.inl c_2⟩, rfl⟩ h91 h92 h93 (Nat.le_of_ble_eq_true rfl) (Nat.le_of_ble_eq_true rfl)
    exact hp.elim
  · refine lv_iload_n hx hb dX1_requireFrom_5 rfl (lv_at hl 2 rfl) ?_
    refine lv_iload_n hx hb dX1_requireFrom_6 rfl (lv_at hl 1 rfl) ?_
    refine lv_icmp_gt (tgt := 14) hx hb dX1_requireFrom_7 (by decide) (fun c_7 => ?_) (fun c_7 => ?_)
    · refine lv_iconst (v := 0) hx hb dX1_requireFrom_14 (by decide) ?_
      refine xc_S (rest := []) (As := [.int 0]) hf hK hA hAz hst (hw.pick [] rfl rfl rfl) (k_X1_require_bad l D dT g z0) (va_cwS 1 hts (lw_S q665 q666 q44 q667) rfl rfl rfl (by decide +kernel) ⟨Nat.le_of_ble_eq_true rfl, Nat.le_of_ble_eq_true rfl⟩) rfl hl.1 rfl (Nat.le_of_ble_eq_true rfl) dX1_requireFrom_15 ⟨(Nat.le_of_ble_eq_true rfl), (Nat.le_of_ble_eq_true rfl)⟩ ?_ (fun v9 LL1 H locs hp hw => ?_)
      · intro E9 LL9 H locs q9 ce9 hp hw h91 h92 h93
        obtain ⟨hE, rfl⟩ := hp
        have hw := Wd.take (L2 := []) hw [] rfl rfl
        exact xr_out hno hlocks hw ⟨⟨hE, Or.inr c_7⟩, rfl⟩ h91 h92 h93 (Nat.le_of_ble_eq_true rfl) (Nat.le_of_ble_eq_true rfl)
      exact hp.elim
    · refine lv_iconst (v := 1) hx hb dX1_requireFrom_10 (by decide) ?_
      refine lv_goto (tgt := 15) hx hb dX1_requireFrom_11 (by decide) ?_
      refine xc_S (rest := []) (As := [.int 1]) hf hK hA hAz hst (hw.pick [] rfl rfl rfl) (k_X1_require_ok l D dT g z0) (va_cwS 1 hts (lw_S q665 q666 q44 q667) rfl rfl rfl (by decide +kernel) ⟨Nat.le_of_ble_eq_true rfl, Nat.le_of_ble_eq_true rfl⟩) rfl hl.1 rfl (Nat.le_of_ble_eq_true rfl) dX1_requireFrom_15 ⟨(Nat.le_of_ble_eq_true rfl), (Nat.le_of_ble_eq_true rfl)⟩ (fun _ _ _ _ _ _ h => h.elim) (fun v9 LL1 H locs hp hw => ?_)
      obtain ⟨rfl, rfl⟩ := hp
      have hw : Wd D A s.heap _ _ [] := hw
      refine W.eq (g2 := F0 m 18 ls []) rfl ?_
      exact xr_vret hf hr hlocks hw (Nat.le_of_ble_eq_true rfl) (Nat.le_of_ble_eq_true rfl) ⟨⟨c_2, c_7⟩, rfl, rfl⟩ dX1_requireFrom_18

set_option maxHeartbeats 4000000 in
theorem k_X1_at (l : Launch) (D : va_G) (dT g : Nat → Nat) (z0 : Nat) (a : Nat) (u : Int32) (st : Option (Nat × Nat)) (xs : List Nat) (i : Int32) (hok : alOK st xs) : Con l D dT g z0 yX1_at (ws_ yX1_at cX1_at 2 (some (.object "java/lang/Object"))) ({ frames := 7, cells := 1, slots := 6, locals := 161 }) [.ref a, .int i] [((ob a 15 [.int u, .ref (al_d g st), .int (nI xs.length)]) :: (al_t dT st xs))] (fun r LL => ∃ (k : Nat) (y : Nat), (k < xs.length ∧ i = nI k ∧ xs[k]? = some y) ∧ r = some (.ref y) ∧ LL = [((ob a 15 [.int u, .ref (al_d g st), .int (nI xs.length)]) :: (al_t dT st xs))]) (fun E LL => (E = "java/lang/IndexOutOfBoundsException" ∧ (i < 0 ∨ ¬ i < nI xs.length)) ∧ LL = [((ob a 15 [.int u, .ref (al_d g st), .int (nI xs.length)]) :: (al_t dT st xs))]) 1 6 := by
  refine Con.of (maxL := 2) (ret := (some (.object "java/lang/Object"))) (by first | exact plainFor_of_name (by decide) | decide +kernel) (Nat.le_of_ble_eq_true rfl) ?_
  intro p e s m args below meth c A ls hf hr hlocks hnm hno hK hA hAz hw hl hst
  have hf : CallFix p m c cX1_at 2 s args lw_all "SilkRow" := hf
  have hnm : meth.name = "at" := hnm
  have hx := hf.1
  have hb := hf.2.1
  have hts := hf.2.2.2.2
  have hl : lv_has ls 2 [(0, .ref a), (1, .int i)] := hl
  have hw : Wd D A s.heap s.heap [] [((ob a 15 [.int u, .ref (al_d g st), .int (nI xs.length)]) :: (al_t dT st xs))] := hw
  refine lv_iload_n hx hb dX1_at_0 rfl (lv_at hl 1 rfl) ?_
  refine lv_aload_n hx hb dX1_at_1 rfl (lv_at hl 0 rfl) ?_
  refine xc_F (ci := 15) (rest := [.int i]) (As := []) hf hK hA hAz hst (hw.pick [0] rfl rfl rfl) (k_J2_size l D dT g z0 a u (nI xs.length) (.ref (al_d g st)) (al_t dT st xs)) (va_cwF 0 hts (lw_Fc q839 q842 q359 q47 q361) rfl rfl rfl (hK.fw 1 rfl) (by decide +kernel) ⟨Nat.le_of_ble_eq_true rfl, Nat.le_of_ble_eq_true rfl⟩) rfl (xr_rv hK hw 0 0 rfl rfl) rfl hl.1 rfl (Nat.le_of_ble_eq_true rfl) dX1_at_2 ⟨(Nat.le_of_ble_eq_true rfl), (Nat.le_of_ble_eq_true rfl)⟩ (fun _ _ _ _ _ _ h => h.elim) (fun v9 LL1 H locs hp hw => ?_)
  obtain ⟨rfl, rfl⟩ := hp
  have hw : Wd D A s.heap _ _ [((ob a 15 [.int u, .ref (al_d g st), .int (nI xs.length)]) :: (al_t dT st xs))] := hw
  refine W.eq (g2 := F0 m 7 ls [.int (nI xs.length), .int i]) rfl ?_
  refine xc_S (rest := []) (As := [.int i, .int (nI xs.length)]) hf hK hA hAz hst (hw.pick [] rfl rfl rfl) (k_X1_requireIndex l D dT g z0 i (nI xs.length)) (va_cwS 2 hts (lw_S q845 q846 q44 q847) rfl rfl rfl (by decide +kernel) ⟨Nat.le_of_ble_eq_true rfl, Nat.le_of_ble_eq_true rfl⟩) rfl hl.1 rfl (Nat.le_of_ble_eq_true rfl) dX1_at_7 ⟨(Nat.le_of_ble_eq_true rfl), (Nat.le_of_ble_eq_true rfl)⟩ ?_ (fun v9 LL1 H locs hp hw => ?_)
  · intro E9 LL9 H locs q9 ce9 hp hw h91 h92 h93
    obtain ⟨hE, rfl⟩ := hp
    have hw := Wd.take (L2 := [((ob a 15 [.int u, .ref (al_d g st), .int (nI xs.length)]) :: (al_t dT st xs))]) hw [0] rfl rfl
    exact xr_out hno hlocks hw ⟨hE, rfl⟩ h91 h92 h93 (Nat.le_of_ble_eq_true rfl) (Nat.le_of_ble_eq_true rfl)
  obtain ⟨e_1, rfl, rfl⟩ := hp
  have hw : Wd D A s.heap _ _ [((ob a 15 [.int u, .ref (al_d g st), .int (nI xs.length)]) :: (al_t dT st xs))] := hw
  refine W.eq (g2 := F0 m 10 ls []) rfl ?_
  obtain ⟨k, hk, rfl⟩ := ix_of e_1 (Nat.lt_trans (al_short hok) (by decide))
  obtain ⟨d, cap, rfl, hc, hC⟩ := al_some hok hk
  have hl : lv_has ls 2 [(0, .ref a), (1, .int (nI k))] := hl
  have hw : Wd D A s.heap _ _ [[ob a 15 [.int u, .ref d, .int (nI xs.length)], (d, aR dT 1 cap (fun i => xs[i]?))]] := hw
  refine lv_aload_n hx hb dX1_at_10 rfl (lv_at hl 0 rfl) ?_
  refine lv_iload_n hx hb dX1_at_11 rfl (lv_at hl 1 rfl) ?_
  refine xc_F (ci := 15) (rest := []) (As := [.int (nI k)]) hf hK hA hAz hst (hw.pick [0] rfl rfl rfl) (k_J2_get l D dT g z0 a d cap u xs k (xs[k]) hc hC hk (List.getElem?_eq_getElem hk)) (va_cwF 1 hts (lw_Fc q864 q867 q394 q47 q396) rfl rfl rfl (hK.fw 2 rfl) (by decide +kernel) ⟨Nat.le_of_ble_eq_true rfl, Nat.le_of_ble_eq_true rfl⟩) rfl (xr_rv hK hw 0 0 rfl rfl) rfl hl.1 rfl (Nat.le_of_ble_eq_true rfl) dX1_at_12 ⟨(Nat.le_of_ble_eq_true rfl), (Nat.le_of_ble_eq_true rfl)⟩ (fun _ _ _ _ _ _ h => h.elim) (fun v9 LL1 H locs hp hw => ?_)
  obtain ⟨rfl, rfl⟩ := hp
  have hw : Wd D A s.heap _ _ [[ob a 15 [.int u, .ref d, .int (nI xs.length)], (d, aR dT 1 cap (fun i => xs[i]?))]] := hw
  refine W.eq (g2 := F0 m 17 ls [.ref (xs[k])]) rfl ?_
  exact xr_aret hf hr (by first | exact Or.inl ⟨_, rfl⟩ | exact Or.inr ⟨_, rfl⟩) (Or.inr ⟨_, rfl⟩) hlocks hw (Nat.le_of_ble_eq_true rfl) (Nat.le_of_ble_eq_true rfl) ⟨k, xs[k], ⟨hk, rfl, List.getElem?_eq_getElem hk⟩, rfl, rfl⟩ dX1_at_17

