/-! 17.jdk3 (printed by gen/jdk.py) -/
set_option maxRecDepth 100000
set_option maxHeartbeats 4000000 in
theorem k_J2_toArray (l : Launch) (D : va_G) (dT g : Nat → Nat) (z0 : Nat) (a : Nat) (d : Nat) (cap : Nat) (u : Int32) (xs : List Nat) (EE : List va_W) (hc : xs.length ≤ cap) (hC : cap < 4096) (hE : ∀ y ∈ xs, elOK dT EE y) : Con l D dT g z0 yJ2_toArray (ws_ yJ2_toArray cJ2_toArray 1 (some (.array (.object "java/lang/Object")))) ({ frames := 3, cells := 1, slots := xs.length, locals := 84 }) [.ref a] ([[ob a 15 [.int u, .ref d, .int (nI xs.length)], (d, aR dT 1 cap (fun i => xs[i]?))]] ++ EE) (fun r LL => ∃ (q : Nat), r = some (.ref q) ∧ LL = ([[(q, aR dT 1 xs.length (fun i => xs[i]?))], [ob a 15 [.int u, .ref d, .int (nI xs.length)], (d, aR dT 1 cap (fun i => xs[i]?))]] ++ EE)) noX 1 xs.length := by
  refine Con.of (maxL := 1) (ret := (some (.array (.object "java/lang/Object")))) (by first | exact plainFor_of_name (by decide) | decide +kernel) (Nat.le_of_ble_eq_true rfl) ?_
  intro p e s m args below meth c A ls hf hr hlocks hnm hno hK hA hAz hw hl hst
  have hf : CallFix p m c cJ2_toArray 1 s args lw_all "java/util/ArrayList" := hf
  have hnm : meth.name = "toArray" := hnm
  have hx := hf.1
  have hb := hf.2.1
  have hts := hf.2.2.2.2
  have hl : lv_has ls 1 [(0, .ref a)] := hl
  have hw : Wd D A s.heap s.heap [] ([[ob a 15 [.int u, .ref d, .int (nI xs.length)], (d, aR dT 1 cap (fun i => xs[i]?))]] ++ EE) := hw
  refine lv_aload_n hx hb dJ2_toArray_0 rfl (lv_at hl 0 rfl) ?_
  refine xr_get hf hK hw 0 0 rfl rfl in_J2 1 (by decide) q99 (fun _ h => h) rfl dJ2_toArray_1 ?_
  refine lv_aload_n hx hb dJ2_toArray_4 rfl (lv_at hl 0 rfl) ?_
  refine xr_get hf hK hw 0 0 rfl rfl in_J2 2 (by decide) q102 (fun _ h => h) rfl dJ2_toArray_5 ?_
  have hw : Wd D A s.heap _ _ ([[ob a 15 [.int u, .ref d, .int (nI xs.length)]], [(d, aR dT 1 cap (fun i => xs[i]?))]] ++ EE) := hw.eq rfl
  have hw : Wd D A s.heap _ _ ([[(d, aR dT 1 cap (fun i => xs[i]?))], [ob a 15 [.int u, .ref d, .int (nI xs.length)]]] ++ EE) := hw.pick [1, 0] rfl rfl rfl
  have hw : Wd D A s.heap _ _ ([[(d, aR dT 1 cap (fun i => xs[i]?))], [ob a 15 [.int u, .ref d, .int (nI xs.length)]]] ++ EE) := hw.eq rfl
  refine xc_S (rest := []) (As := [.ref d, .int (nI xs.length)]) hf hK hA hAz hst hw.app0 (k_J5_copyOf l D dT g z0 d cap xs.length xs ([[ob a 15 [.int u, .ref d, .int (nI xs.length)]]] ++ EE) hc (Nat.le_refl _) (by omega) (by omega) (fun y9 h9 => (hE y9 h9).pre)) (va_cwS 2 hts (lw_S q158 q159 q51 q160) rfl rfl rfl (by decide +kernel) ⟨Nat.le_of_ble_eq_true rfl, Nat.le_of_ble_eq_true rfl⟩) rfl hl.1 rfl (Nat.le_of_ble_eq_true rfl) dJ2_toArray_8 ⟨(Nat.le_of_ble_eq_true rfl), (by first | omega | (dsimp only; omega))⟩ (fun _ _ _ _ _ _ h => h.elim) (fun v9 LL1 H locs hp hw => ?_)
  obtain ⟨q_1, rfl, rfl⟩ := hp
  have hw := hw.unapp0
  have hw : Wd D A s.heap _ _ ([[(q_1, aR dT 1 xs.length (fun i => xs[i]?))], [(d, aR dT 1 cap (fun i => xs[i]?))], [ob a 15 [.int u, .ref d, .int (nI xs.length)]]] ++ EE) := hw
  refine W.eq (g2 := F0 m 11 ls [.ref q_1]) rfl ?_
  have hw : Wd D A s.heap _ _ ([[(q_1, aR dT 1 xs.length (fun i => xs[i]?))], [ob a 15 [.int u, .ref d, .int (nI xs.length)]], [(d, aR dT 1 cap (fun i => xs[i]?))]] ++ EE) := hw.pick [0, 1, 0] rfl rfl rfl
  have hw : Wd D A s.heap _ _ ([[(q_1, aR dT 1 xs.length (fun i => xs[i]?))], [ob a 15 [.int u, .ref d, .int (nI xs.length)], (d, aR dT 1 cap (fun i => xs[i]?))]] ++ EE) := hw.eq rfl
  exact xr_aret hf hr (by first | exact Or.inl ⟨_, rfl⟩ | exact Or.inr ⟨_, rfl⟩) (Or.inr ⟨_, rfl⟩) hlocks hw (Nat.le_of_ble_eq_true rfl) (by first | omega | (dsimp only; omega)) ⟨q_1, rfl, rfl⟩ dJ2_toArray_11

set_option maxHeartbeats 4000000 in
theorem k_J2_init_2 (l : Launch) (D : va_G) (dT g : Nat → Nat) (z0 : Nat) (h0 : Nat) (a : Nat) (d : Nat) (cap : Nat) (u : Int32) (xs : List Nat) (EE : List va_W) (hc : xs.length ≤ cap) (hC : cap < 4096) (hE : ∀ y ∈ xs, elOK dT EE y) (h0l : 0 < xs.length) : Con l D dT g z0 yJ2_init_2 (ws_ yJ2_init_2 cJ2_init_2 3 none) ({ frames := 4, cells := 1, slots := xs.length, locals := 104 }) [.ref h0, .ref a] ([[ob h0 15 [.int 0, .null, .int 0]], [ob a 15 [.int u, .ref d, .int (nI xs.length)], (d, aR dT 1 cap (fun i => xs[i]?))]] ++ EE) (fun r LL => ∃ (q : Nat), r = none ∧ LL = ([[ob h0 15 [.int 0, .ref q, .int (nI xs.length)], (q, aR dT 1 xs.length (fun i => xs[i]?))], [ob a 15 [.int u, .ref d, .int (nI xs.length)], (d, aR dT 1 cap (fun i => xs[i]?))]] ++ EE)) noX 1 xs.length := by
  refine Con.of (maxL := 3) (ret := none) (by first | exact plainFor_of_name (by decide) | decide +kernel) (Nat.le_of_ble_eq_true rfl) ?_
  intro p e s m args below meth c A ls hf hr hlocks hnm hno hK hA hAz hw hl hst
  have hf : CallFix p m c cJ2_init_2 3 s args lw_all "java/util/ArrayList" := hf
  have hnm : meth.name = "<init>" := hnm
  have hx := hf.1
  have hb := hf.2.1
  have hts := hf.2.2.2.2
  have hl : lv_has ls 3 [(0, .ref h0), (1, .ref a)] := hl
  have hw : Wd D A s.heap s.heap [] ([[ob h0 15 [.int 0, .null, .int 0]], [ob a 15 [.int u, .ref d, .int (nI xs.length)], (d, aR dT 1 cap (fun i => xs[i]?))]] ++ EE) := hw
  refine lv_aload_n hx hb dJ2_init_2_0 rfl (lv_at hl 0 rfl) ?_
  refine xc_I (rest := []) (As := []) hf hK hA hAz hst (hw.pick [0] rfl rfl rfl) (k_J1_init l D dT g z0 h0 0 (.null) (.int 0)) (cwI 0 hts (lw_meth q92) rfl rfl rfl (hts _ q46) (hts _ q90) (hts _ q91) rfl (by decide +kernel) ⟨Nat.le_of_ble_eq_true rfl, Nat.le_of_ble_eq_true rfl⟩) rfl hl.1 rfl (Nat.le_of_ble_eq_true rfl) dJ2_init_2_1 ⟨(Nat.le_of_ble_eq_true rfl), (by first | omega | (dsimp only; omega))⟩ (fun _ _ _ _ _ _ h => h.elim) (fun v9 LL1 H locs hp hw => ?_)
  obtain ⟨rfl, rfl⟩ := hp
  have hw : Wd D A s.heap _ _ ([[ob h0 15 [.int 0, .null, .int 0]], [ob a 15 [.int u, .ref d, .int (nI xs.length)], (d, aR dT 1 cap (fun i => xs[i]?))]] ++ EE) := hw
  refine W.eq (g2 := F0 m 4 ls []) rfl ?_
  refine lv_aload_n hx hb dJ2_init_2_4 rfl (lv_at hl 1 rfl) ?_
  have hw : Wd D A s.heap _ _ ([[ob h0 15 [.int 0, .null, .int 0]], [ob a 15 [.int u, .ref d, .int (nI xs.length)]], [(d, aR dT 1 cap (fun i => xs[i]?))]] ++ EE) := hw.eq rfl
  have hw : Wd D A s.heap _ _ ([[ob a 15 [.int u, .ref d, .int (nI xs.length)]], [(d, aR dT 1 cap (fun i => xs[i]?))], [ob h0 15 [.int 0, .null, .int 0]]] ++ EE) := hw.pick [1, 1, 0] rfl rfl rfl
  have hw : Wd D A s.heap _ _ ([[ob a 15 [.int u, .ref d, .int (nI xs.length)], (d, aR dT 1 cap (fun i => xs[i]?))], [ob h0 15 [.int 0, .null, .int 0]]] ++ EE) := hw.eq rfl
  refine xc_F (ci := 15) (rest := []) (As := []) hf hK hA hAz hst hw.app0 (k_J2_toArray l D dT g z0 a d cap u xs ([[ob h0 15 [.int 0, .null, .int 0]]] ++ EE) hc hC (fun y9 h9 => (hE y9 h9).pre)) (va_cwF 0 hts (lw_Fc q588 q592 q594 q47 q596) rfl rfl rfl (hK.fw 0 rfl) (by decide +kernel) ⟨Nat.le_of_ble_eq_true rfl, Nat.le_of_ble_eq_true rfl⟩) rfl (xr_rv hK hw 0 0 rfl rfl) rfl hl.1 rfl (Nat.le_of_ble_eq_true rfl) dJ2_init_2_5 ⟨(Nat.le_of_ble_eq_true rfl), (by first | omega | (dsimp only; omega))⟩ (fun _ _ _ _ _ _ h => h.elim) (fun v9 LL1 H locs hp hw => ?_)
  obtain ⟨q_1, rfl, rfl⟩ := hp
  have hw := hw.unapp0
  have hw : Wd D A s.heap _ _ ([[(q_1, aR dT 1 xs.length (fun i => xs[i]?))], [ob a 15 [.int u, .ref d, .int (nI xs.length)], (d, aR dT 1 cap (fun i => xs[i]?))], [ob h0 15 [.int 0, .null, .int 0]]] ++ EE) := hw
  refine W.eq (g2 := F0 m 10 ls [.ref q_1]) rfl ?_
  refine lv_astore_n (lv' := [(2, .ref q_1), (0, .ref h0), (1, .ref a)]) hx hb dJ2_init_2_10 rfl hl (by decide) rfl (fun ls hl => ?_)
  refine lv_aload_n hx hb dJ2_init_2_11 rfl (lv_at hl 1 rfl) ?_
  refine lv_aload_n hx hb dJ2_init_2_12 rfl (lv_at hl 0 rfl) ?_
  refine xr_rlen (v := nI xs.length) hf hK hw 0 0 rfl rfl rfl dJ2_init_2_13 ?_
  refine lv_dup_x1 hx hb dJ2_init_2_14 rfl rfl ?_
  refine xr_put (LL' := ([[(q_1, aR dT 1 xs.length (fun i => xs[i]?))], [ob a 15 [.int u, .ref d, .int (nI xs.length)], (d, aR dT 1 cap (fun i => xs[i]?))], [ob h0 15 [.int 0, .null, .int (nI xs.length)]]] ++ EE)) hf hK hw 2 0 rfl rfl in_J2 tyJ2_ok nmJ2 2 (by decide) q102 (fun _ h => h) rfl rfl rfl (Nat.le_of_ble_eq_true rfl) rfl dJ2_init_2_15 (fun H locs hw => ?_)
  refine lv_if_eq (tgt := 57) hx hb dJ2_init_2_18 (by decide) (fun c9 => absurd c9 (nI_ne0 h0l (by omega))) (fun _ => ?_)
  refine lv_aload_n hx hb dJ2_init_2_21 rfl (lv_at hl 2 rfl) ?_
  refine xr_getCI hf hl.1 hK hw 1 0 rfl rfl hK.2.2.2.2.2.2.2.2.2.2.1 hK.2.2.2.2.2.2.2.2.1 q598 q183 q162 q185 (Nat.le_of_ble_eq_true rfl) (Nat.le_of_ble_eq_true rfl) dJ2_init_2_22 ?_
  refine xr_ldcM hf hK.2.2.2.2.2.2.2.2.1 q603 dJ2_init_2_27 ?_
  refine lv_acmp_ne (rx := (some (g 3))) (ry := (some (g 3))) (tgt := 40) hx hb dJ2_init_2_29 (by decide) (fun c9 => absurd c9 (not_not_intro rfl)) (fun _ => ?_)
  refine lv_aload_n hx hb dJ2_init_2_32 rfl (lv_at hl 1 rfl) ?_
  refine lv_aload_n hx hb dJ2_init_2_33 rfl (lv_at hl 0 rfl) ?_
  refine xr_put (LL' := ([[(q_1, aR dT 1 xs.length (fun i => xs[i]?))], [ob a 15 [.int u, .ref d, .int (nI xs.length)], (d, aR dT 1 cap (fun i => xs[i]?))], [ob h0 15 [.int 0, .ref q_1, .int (nI xs.length)]]] ++ EE)) hf hK hw 2 0 rfl rfl in_J2 tyJ2_ok nmJ2 1 (by decide) q99 (fun _ h => h) rfl rfl rfl (Nat.le_of_ble_eq_true rfl) rfl dJ2_init_2_34 (fun H locs hw => ?_)
  refine lv_goto (tgt := 64) hx hb dJ2_init_2_37 (by decide) ?_
  have hw : Wd D A s.heap _ _ ([[(q_1, aR dT 1 xs.length (fun i => xs[i]?))], [ob a 15 [.int u, .ref d, .int (nI xs.length)]], [(d, aR dT 1 cap (fun i => xs[i]?))], [ob h0 15 [.int 0, .ref q_1, .int (nI xs.length)]]] ++ EE) := hw.eq rfl
  have hw : Wd D A s.heap _ _ ([[ob h0 15 [.int 0, .ref q_1, .int (nI xs.length)]], [(q_1, aR dT 1 xs.length (fun i => xs[i]?))], [ob a 15 [.int u, .ref d, .int (nI xs.length)]], [(d, aR dT 1 cap (fun i => xs[i]?))]] ++ EE) := hw.pick [3, 0, 0, 0] rfl rfl rfl
  have hw : Wd D A s.heap _ _ ([[ob h0 15 [.int 0, .ref q_1, .int (nI xs.length)], (q_1, aR dT 1 xs.length (fun i => xs[i]?))], [ob a 15 [.int u, .ref d, .int (nI xs.length)], (d, aR dT 1 cap (fun i => xs[i]?))]] ++ EE) := hw.eq rfl
  exact xr_vret hf hr hlocks hw (Nat.le_of_ble_eq_true rfl) (by first | omega | (dsimp only; omega)) ⟨q_1, rfl, rfl⟩ dJ2_init_2_64

set_option maxHeartbeats 4000000 in
theorem k_J2_fastRemove (l : Launch) (D : va_G) (dT g : Nat → Nat) (z0 : Nat) (a : Nat) (d : Nat) (cap : Nat) (u : Int32) (xs : List Nat) (k : Nat) (EE : List va_W) (hc : xs.length ≤ cap) (hC : cap < 4096) (hk : k < xs.length) (hE : ∀ y ∈ xs, elOK dT EE y) : Con l D dT g z0 yJ2_fastRemove (ws_ yJ2_fastRemove cJ2_fastRemove 4 none) ({ frames := 1, cells := 0, slots := 0, locals := 40 }) [.ref a, .ref d, .int (nI k)] ([[ob a 15 [.int u, .ref d, .int (nI xs.length)], (d, aR dT 1 cap (fun i => xs[i]?))]] ++ EE) (fun r LL => r = none ∧ LL = ([[ob a 15 [.int (u + 1), .ref d, .int (nI (xs.length - 1))], (d, aR dT 1 cap (fun i => (xs.eraseIdx k)[i]?))]] ++ EE)) noX 0 0 := by
  refine Con.of (maxL := 4) (ret := none) (by first | exact plainFor_of_name (by decide) | decide +kernel) (Nat.le_of_ble_eq_true rfl) ?_
  intro p e s m args below meth c A ls hf hr hlocks hnm hno hK hA hAz hw hl hst
  have hf : CallFix p m c cJ2_fastRemove 4 s args lw_all "java/util/ArrayList" := hf
  have hnm : meth.name = "fastRemove" := hnm
  have hx := hf.1
  have hb := hf.2.1
  have hts := hf.2.2.2.2
  have hl : lv_has ls 4 [(0, .ref a), (1, .ref d), (2, .int (nI k))] := hl
  have hw : Wd D A s.heap s.heap [] ([[ob a 15 [.int u, .ref d, .int (nI xs.length)], (d, aR dT 1 cap (fun i => xs[i]?))]] ++ EE) := hw
  refine lv_aload_n hx hb dJ2_fastRemove_0 rfl (lv_at hl 0 rfl) ?_
  refine lv_dup hx hb dJ2_fastRemove_1 rfl ?_
  refine xr_get hf hK hw 0 0 rfl rfl in_J2 0 (by decide) q106 (u_same (hts _ q105)) rfl dJ2_fastRemove_2 ?_
  refine lv_iconst (v := 1) hx hb dJ2_fastRemove_5 (by decide) ?_
  refine lv_iadd hx hb dJ2_fastRemove_6 ?_
  refine xr_put (LL' := ([[ob a 15 [.int (u + 1), .ref d, .int (nI xs.length)], (d, aR dT 1 cap (fun i => xs[i]?))]] ++ EE)) hf hK hw 0 0 rfl rfl in_J2 tyJ2_ok nmJ2 0 (by decide) q106 (u_same (hts _ q105)) rfl rfl rfl (Nat.le_of_ble_eq_true rfl) rfl dJ2_fastRemove_7 (fun H locs hw => ?_)
  refine lv_aload_n hx hb dJ2_fastRemove_10 rfl (lv_at hl 0 rfl) ?_
  refine xr_get hf hK hw 0 0 rfl rfl in_J2 2 (by decide) q102 (fun _ h => h) rfl dJ2_fastRemove_11 ?_
  refine lv_iconst (v := 1) hx hb dJ2_fastRemove_14 (by decide) ?_
  refine lv_isub hx hb dJ2_fastRemove_15 ?_
  refine lv_as (y := nI (xs.length - 1)) (nI_sub1 (by omega)) ?_
  refine lv_dup hx hb dJ2_fastRemove_16 rfl ?_
  refine lv_istore_n (lv' := [(3, .int (nI (xs.length - 1))), (0, .ref a), (1, .ref d), (2, .int (nI k))]) hx hb dJ2_fastRemove_17 rfl hl (by decide) rfl (fun ls hl => ?_)
  refine lv_iload_n hx hb dJ2_fastRemove_18 rfl (lv_at hl 3 rfl) ?_
  refine lv_icmp_le (tgt := 34) hx hb dJ2_fastRemove_19 (by decide) (fun c_19 => ?_) (fun c_19 => ?_)
  · refine lv_aload_n hx hb dJ2_fastRemove_34 rfl (lv_at hl 2 rfl) ?_
    refine lv_aload_n hx hb dJ2_fastRemove_35 rfl (lv_at hl 1 rfl) ?_
    refine lv_iload_n hx hb dJ2_fastRemove_36 rfl (lv_at hl 0 rfl) ?_
    refine lv_dup_x1 hx hb dJ2_fastRemove_37 rfl rfl ?_
    refine xr_put (LL' := ([[ob a 15 [.int (u + 1), .ref d, .int (nI (xs.length - 1))], (d, aR dT 1 cap (fun i => xs[i]?))]] ++ EE)) hf hK hw 0 0 rfl rfl in_J2 tyJ2_ok nmJ2 2 (by decide) q102 (fun _ h => h) rfl rfl rfl (Nat.le_of_ble_eq_true rfl) rfl dJ2_fastRemove_38 (fun H locs hw => ?_)
    refine lv_null hx hb dJ2_fastRemove_41 ?_
    refine xr_aastN (LL' := ([[ob a 15 [.int (u + 1), .ref d, .int (nI (xs.length - 1))], (d, aR dT 1 cap (fun i => (xs.eraseIdx k)[i]?))]] ++ EE)) hf hK hw 0 1 rfl rfl (xs.length - 1) (nI_pos (by omega)) (nI_clamp (by omega)) (by omega) (by rw [er1 (k := k) (by have := (nI_leI (by omega) (by omega)).mp c_19; omega)]; rfl) dJ2_fastRemove_42 (fun H locs hw => ?_)
    exact xr_vret hf hr hlocks hw (Nat.le_of_ble_eq_true rfl) (Nat.le_of_ble_eq_true rfl) ⟨rfl, rfl⟩ dJ2_fastRemove_43
  · refine lv_aload_n hx hb dJ2_fastRemove_22 rfl (lv_at hl 2 rfl) ?_
    refine lv_iload_n hx hb dJ2_fastRemove_23 rfl (lv_at hl 3 rfl) ?_
    refine lv_iconst (v := 1) hx hb dJ2_fastRemove_24 (by decide) ?_
    refine lv_iadd hx hb dJ2_fastRemove_25 ?_
    refine lv_as (y := (nI (k + 1))) (nI_1 _) ?_
    refine lv_aload_n hx hb dJ2_fastRemove_26 rfl (lv_at hl 2 rfl) ?_
    refine lv_iload_n hx hb dJ2_fastRemove_27 rfl (lv_at hl 3 rfl) ?_
    refine lv_iload_n hx hb dJ2_fastRemove_28 rfl (lv_at hl 0 rfl) ?_
    refine lv_iload_n hx hb dJ2_fastRemove_29 rfl (lv_at hl 3 rfl) ?_
    refine lv_isub hx hb dJ2_fastRemove_30 ?_
    refine lv_as (y := nI (xs.length - 1 - k)) (pk_sub (by omega)) ?_
    refine xr_copyR (LL' := ([[ob a 15 [.int (u + 1), .ref d, .int (nI xs.length)], (d, aR dT 1 cap (va_cpy (fun i => xs[i]?) (fun i => xs[i]?) (k + 1) k (xs.length - 1 - k)))]] ++ EE)) hf hl.1 hK hw 0 1 0 1 rfl rfl (k + 1) k (xs.length - 1 - k) (nI_pos (by omega)) (nI_pos (by omega)) (nI_pos (by omega)) (nI_clamp (by omega)) (nI_clamp (by omega)) (nI_clamp (by omega)) (by omega) (by omega) ?_ q645 q197 q196 q52 (Nat.le_of_ble_eq_true rfl) (Nat.le_of_ble_eq_true rfl) rfl rfl dJ2_fastRemove_31 (fun H locs hw => ?_)
    · intro i9 hi9 y9 hy9
      exact elOK.any (L1 := [[ob a 15 [.int (u + 1), .ref d, .int (nI xs.length)], (d, aR dT 1 cap (fun i => xs[i]?))]]) (L2 := []) hK hw.app0 (hE y9 (List.mem_of_getElem? hy9))
    have hw : Wd D A s.heap _ _ ([[ob a 15 [.int (u + 1), .ref d, .int (nI xs.length)], (d, aR dT 1 cap (va_cpy (fun i => xs[i]?) (fun i => xs[i]?) (k + 1) k (xs.length - 1 - k)))]] ++ EE) := hw
    refine lv_aload_n hx hb dJ2_fastRemove_34 rfl (lv_at hl 2 rfl) ?_
    refine lv_aload_n hx hb dJ2_fastRemove_35 rfl (lv_at hl 1 rfl) ?_
    refine lv_iload_n hx hb dJ2_fastRemove_36 rfl (lv_at hl 0 rfl) ?_
    refine lv_dup_x1 hx hb dJ2_fastRemove_37 rfl rfl ?_
    refine xr_put (LL' := ([[ob a 15 [.int (u + 1), .ref d, .int (nI (xs.length - 1))], (d, aR dT 1 cap (va_cpy (fun i => xs[i]?) (fun i => xs[i]?) (k + 1) k (xs.length - 1 - k)))]] ++ EE)) hf hK hw 0 0 rfl rfl in_J2 tyJ2_ok nmJ2 2 (by decide) q102 (fun _ h => h) rfl rfl rfl (Nat.le_of_ble_eq_true rfl) rfl dJ2_fastRemove_38 (fun H locs hw => ?_)
    refine lv_null hx hb dJ2_fastRemove_41 ?_
    refine xr_aastN (LL' := ([[ob a 15 [.int (u + 1), .ref d, .int (nI (xs.length - 1))], (d, aR dT 1 cap (fun i => (xs.eraseIdx k)[i]?))]] ++ EE)) hf hK hw 0 1 rfl rfl (xs.length - 1) (nI_pos (by omega)) (nI_clamp (by omega)) (by omega) (by rw [er2 hk]; rfl) dJ2_fastRemove_42 (fun H locs hw => ?_)
    exact xr_vret hf hr hlocks hw (Nat.le_of_ble_eq_true rfl) (Nat.le_of_ble_eq_true rfl) ⟨rfl, rfl⟩ dJ2_fastRemove_43

set_option maxHeartbeats 4000000 in
theorem k_J2_remove_2 (l : Launch) (D : va_G) (dT g : Nat → Nat) (z0 : Nat) (a : Nat) (d : Nat) (cap : Nat) (u : Int32) (xs : List Nat) (k : Nat) (x : Nat) (EE : List va_W) (hc : xs.length ≤ cap) (hC : cap < 4096) (hk : k < xs.length) (hE : ∀ y ∈ xs, elOK dT EE y) (hxk : xs[k]? = some x) : Con l D dT g z0 yJ2_remove_2 (ws_ yJ2_remove_2 cJ2_remove_2 4 (some (.object "java/lang/Object"))) ({ frames := 3, cells := 0, slots := 0, locals := 83 }) [.ref a, .int (nI k)] ([[ob a 15 [.int u, .ref d, .int (nI xs.length)], (d, aR dT 1 cap (fun i => xs[i]?))]] ++ EE) (fun r LL => r = some (.ref x) ∧ LL = ([[ob a 15 [.int (u + 1), .ref d, .int (nI (xs.length - 1))], (d, aR dT 1 cap (fun i => (xs.eraseIdx k)[i]?))]] ++ EE)) noX 0 0 := by
  refine Con.of (maxL := 4) (ret := (some (.object "java/lang/Object"))) (by first | exact plainFor_of_name (by decide) | decide +kernel) (Nat.le_of_ble_eq_true rfl) ?_
  intro p e s m args below meth c A ls hf hr hlocks hnm hno hK hA hAz hw hl hst
  have hf : CallFix p m c cJ2_remove_2 4 s args lw_all "java/util/ArrayList" := hf
  have hnm : meth.name = "remove" := hnm
  have hx := hf.1
  have hb := hf.2.1
  have hts := hf.2.2.2.2
  have hl : lv_has ls 4 [(0, .ref a), (1, .int (nI k))] := hl
  have hw : Wd D A s.heap s.heap [] ([[ob a 15 [.int u, .ref d, .int (nI xs.length)], (d, aR dT 1 cap (fun i => xs[i]?))]] ++ EE) := hw
  refine lv_iload_n hx hb dJ2_remove_2_0 rfl (lv_at hl 1 rfl) ?_
  refine lv_aload_n hx hb dJ2_remove_2_1 rfl (lv_at hl 0 rfl) ?_
  refine xr_get hf hK hw 0 0 rfl rfl in_J2 2 (by decide) q102 (fun _ h => h) rfl dJ2_remove_2_2 ?_
  refine xc_S (rest := []) (As := [.int (nI k), .int (nI xs.length)]) hf hK hA hAz hst (hw.pick [] rfl rfl rfl) (k_J12_checkIndex l D dT g z0 k xs.length hk (by omega)) (va_cwS 2 hts (lw_S q397 q398 q66 q399) rfl rfl rfl (by decide +kernel) ⟨Nat.le_of_ble_eq_true rfl, Nat.le_of_ble_eq_true rfl⟩) rfl hl.1 rfl (Nat.le_of_ble_eq_true rfl) dJ2_remove_2_5 ⟨(Nat.le_of_ble_eq_true rfl), (Nat.le_of_ble_eq_true rfl)⟩ (fun _ _ _ _ _ _ h => h.elim) (fun v9 LL1 H locs hp hw => ?_)
  obtain ⟨rfl, rfl⟩ := hp
  have hw : Wd D A s.heap _ _ ([[ob a 15 [.int u, .ref d, .int (nI xs.length)], (d, aR dT 1 cap (fun i => xs[i]?))]] ++ EE) := hw
  refine W.eq (g2 := F0 m 8 ls [.int (nI k)]) rfl ?_
  refine lv_pop hx hb dJ2_remove_2_8 rfl ?_
  refine lv_aload_n hx hb dJ2_remove_2_9 rfl (lv_at hl 0 rfl) ?_
  refine xr_get hf hK hw 0 0 rfl rfl in_J2 1 (by decide) q99 (fun _ h => h) rfl dJ2_remove_2_10 ?_
  refine lv_astore_n (lv' := [(2, .ref d), (0, .ref a), (1, .int (nI k))]) hx hb dJ2_remove_2_13 rfl hl (by decide) rfl (fun ls hl => ?_)
  refine lv_aload_n hx hb dJ2_remove_2_14 rfl (lv_at hl 0 rfl) ?_
  refine lv_iload_n hx hb dJ2_remove_2_15 rfl (lv_at hl 2 rfl) ?_
  refine xr_aald (r := (some x)) hf hK hw 0 1 rfl rfl k (nI_pos (by omega)) (nI_clamp (by omega)) (by omega) hxk dJ2_remove_2_16 ?_
  refine lv_astore_n (lv' := [(3, .ref x), (2, .ref d), (0, .ref a), (1, .int (nI k))]) hx hb dJ2_remove_2_17 rfl hl (by decide) rfl (fun ls hl => ?_)
  refine lv_aload_n hx hb dJ2_remove_2_18 rfl (lv_at hl 2 rfl) ?_
  refine lv_aload_n hx hb dJ2_remove_2_19 rfl (lv_at hl 1 rfl) ?_
  refine lv_iload_n hx hb dJ2_remove_2_20 rfl (lv_at hl 3 rfl) ?_
  refine xc_V (rest := []) (As := [.ref d, .int (nI k)]) hf hK hA hAz hst hw.app0 (k_J2_fastRemove l D dT g z0 a d cap u xs k EE hc hC hk hE) (cwV 2 hts (lw_V q641 q643 qs8 q47 q644) rfl rfl rfl (by decide +kernel) ⟨Nat.le_of_ble_eq_true rfl, Nat.le_of_ble_eq_true rfl⟩) (xr_rv hK hw 0 0 rfl rfl) rfl hl.1 rfl (Nat.le_of_ble_eq_true rfl) dJ2_remove_2_21 ⟨(Nat.le_of_ble_eq_true rfl), (Nat.le_of_ble_eq_true rfl)⟩ (fun _ _ _ _ _ _ h => h.elim) (fun v9 LL1 H locs hp hw => ?_)
  obtain ⟨rfl, rfl⟩ := hp
  have hw := hw.unapp0
  have hw : Wd D A s.heap _ _ ([[ob a 15 [.int (u + 1), .ref d, .int (nI (xs.length - 1))], (d, aR dT 1 cap (fun i => (xs.eraseIdx k)[i]?))]] ++ EE) := hw
  refine W.eq (g2 := F0 m 24 ls []) rfl ?_
  refine lv_aload_n hx hb dJ2_remove_2_24 rfl (lv_at hl 0 rfl) ?_
  exact xr_aret hf hr (by first | exact Or.inl ⟨_, rfl⟩ | exact Or.inr ⟨_, rfl⟩) (Or.inr ⟨_, rfl⟩) hlocks hw (Nat.le_of_ble_eq_true rfl) (Nat.le_of_ble_eq_true rfl) ⟨rfl, rfl⟩ dJ2_remove_2_25

set_option maxHeartbeats 4000000 in
theorem k_J17_equals_same (l : Launch) (D : va_G) (dT g : Nat → Nat) (z0 : Nat) (a : Nat) (y : Nat) (hay : a = y) : Con l D dT g z0 yJ17_equals (ws_ yJ17_equals cJ17_equals 2 (some .boolean)) ({ frames := 1, cells := 0, slots := 0, locals := 40 }) [.ref a, .ref y] [] (fun r LL => r = some (.int 1) ∧ LL = []) noX 0 0 := by
  refine Con.of (maxL := 2) (ret := (some .boolean)) (by first | exact plainFor_of_name (by decide) | decide +kernel) (Nat.le_of_ble_eq_true rfl) ?_
  intro p e s m args below meth c A ls hf hr hlocks hnm hno hK hA hAz hw hl hst
  have hf : CallFix p m c cJ17_equals 2 s args lw_all "java/lang/Object" := hf
  have hnm : meth.name = "equals" := hnm
  have hx := hf.1
  have hb := hf.2.1
  have hts := hf.2.2.2.2
  have hl : lv_has ls 2 [(0, .ref a), (1, .ref y)] := hl
  have hw : Wd D A s.heap s.heap [] [] := hw
  refine lv_aload_n hx hb dJ17_equals_0 rfl (lv_at hl 0 rfl) ?_
  refine lv_aload_n hx hb dJ17_equals_1 rfl (lv_at hl 1 rfl) ?_
  refine lv_acmp_ne (rx := (some a)) (ry := (some y)) (tgt := 9) hx hb dJ17_equals_2 (by decide) (fun c9 => absurd c9 (not_not_intro (by rw [hay]))) (fun _ => ?_)
  refine lv_iconst (v := 1) hx hb dJ17_equals_5 (by decide) ?_
  refine lv_goto (tgt := 10) hx hb dJ17_equals_6 (by decide) ?_
  exact xr_zret hf hr hlocks hw (Nat.le_of_ble_eq_true rfl) (Nat.le_of_ble_eq_true rfl) rfl ⟨rfl, rfl⟩ dJ17_equals_10

set_option maxHeartbeats 4000000 in
theorem k_J17_equals_other (l : Launch) (D : va_G) (dT g : Nat → Nat) (z0 : Nat) (a : Nat) (y : Nat) (hay : ¬ a = y) : Con l D dT g z0 yJ17_equals (ws_ yJ17_equals cJ17_equals 2 (some .boolean)) ({ frames := 1, cells := 0, slots := 0, locals := 40 }) [.ref a, .ref y] [] (fun r LL => r = some (.int 0) ∧ LL = []) noX 0 0 := by
  refine Con.of (maxL := 2) (ret := (some .boolean)) (by first | exact plainFor_of_name (by decide) | decide +kernel) (Nat.le_of_ble_eq_true rfl) ?_
  intro p e s m args below meth c A ls hf hr hlocks hnm hno hK hA hAz hw hl hst
  have hf : CallFix p m c cJ17_equals 2 s args lw_all "java/lang/Object" := hf
  have hnm : meth.name = "equals" := hnm
  have hx := hf.1
  have hb := hf.2.1
  have hts := hf.2.2.2.2
  have hl : lv_has ls 2 [(0, .ref a), (1, .ref y)] := hl
  have hw : Wd D A s.heap s.heap [] [] := hw
  refine lv_aload_n hx hb dJ17_equals_0 rfl (lv_at hl 0 rfl) ?_
  refine lv_aload_n hx hb dJ17_equals_1 rfl (lv_at hl 1 rfl) ?_
  refine lv_acmp_ne (rx := (some a)) (ry := (some y)) (tgt := 9) hx hb dJ17_equals_2 (by decide) (fun _ => ?_) (fun c9 => absurd c9 (fun z => hay (Option.some.inj z)))
  refine lv_iconst (v := 0) hx hb dJ17_equals_9 (by decide) ?_
  exact xr_zret hf hr hlocks hw (Nat.le_of_ble_eq_true rfl) (Nat.le_of_ble_eq_true rfl) rfl ⟨rfl, rfl⟩ dJ17_equals_10

set_option maxHeartbeats 4000000 in
theorem k_J2_remove (l : Launch) (D : va_G) (dT g : Nat → Nat) (z0 : Nat) (a : Nat) (d : Nat) (cap : Nat) (u : Int32) (xs : List Nat) (K : Nat) (x : Nat) (w0 : Value) (w1 : Value) (w2 : Value) (EE : List va_W) (hc : xs.length ≤ cap) (hC : cap < 4096) (hK9 : K < xs.length) (hE : ∀ y ∈ xs, elOK dT ([[ob x 12 [w0, w1, w2]]] ++ EE) y) (hxk : xs[K]? = some x) (hne : ∀ j, j < K → xs[j]? ≠ some x) : Con l D dT g z0 yJ2_remove (ws_ yJ2_remove cJ2_remove 5 (some .boolean)) ({ frames := 2, cells := 0, slots := 0, locals := 63 }) [.ref a, .ref x] ([[ob a 15 [.int u, .ref d, .int (nI xs.length)], (d, aR dT 1 cap (fun i => xs[i]?))], [ob x 12 [w0, w1, w2]]] ++ EE) (fun r LL => r = some (.int 1) ∧ LL = ([[ob a 15 [.int (u + 1), .ref d, .int (nI (xs.length - 1))], (d, aR dT 1 cap (fun i => (xs.eraseIdx K)[i]?))], [ob x 12 [w0, w1, w2]]] ++ EE)) noX 0 0 := by
  refine Con.of (maxL := 5) (ret := (some .boolean)) (by first | exact plainFor_of_name (by decide) | decide +kernel) (Nat.le_of_ble_eq_true rfl) ?_
  intro p e s m args below meth c A ls hf hr hlocks hnm hno hK hA hAz hw hl hst
  have hf : CallFix p m c cJ2_remove 5 s args lw_all "java/util/ArrayList" := hf
  have hnm : meth.name = "remove" := hnm
  have hx := hf.1
  have hb := hf.2.1
  have hts := hf.2.2.2.2
  have hl : lv_has ls 5 [(0, .ref a), (1, .ref x)] := hl
  have hw : Wd D A s.heap s.heap [] ([[ob a 15 [.int u, .ref d, .int (nI xs.length)], (d, aR dT 1 cap (fun i => xs[i]?))], [ob x 12 [w0, w1, w2]]] ++ EE) := hw
  refine lv_aload_n hx hb dJ2_remove_0 rfl (lv_at hl 0 rfl) ?_
  refine xr_get hf hK hw 0 0 rfl rfl in_J2 1 (by decide) q99 (fun _ h => h) rfl dJ2_remove_1 ?_
  refine lv_astore_n (lv' := [(2, .ref d), (0, .ref a), (1, .ref x)]) hx hb dJ2_remove_4 rfl hl (by decide) rfl (fun ls hl => ?_)
  refine lv_aload_n hx hb dJ2_remove_5 rfl (lv_at hl 1 rfl) ?_
  refine xr_get hf hK hw 0 0 rfl rfl in_J2 2 (by decide) q102 (fun _ h => h) rfl dJ2_remove_6 ?_
  refine lv_istore_n (lv' := [(3, .int (nI xs.length)), (2, .ref d), (0, .ref a), (1, .ref x)]) hx hb dJ2_remove_9 rfl hl (by decide) rfl (fun ls hl => ?_)
  refine lv_iconst (v := 0) hx hb dJ2_remove_10 (by decide) ?_
  refine lv_istore (lv' := [(4, .int 0), (3, .int (nI xs.length)), (2, .ref d), (0, .ref a), (1, .ref x)]) hx hb dJ2_remove_11 hl (by decide) rfl (fun ls hl => ?_)
  refine lv_aload_n hx hb dJ2_remove_13 rfl (lv_at hl 4 rfl) ?_
  refine lv_ifnonnull (tgt := 39) hx hb dJ2_remove_14 (by decide) ?_
  obtain ⟨k, hk0⟩ : ∃ z : Nat, z = 0 := ⟨0, rfl⟩
  replace hl : lv_has ls 5 [(4, .int (nI k)), (3, .int (nI xs.length)), (2, .ref d), (0, .ref a), (1, .ref x)] := by rw [hk0]; exact hl
  have hkK : k ≤ K := by omega
  obtain ⟨n, hn⟩ : ∃ n : Nat, k + n = K := ⟨K - k, by omega⟩
  clear hk0
  refine W.fresh (P := fun H locs => Wd D A s.heap H locs ([[ob a 15 [.int u, .ref d, .int (nI xs.length)], (d, aR dT 1 cap (fun i => xs[i]?))], [ob x 12 [w0, w1, w2]]] ++ EE)) hw (fun H locs hw => ?_)
  induction n generalizing k ls H locs with
  | zero =>
    have ek : k = K := by omega
    refine lv_iload hx hb dJ2_remove_39 (lv_at hl 0 rfl) ?_
    refine lv_iload_n hx hb dJ2_remove_41 rfl (lv_at hl 1 rfl) ?_
    refine lv_icmp_ge (tgt := 65) hx hb dJ2_remove_42 (by decide) (fun c9 => absurd c9 (nI_ge (by omega) (by omega))) (fun _ => ?_)
    refine lv_aload_n hx hb dJ2_remove_45 rfl (lv_at hl 4 rfl) ?_
    refine lv_aload_n hx hb dJ2_remove_46 rfl (lv_at hl 2 rfl) ?_
    refine lv_iload hx hb dJ2_remove_47 (lv_at hl 0 rfl) ?_
    refine xr_aald (r := (some xs[k])) hf hK hw 0 1 rfl rfl k (nI_pos (by omega)) (nI_clamp (by omega)) (by omega) (List.getElem?_eq_getElem (by omega)) dJ2_remove_49 ?_
    refine xc_U (rest := []) (As := [.ref xs[k]]) hf hK hA hAz hst (hw.pick [] rfl rfl rfl) (k_J17_equals_same l D dT g z0 x xs[k] (by subst ek; exact (Option.some.inj ((List.getElem?_eq_getElem (by omega)).symm.trans hxk)).symm)) (va_cwU 1 hts (lw_Uc q618 q620 q622 q619 q1671 q640) rfl rfl rfl rfl (by decide +kernel) ⟨Nat.le_of_ble_eq_true rfl, Nat.le_of_ble_eq_true rfl⟩) (xr_rv hK hw 1 0 rfl rfl) rfl hl.1 rfl (Nat.le_of_ble_eq_true rfl) dJ2_remove_50 ⟨(Nat.le_of_ble_eq_true rfl), (Nat.le_of_ble_eq_true rfl)⟩ (fun _ _ _ _ _ _ h => h.elim) (fun v9 LL1 H locs hp hw => ?_)
    obtain ⟨rfl, rfl⟩ := hp
    have hw : Wd D A s.heap _ _ ([[ob a 15 [.int u, .ref d, .int (nI xs.length)], (d, aR dT 1 cap (fun i => xs[i]?))], [ob x 12 [w0, w1, w2]]] ++ EE) := hw
    refine W.eq (g2 := F0 m 53 ls [.int 1]) rfl ?_
    refine lv_if_eq (tgt := 59) hx hb dJ2_remove_53 (by decide) (fun c9 => absurd c9 (by decide)) (fun _ => ?_)
    refine lv_goto (tgt := 67) hx hb dJ2_remove_56 (by decide) ?_
    refine lv_aload_n hx hb dJ2_remove_67 rfl (lv_at hl 3 rfl) ?_
    refine lv_aload_n hx hb dJ2_remove_68 rfl (lv_at hl 2 rfl) ?_
    refine lv_iload hx hb dJ2_remove_69 (lv_at hl 0 rfl) ?_
    refine xc_V (rest := []) (As := [.ref d, .int (nI k)]) hf hK hA hAz hst hw.app0 (k_J2_fastRemove l D dT g z0 a d cap u xs k ([[ob x 12 [w0, w1, w2]]] ++ EE) hc hC (by omega) hE) (cwV 2 hts (lw_V q641 q643 qs8 q47 q644) rfl rfl rfl (by decide +kernel) ⟨Nat.le_of_ble_eq_true rfl, Nat.le_of_ble_eq_true rfl⟩) (xr_rv hK hw 0 0 rfl rfl) rfl hl.1 rfl (Nat.le_of_ble_eq_true rfl) dJ2_remove_71 ⟨(Nat.le_of_ble_eq_true rfl), (Nat.le_of_ble_eq_true rfl)⟩ (fun _ _ _ _ _ _ h => h.elim) (fun v9 LL1 H locs hp hw => ?_)
    obtain ⟨rfl, rfl⟩ := hp
    have hw := hw.unapp0
    have hw : Wd D A s.heap _ _ ([[ob a 15 [.int (u + 1), .ref d, .int (nI (xs.length - 1))], (d, aR dT 1 cap (fun i => (xs.eraseIdx k)[i]?))], [ob x 12 [w0, w1, w2]]] ++ EE) := hw
    refine W.eq (g2 := F0 m 74 ls []) rfl ?_
    rw [show k = K from ek] at hw
    refine lv_iconst (v := 1) hx hb dJ2_remove_74 (by decide) ?_
    exact xr_zret hf hr hlocks hw (Nat.le_of_ble_eq_true rfl) (Nat.le_of_ble_eq_true rfl) rfl ⟨rfl, rfl⟩ dJ2_remove_75
  | succ n ih =>
    refine lv_iload hx hb dJ2_remove_39 (lv_at hl 0 rfl) ?_
    refine lv_iload_n hx hb dJ2_remove_41 rfl (lv_at hl 1 rfl) ?_
    refine lv_icmp_ge (tgt := 65) hx hb dJ2_remove_42 (by decide) (fun c9 => absurd c9 (nI_ge (by omega) (by omega))) (fun _ => ?_)
    refine lv_aload_n hx hb dJ2_remove_45 rfl (lv_at hl 4 rfl) ?_
    refine lv_aload_n hx hb dJ2_remove_46 rfl (lv_at hl 2 rfl) ?_
    refine lv_iload hx hb dJ2_remove_47 (lv_at hl 0 rfl) ?_
    refine xr_aald (r := (some xs[k])) hf hK hw 0 1 rfl rfl k (nI_pos (by omega)) (nI_clamp (by omega)) (by omega) (List.getElem?_eq_getElem (by omega)) dJ2_remove_49 ?_
    refine xc_U (rest := []) (As := [.ref xs[k]]) hf hK hA hAz hst (hw.pick [] rfl rfl rfl) (k_J17_equals_other l D dT g z0 x xs[k] (fun z9 => hne k (by omega) (by rw [List.getElem?_eq_getElem (by omega), z9]))) (va_cwU 1 hts (lw_Uc q618 q620 q622 q619 q1671 q640) rfl rfl rfl rfl (by decide +kernel) ⟨Nat.le_of_ble_eq_true rfl, Nat.le_of_ble_eq_true rfl⟩) (xr_rv hK hw 1 0 rfl rfl) rfl hl.1 rfl (Nat.le_of_ble_eq_true rfl) dJ2_remove_50 ⟨(Nat.le_of_ble_eq_true rfl), (Nat.le_of_ble_eq_true rfl)⟩ (fun _ _ _ _ _ _ h => h.elim) (fun v9 LL1 H locs hp hw => ?_)
    obtain ⟨rfl, rfl⟩ := hp
    have hw : Wd D A s.heap _ _ ([[ob a 15 [.int u, .ref d, .int (nI xs.length)], (d, aR dT 1 cap (fun i => xs[i]?))], [ob x 12 [w0, w1, w2]]] ++ EE) := hw
    refine W.eq (g2 := F0 m 53 ls [.int 0]) rfl ?_
    refine lv_if_eq (tgt := 59) hx hb dJ2_remove_53 (by decide) (fun _ => ?_) (fun c9 => absurd c9 (by decide))
    refine lv_iinc (v := (nI (k + 1))) (lv' := [(4, .int (nI (k + 1))), (3, .int (nI xs.length)), (2, .ref d), (0, .ref a), (1, .ref x)]) hx hb dJ2_remove_59 hl (k := 0) rfl (nI_1 _) (by decide) rfl (fun ls hl => ?_)
    refine lv_goto (tgt := 39) hx hb dJ2_remove_62 (by decide) ?_
    apply ih (k := k + 1)
    all_goals first | omega | exact lv_sub hl [0, 1, 2, 3, 4] rfl | exact hw

