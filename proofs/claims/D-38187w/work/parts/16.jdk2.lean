/-! 16.jdk2 (printed by gen/jdk.py) -/
set_option maxRecDepth 100000
set_option maxHeartbeats 4000000 in
theorem k_J3_newLength (l : Launch) (D : va_G) (dT g : Nat → Nat) (z0 : Nat) (x : Int32) (y : Int32) (z : Int32) (h1 : ¬ (x + (imax y z)) ≤ 0) (h2 : ¬ 2147483639 < (x + (imax y z))) : Con l D dT g z0 yJ3_newLength (ws_ yJ3_newLength cJ3_newLength 4 (some .int)) ({ frames := 1, cells := 0, slots := 0, locals := 40 }) [.int x, .int y, .int z] [] (fun r LL => r = some (.int (x + (imax y z))) ∧ LL = []) noX 0 0 := by
  refine Con.of (maxL := 4) (ret := (some .int)) (by first | exact plainFor_of_name (by decide) | decide +kernel) (Nat.le_of_ble_eq_true rfl) ?_
  intro p e s m args below meth c A ls hf hr hlocks hnm hno hK hA hAz hw hl hst
  have hf : CallFix p m c cJ3_newLength 4 s args lw_all "jdk/internal/util/ArraysSupport" := hf
  have hnm : meth.name = "newLength" := hnm
  have hx := hf.1
  have hb := hf.2.1
  have hts := hf.2.2.2.2
  have hl : lv_has ls 4 [(0, .int x), (1, .int y), (2, .int z)] := hl
  have hw : Wd D A s.heap s.heap [] [] := hw
  refine lv_iload_n hx hb dJ3_newLength_0 rfl (lv_at hl 0 rfl) ?_
  refine lv_iload_n hx hb dJ3_newLength_1 rfl (lv_at hl 1 rfl) ?_
  refine lv_iload_n hx hb dJ3_newLength_2 rfl (lv_at hl 2 rfl) ?_
  refine va_mmax hx hb (by rw [hf.2.2.1]; exact hl.1.symm) hf.2.2.2.1 (hts _ q151) (hts _ q152) (hts _ q50) (hts _ q153) (Nat.le_of_ble_eq_true rfl) (Nat.le_of_ble_eq_true rfl) (Nat.le_of_ble_eq_true rfl) (Nat.le_of_ble_eq_true rfl) dJ3_newLength_3 ?_
  refine lv_as (y := imax y z) rfl ?_
  refine lv_iadd hx hb dJ3_newLength_6 ?_
  refine lv_istore_n (lv' := [(3, .int (x + (imax y z))), (0, .int x), (1, .int y), (2, .int z)]) hx hb dJ3_newLength_7 rfl hl (by decide) rfl (fun ls hl => ?_)
  refine lv_iconst (v := 0) hx hb dJ3_newLength_8 (by decide) ?_
  refine lv_iload_n hx hb dJ3_newLength_9 rfl (lv_at hl 0 rfl) ?_
  refine lv_icmp_ge (tgt := 21) hx hb dJ3_newLength_10 (by decide) (fun c9 => absurd c9 h1) (fun _ => ?_)
  refine lv_iload_n hx hb dJ3_newLength_13 rfl (lv_at hl 0 rfl) ?_
  refine lv_ldc (v := 2147483639) hx hb hf.2.2.2.1 (hts _ q154) dJ3_newLength_14 ?_
  refine lv_icmp_gt (tgt := 21) hx hb dJ3_newLength_16 (by decide) (fun c9 => absurd c9 h2) (fun _ => ?_)
  refine lv_iload_n hx hb dJ3_newLength_19 rfl (lv_at hl 0 rfl) ?_
  exact xr_iret hf hr hlocks hw (Nat.le_of_ble_eq_true rfl) (Nat.le_of_ble_eq_true rfl) ⟨rfl, rfl⟩ dJ3_newLength_20

set_option maxHeartbeats 4000000 in
theorem k_J5_copyOf_2 (l : Launch) (D : va_G) (dT g : Nat → Nat) (z0 : Nat) (d : Nat) (n : Nat) (N : Nat) (xs : List Nat) (EE : List va_W) (hn : xs.length ≤ n) (hN : xs.length ≤ N) (hn1 : n < 8192) (hN1 : N < 8192) (hE : ∀ x ∈ xs, elOK dT EE x) : Con l D dT g z0 yJ5_copyOf_2 (ws_ yJ5_copyOf_2 cJ5_copyOf_2 4 (some (.array (.object "java/lang/Object")))) ({ frames := 1, cells := 1, slots := N, locals := 40 }) [.ref d, .int (nI N), .ref (g 4)] ([[(d, aR dT 1 n (fun i => xs[i]?))]] ++ EE) (fun r LL => ∃ (q : Nat), r = some (.ref q) ∧ LL = ([[(q, aR dT 1 N (fun i => xs[i]?))], [(d, aR dT 1 n (fun i => xs[i]?))]] ++ EE)) noX 1 N := by
  refine Con.of (maxL := 4) (ret := (some (.array (.object "java/lang/Object")))) (by first | exact plainFor_of_name (by decide) | decide +kernel) (Nat.le_of_ble_eq_true rfl) ?_
  intro p e s m args below meth c A ls hf hr hlocks hnm hno hK hA hAz hw hl hst
  have hf : CallFix p m c cJ5_copyOf_2 4 s args lw_all "java/util/Arrays" := hf
  have hnm : meth.name = "copyOf" := hnm
  have hx := hf.1
  have hb := hf.2.1
  have hts := hf.2.2.2.2
  have hl : lv_has ls 4 [(0, .ref d), (1, .int (nI N)), (2, .ref (g 4))] := hl
  have hw : Wd D A s.heap s.heap [] ([[(d, aR dT 1 n (fun i => xs[i]?))]] ++ EE) := hw
  refine lv_aload_n hx hb dJ5_copyOf_2_0 rfl (lv_at hl 2 rfl) ?_
  refine xr_ldcM hf hK.2.2.2.2.2.2.2.2.2.1 q189 dJ5_copyOf_2_1 ?_
  refine lv_acmp_ne (rx := (some (g 4))) (ry := (some (g 4))) (tgt := 13) hx hb dJ5_copyOf_2_3 (by decide) (fun c9 => absurd c9 (not_not_intro rfl)) (fun _ => ?_)
  refine lv_iload_n hx hb dJ5_copyOf_2_6 rfl (lv_at hl 1 rfl) ?_
  refine xr_newr hf hK hw hA q191 (by decide) 1 rfl (N := N) (nI_pos (by omega)) (nI_clamp (by omega)) (by omega) (Nat.le_of_ble_eq_true rfl) (by first | omega | (dsimp only; omega)) dJ5_copyOf_2_7 (fun qa1 H hw => ?_)
  have hw := hw.rot
  have hw : Wd D A s.heap _ _ ([[(qa1, aR dT 1 N (fun _ => none))], [(d, aR dT 1 n (fun i => xs[i]?))]] ++ EE) := hw
  refine lv_goto (tgt := 24) hx hb dJ5_copyOf_2_10 (by decide) ?_
  refine lv_astore_n (lv' := [(3, .ref qa1), (0, .ref d), (1, .int (nI N)), (2, .ref (g 4))]) hx hb dJ5_copyOf_2_24 rfl hl (by decide) rfl (fun ls hl => ?_)
  refine lv_aload_n hx hb dJ5_copyOf_2_25 rfl (lv_at hl 1 rfl) ?_
  refine lv_iconst (v := 0) hx hb dJ5_copyOf_2_26 (by decide) ?_
  refine lv_aload_n hx hb dJ5_copyOf_2_27 rfl (lv_at hl 0 rfl) ?_
  refine lv_iconst (v := 0) hx hb dJ5_copyOf_2_28 (by decide) ?_
  refine lv_aload_n hx hb dJ5_copyOf_2_29 rfl (lv_at hl 1 rfl) ?_
  refine xr_rlen (v := nI n) hf hK hw 1 0 rfl rfl rfl dJ5_copyOf_2_30 ?_
  refine lv_iload_n hx hb dJ5_copyOf_2_31 rfl (lv_at hl 2 rfl) ?_
  refine va_mmin hx hb (by rw [hf.2.2.1]; exact hl.1.symm) hf.2.2.2.1 (hts _ q192) (hts _ q193) (hts _ q50) (hts _ q194) (Nat.le_of_ble_eq_true rfl) (Nat.le_of_ble_eq_true rfl) (Nat.le_of_ble_eq_true rfl) (by first | omega | (dsimp only; omega)) dJ5_copyOf_2_32 ?_
  refine lv_as (y := imin (nI n) (nI N)) rfl ?_
  refine lv_as (y := nI (min n N)) (nI_min (by omega) (by omega)) ?_
  refine xr_copyR (f2 := (fun i => xs[i]?)) hf hl.1 hK hw 1 0 0 0 rfl rfl 0 0 (min n N) (by decide) (by decide) (nI_pos (by omega)) (by decide) (by decide) (nI_clamp (by omega)) (by omega) (by omega) ?_ q195 q197 q196 q52 (Nat.le_of_ble_eq_true rfl) (Nat.le_of_ble_eq_true rfl) (al_cpy0 hn hN rfl) rfl dJ5_copyOf_2_35 (fun H locs hw => ?_)
  · intro i9 hi9 y9 hy9
    exact elOK.any (L1 := [[(qa1, aR dT 1 N (fun _ => none))], [(d, aR dT 1 n (fun i => xs[i]?))]]) (L2 := []) hK hw.app0 (hE y9 (List.mem_of_getElem? hy9))
  have hw : Wd D A s.heap _ _ ([[(qa1, aR dT 1 N (fun i => xs[i]?))], [(d, aR dT 1 n (fun i => xs[i]?))]] ++ EE) := hw
  refine lv_aload_n hx hb dJ5_copyOf_2_38 rfl (lv_at hl 0 rfl) ?_
  exact xr_aret hf hr (by first | exact Or.inl ⟨_, rfl⟩ | exact Or.inr ⟨_, rfl⟩) (Or.inr ⟨_, rfl⟩) hlocks hw (Nat.le_of_ble_eq_true rfl) (by first | omega | (dsimp only; omega)) ⟨qa1, rfl, rfl⟩ dJ5_copyOf_2_39

set_option maxHeartbeats 4000000 in
theorem k_J5_copyOf (l : Launch) (D : va_G) (dT g : Nat → Nat) (z0 : Nat) (d : Nat) (n : Nat) (N : Nat) (xs : List Nat) (EE : List va_W) (hn : xs.length ≤ n) (hN : xs.length ≤ N) (hn1 : n < 8192) (hN1 : N < 8192) (hE : ∀ x ∈ xs, elOK dT EE x) : Con l D dT g z0 yJ5_copyOf (ws_ yJ5_copyOf cJ5_copyOf 2 (some (.array (.object "java/lang/Object")))) ({ frames := 2, cells := 1, slots := N, locals := 63 }) [.ref d, .int (nI N)] ([[(d, aR dT 1 n (fun i => xs[i]?))]] ++ EE) (fun r LL => ∃ (q : Nat), r = some (.ref q) ∧ LL = ([[(q, aR dT 1 N (fun i => xs[i]?))], [(d, aR dT 1 n (fun i => xs[i]?))]] ++ EE)) noX 1 N := by
  refine Con.of (maxL := 2) (ret := (some (.array (.object "java/lang/Object")))) (by first | exact plainFor_of_name (by decide) | decide +kernel) (Nat.le_of_ble_eq_true rfl) ?_
  intro p e s m args below meth c A ls hf hr hlocks hnm hno hK hA hAz hw hl hst
  have hf : CallFix p m c cJ5_copyOf 2 s args lw_all "java/util/Arrays" := hf
  have hnm : meth.name = "copyOf" := hnm
  have hx := hf.1
  have hb := hf.2.1
  have hts := hf.2.2.2.2
  have hl : lv_has ls 2 [(0, .ref d), (1, .int (nI N))] := hl
  have hw : Wd D A s.heap s.heap [] ([[(d, aR dT 1 n (fun i => xs[i]?))]] ++ EE) := hw
  refine lv_aload_n hx hb dJ5_copyOf_0 rfl (lv_at hl 0 rfl) ?_
  refine lv_iload_n hx hb dJ5_copyOf_1 rfl (lv_at hl 1 rfl) ?_
  refine lv_aload_n hx hb dJ5_copyOf_2 rfl (lv_at hl 0 rfl) ?_
  refine xr_getCA hf hl.1 hK hw 0 0 rfl rfl rfl hK.2.2.2.2.2.2.2.2.2.1 q161 q600 q1697 q162 q185 (Nat.le_of_ble_eq_true rfl) (Nat.le_of_ble_eq_true rfl) dJ5_copyOf_3 ?_
  refine xc_S (rest := []) (As := [.ref d, .int (nI N), .ref (g 4)]) hf hK hA hAz hst hw.app0 (k_J5_copyOf_2 l D dT g z0 d n N xs EE hn hN hn1 hN1 hE) (va_cwS 3 hts (lw_S q186 q187 q51 q188) rfl rfl rfl (by decide +kernel) ⟨Nat.le_of_ble_eq_true rfl, Nat.le_of_ble_eq_true rfl⟩) rfl hl.1 rfl (Nat.le_of_ble_eq_true rfl) dJ5_copyOf_6 ⟨(Nat.le_of_ble_eq_true rfl), (by first | omega | (dsimp only; omega))⟩ (fun _ _ _ _ _ _ h => h.elim) (fun v9 LL1 H locs hp hw => ?_)
  obtain ⟨q_1, rfl, rfl⟩ := hp
  have hw := hw.unapp0
  have hw : Wd D A s.heap _ _ ([[(q_1, aR dT 1 N (fun i => xs[i]?))], [(d, aR dT 1 n (fun i => xs[i]?))]] ++ EE) := hw
  refine W.eq (g2 := F0 m 9 ls [.ref q_1]) rfl ?_
  exact xr_aret hf hr (by first | exact Or.inl ⟨_, rfl⟩ | exact Or.inr ⟨_, rfl⟩) (Or.inr ⟨_, rfl⟩) hlocks hw (Nat.le_of_ble_eq_true rfl) (by first | omega | (dsimp only; omega)) ⟨q_1, rfl, rfl⟩ dJ5_copyOf_9

set_option maxHeartbeats 4000000 in
theorem k_J2_grow_2_full (l : Launch) (D : va_G) (dT g : Nat → Nat) (z0 : Nat) (a : Nat) (d : Nat) (u : Int32) (xs : List Nat) (EE : List va_W) (h0 : 0 < xs.length) (h1 : xs.length < 4096) (hE : ∀ x ∈ xs, elOK dT EE x) : Con l D dT g z0 yJ2_grow_2 (ws_ yJ2_grow_2 cJ2_grow_2 4 (some (.array (.object "java/lang/Object")))) ({ frames := 3, cells := 1, slots := (xs.length + max 1 (xs.length / 2)), locals := 84 }) [.ref a, .int (nI (xs.length + 1))] ([[ob a 15 [.int u, .ref d, .int (nI xs.length)], (d, aR dT 1 xs.length (fun i => xs[i]?))]] ++ EE) (fun r LL => ∃ (q : Nat), r = some (.ref q) ∧ LL = ([[ob a 15 [.int u, .ref q, .int (nI xs.length)], (q, aR dT 1 (xs.length + max 1 (xs.length / 2)) (fun i => xs[i]?))]] ++ EE)) noX 1 (xs.length + max 1 (xs.length / 2)) := by
  refine Con.of (maxL := 4) (ret := (some (.array (.object "java/lang/Object")))) (by first | exact plainFor_of_name (by decide) | decide +kernel) (Nat.le_of_ble_eq_true rfl) ?_
  intro p e s m args below meth c A ls hf hr hlocks hnm hno hK hA hAz hw hl hst
  have hf : CallFix p m c cJ2_grow_2 4 s args lw_all "java/util/ArrayList" := hf
  have hnm : meth.name = "grow" := hnm
  have hx := hf.1
  have hb := hf.2.1
  have hts := hf.2.2.2.2
  have hl : lv_has ls 4 [(0, .ref a), (1, .int (nI (xs.length + 1)))] := hl
  have hw : Wd D A s.heap s.heap [] ([[ob a 15 [.int u, .ref d, .int (nI xs.length)], (d, aR dT 1 xs.length (fun i => xs[i]?))]] ++ EE) := hw
  refine lv_aload_n hx hb dJ2_grow_2_0 rfl (lv_at hl 0 rfl) ?_
  refine xr_get hf hK hw 0 0 rfl rfl in_J2 1 (by decide) q99 (fun _ h => h) rfl dJ2_grow_2_1 ?_
  refine xr_rlen (v := nI xs.length) hf hK hw 0 1 rfl rfl rfl dJ2_grow_2_4 ?_
  refine lv_istore_n (lv' := [(2, .int (nI xs.length)), (0, .ref a), (1, .int (nI (xs.length + 1)))]) hx hb dJ2_grow_2_5 rfl hl (by decide) rfl (fun ls hl => ?_)
  refine lv_iload_n hx hb dJ2_grow_2_6 rfl (lv_at hl 0 rfl) ?_
  refine lv_if_gt (tgt := 20) hx hb dJ2_grow_2_7 (by decide) (fun _ => ?_) (fun c9 => absurd c9 (not_not_intro (nI_lt (a := 0) h0 (by omega))))
  refine lv_iload_n hx hb dJ2_grow_2_20 rfl (lv_at hl 0 rfl) ?_
  refine lv_iload_n hx hb dJ2_grow_2_21 rfl (lv_at hl 2 rfl) ?_
  refine lv_iload_n hx hb dJ2_grow_2_22 rfl (lv_at hl 0 rfl) ?_
  refine lv_isub hx hb dJ2_grow_2_23 ?_
  refine lv_iload_n hx hb dJ2_grow_2_24 rfl (lv_at hl 0 rfl) ?_
  refine lv_iconst (v := 1) hx hb dJ2_grow_2_25 (by decide) ?_
  refine lv_ishr hx hb dJ2_grow_2_26 ?_
  refine xc_S (rest := []) (As := [.int (nI xs.length), .int ((nI (xs.length + 1)) - (nI xs.length)), .int ((nI xs.length) >>> ((1 : Int32) &&& 31))]) hf hK hA hAz hst (hw.pick [] rfl rfl rfl) (k_J3_newLength l D dT g z0 (nI xs.length) ((nI (xs.length + 1)) - (nI xs.length)) ((nI xs.length) >>> ((1 : Int32) &&& 31)) (by rw [al_newlen h0 h1]; exact nI_nle (by omega) (by omega)) (by rw [al_newlen h0 h1]; exact nI_nlt (b := xs.length + max 1 (xs.length / 2)) (a := 2147483639) (by omega) (by omega))) (va_cwS 3 hts (lw_S q148 q149 q49 q150) rfl rfl rfl (by decide +kernel) ⟨Nat.le_of_ble_eq_true rfl, Nat.le_of_ble_eq_true rfl⟩) rfl hl.1 rfl (Nat.le_of_ble_eq_true rfl) dJ2_grow_2_27 ⟨(Nat.le_of_ble_eq_true rfl), (by first | omega | (dsimp only; omega))⟩ (fun _ _ _ _ _ _ h => h.elim) (fun v9 LL1 H locs hp hw => ?_)
  obtain ⟨rfl, rfl⟩ := hp
  have hw : Wd D A s.heap _ _ ([[ob a 15 [.int u, .ref d, .int (nI xs.length)], (d, aR dT 1 xs.length (fun i => xs[i]?))]] ++ EE) := hw
  refine W.eq (g2 := F0 m 30 ls [.int ((nI xs.length) + (imax ((nI (xs.length + 1)) - (nI xs.length)) ((nI xs.length) >>> ((1 : Int32) &&& 31))))]) rfl ?_
  refine lv_as (y := nI (xs.length + max 1 (xs.length / 2))) (al_newlen h0 h1) ?_
  refine lv_istore_n (lv' := [(3, .int (nI (xs.length + max 1 (xs.length / 2)))), (2, .int (nI xs.length)), (0, .ref a), (1, .int (nI (xs.length + 1)))]) hx hb dJ2_grow_2_30 rfl hl (by decide) rfl (fun ls hl => ?_)
  refine lv_aload_n hx hb dJ2_grow_2_31 rfl (lv_at hl 2 rfl) ?_
  refine lv_aload_n hx hb dJ2_grow_2_32 rfl (lv_at hl 2 rfl) ?_
  refine xr_get hf hK hw 0 0 rfl rfl in_J2 1 (by decide) q99 (fun _ h => h) rfl dJ2_grow_2_33 ?_
  refine lv_iload_n hx hb dJ2_grow_2_36 rfl (lv_at hl 0 rfl) ?_
  have hw : Wd D A s.heap _ _ ([[ob a 15 [.int u, .ref d, .int (nI xs.length)]], [(d, aR dT 1 xs.length (fun i => xs[i]?))]] ++ EE) := hw.eq rfl
  have hw : Wd D A s.heap _ _ ([[(d, aR dT 1 xs.length (fun i => xs[i]?))], [ob a 15 [.int u, .ref d, .int (nI xs.length)]]] ++ EE) := hw.pick [1, 0] rfl rfl rfl
  have hw : Wd D A s.heap _ _ ([[(d, aR dT 1 xs.length (fun i => xs[i]?))], [ob a 15 [.int u, .ref d, .int (nI xs.length)]]] ++ EE) := hw.eq rfl
  refine xc_S (rest := [.ref a]) (As := [.ref d, .int (nI (xs.length + max 1 (xs.length / 2)))]) hf hK hA hAz hst hw.app0 (k_J5_copyOf l D dT g z0 d xs.length (xs.length + max 1 (xs.length / 2)) xs ([[ob a 15 [.int u, .ref d, .int (nI xs.length)]]] ++ EE) (Nat.le_refl _) (by omega) (by omega) (by omega) (fun y9 h9 => (hE y9 h9).pre)) (va_cwS 2 hts (lw_S q158 q159 q51 q160) rfl rfl rfl (by decide +kernel) ⟨Nat.le_of_ble_eq_true rfl, Nat.le_of_ble_eq_true rfl⟩) rfl hl.1 rfl (Nat.le_of_ble_eq_true rfl) dJ2_grow_2_37 ⟨(Nat.le_of_ble_eq_true rfl), (by first | omega | (dsimp only; omega))⟩ (fun _ _ _ _ _ _ h => h.elim) (fun v9 LL1 H locs hp hw => ?_)
  obtain ⟨q_1, rfl, rfl⟩ := hp
  have hw := hw.unapp0
  have hw : Wd D A s.heap _ _ ([[(q_1, aR dT 1 (xs.length + max 1 (xs.length / 2)) (fun i => xs[i]?))], [(d, aR dT 1 xs.length (fun i => xs[i]?))], [ob a 15 [.int u, .ref d, .int (nI xs.length)]]] ++ EE) := hw
  refine W.eq (g2 := F0 m 40 ls [.ref q_1, .ref a]) rfl ?_
  refine lv_dup_x1 hx hb dJ2_grow_2_40 rfl rfl ?_
  refine xr_put (LL' := ([[(q_1, aR dT 1 (xs.length + max 1 (xs.length / 2)) (fun i => xs[i]?))], [(d, aR dT 1 xs.length (fun i => xs[i]?))], [ob a 15 [.int u, .ref q_1, .int (nI xs.length)]]] ++ EE)) hf hK hw 2 0 rfl rfl in_J2 tyJ2_ok nmJ2 1 (by decide) q99 (fun _ h => h) rfl rfl rfl (Nat.le_of_ble_eq_true rfl) rfl dJ2_grow_2_41 (fun H locs hw => ?_)
  have hw : Wd D A s.heap _ _ ([[(d, aR dT 1 xs.length (fun i => xs[i]?))], [ob a 15 [.int u, .ref q_1, .int (nI xs.length)]], [(q_1, aR dT 1 (xs.length + max 1 (xs.length / 2)) (fun i => xs[i]?))]] ++ EE) := hw.pick [1, 1, 0] rfl rfl rfl
  have hw := hw.tl
  have hw : Wd D A s.heap _ _ ([[ob a 15 [.int u, .ref q_1, .int (nI xs.length)], (q_1, aR dT 1 (xs.length + max 1 (xs.length / 2)) (fun i => xs[i]?))]] ++ EE) := hw.eq rfl
  exact xr_aret hf hr (by first | exact Or.inl ⟨_, rfl⟩ | exact Or.inr ⟨_, rfl⟩) (Or.inr ⟨_, rfl⟩) hlocks hw (Nat.le_of_ble_eq_true rfl) (by first | omega | (dsimp only; omega)) ⟨q_1, rfl, rfl⟩ dJ2_grow_2_44

set_option maxHeartbeats 4000000 in
theorem k_J2_grow_2_first (l : Launch) (D : va_G) (dT g : Nat → Nat) (z0 : Nat) (a : Nat) (u : Int32) : Con l D dT g z0 yJ2_grow_2 (ws_ yJ2_grow_2 cJ2_grow_2 4 (some (.array (.object "java/lang/Object")))) ({ frames := 1, cells := 1, slots := 10, locals := 40 }) [.ref a, .int 1] [[ob a 15 [.int u, .ref (g 0), .int 0]]] (fun r LL => ∃ (q : Nat), r = some (.ref q) ∧ LL = [[ob a 15 [.int u, .ref q, .int 0], (q, aR dT 1 10 (fun _ => none))]]) noX 1 10 := by
  refine Con.of (maxL := 4) (ret := (some (.array (.object "java/lang/Object")))) (by first | exact plainFor_of_name (by decide) | decide +kernel) (Nat.le_of_ble_eq_true rfl) ?_
  intro p e s m args below meth c A ls hf hr hlocks hnm hno hK hA hAz hw hl hst
  have hf : CallFix p m c cJ2_grow_2 4 s args lw_all "java/util/ArrayList" := hf
  have hnm : meth.name = "grow" := hnm
  have hx := hf.1
  have hb := hf.2.1
  have hts := hf.2.2.2.2
  have hl : lv_has ls 4 [(0, .ref a), (1, .int 1)] := hl
  have hw : Wd D A s.heap s.heap [] [[ob a 15 [.int u, .ref (g 0), .int 0]]] := hw
  refine lv_aload_n hx hb dJ2_grow_2_0 rfl (lv_at hl 0 rfl) ?_
  refine xr_get hf hK hw 0 0 rfl rfl in_J2 1 (by decide) q99 (fun _ h => h) rfl dJ2_grow_2_1 ?_
  refine xr_slen (v := 0) hf hAz hK.2.2.2.2.2.1.2.1 hw (by decide) dJ2_grow_2_4 ?_
  refine lv_istore_n (lv' := [(2, .int 0), (0, .ref a), (1, .int 1)]) hx hb dJ2_grow_2_5 rfl hl (by decide) rfl (fun ls hl => ?_)
  refine lv_iload_n hx hb dJ2_grow_2_6 rfl (lv_at hl 0 rfl) ?_
  refine lv_if_gt (tgt := 20) hx hb dJ2_grow_2_7 (by decide) (fun c9 => absurd c9 (by decide)) (fun _ => ?_)
  refine lv_aload_n hx hb dJ2_grow_2_10 rfl (lv_at hl 1 rfl) ?_
  refine xr_get hf hK hw 0 0 rfl rfl in_J2 1 (by decide) q99 (fun _ h => h) rfl dJ2_grow_2_11 ?_
  refine xr_gets hf hAz hK.2.2.2.2.2.1.1 hw q97 (fun _ h => h) dJ2_grow_2_14 ?_
  refine lv_acmp_eq (rx := (some (g 0))) (ry := (some (g 0))) (tgt := 45) hx hb dJ2_grow_2_17 (by decide) (fun _ => ?_) (fun c9 => absurd c9 (not_not_intro rfl))
  refine lv_aload_n hx hb dJ2_grow_2_45 rfl (lv_at hl 1 rfl) ?_
  refine lv_bipush (v := 10) hx hb dJ2_grow_2_46 (by decide) ?_
  refine lv_iload_n hx hb dJ2_grow_2_48 rfl (lv_at hl 2 rfl) ?_
  refine va_mmax hx hb (by rw [hf.2.2.1]; exact hl.1.symm) hf.2.2.2.1 (hts _ q198) (hts _ q152) (hts _ q50) (hts _ q153) (Nat.le_of_ble_eq_true rfl) (Nat.le_of_ble_eq_true rfl) (Nat.le_of_ble_eq_true rfl) (Nat.le_of_ble_eq_true rfl) dJ2_grow_2_49 ?_
  refine lv_as (y := imax 10 1) rfl ?_
  refine lv_as (y := 10) (by decide) ?_
  refine xr_newr hf hK hw hA q199 (by decide) 1 rfl (N := 10) (by decide) (by decide) (Nat.le_of_ble_eq_true rfl) (Nat.le_of_ble_eq_true rfl) (Nat.le_of_ble_eq_true rfl) dJ2_grow_2_52 (fun qa1 H hw => ?_)
  have hw : Wd D A s.heap _ _ [[ob a 15 [.int u, .ref (g 0), .int 0]], [(qa1, aR dT 1 10 (fun _ => none))]] := hw
  refine lv_dup_x1 hx hb dJ2_grow_2_55 rfl rfl ?_
  refine xr_put (LL' := [[ob a 15 [.int u, .ref qa1, .int 0]], [(qa1, aR dT 1 10 (fun _ => none))]]) hf hK hw 0 0 rfl rfl in_J2 tyJ2_ok nmJ2 1 (by decide) q99 (fun _ h => h) rfl rfl rfl (Nat.le_of_ble_eq_true rfl) rfl dJ2_grow_2_56 (fun H locs hw => ?_)
  have hw : Wd D A s.heap _ _ [[ob a 15 [.int u, .ref qa1, .int 0], (qa1, aR dT 1 10 (fun _ => none))]] := hw.eq rfl
  exact xr_aret hf hr (by first | exact Or.inl ⟨_, rfl⟩ | exact Or.inr ⟨_, rfl⟩) (Or.inr ⟨_, rfl⟩) hlocks hw (Nat.le_of_ble_eq_true rfl) (Nat.le_of_ble_eq_true rfl) ⟨qa1, rfl, rfl⟩ dJ2_grow_2_59

set_option maxHeartbeats 4000000 in
theorem k_J2_grow_full (l : Launch) (D : va_G) (dT g : Nat → Nat) (z0 : Nat) (a : Nat) (d : Nat) (u : Int32) (xs : List Nat) (EE : List va_W) (h0 : 0 < xs.length) (h1 : xs.length < 4096) (hE : ∀ x ∈ xs, elOK dT EE x) : Con l D dT g z0 yJ2_grow (ws_ yJ2_grow cJ2_grow 1 (some (.array (.object "java/lang/Object")))) ({ frames := 4, cells := 1, slots := (xs.length + max 1 (xs.length / 2)), locals := 107 }) [.ref a] ([[ob a 15 [.int u, .ref d, .int (nI xs.length)], (d, aR dT 1 xs.length (fun i => xs[i]?))]] ++ EE) (fun r LL => ∃ (q : Nat), r = some (.ref q) ∧ LL = ([[ob a 15 [.int u, .ref q, .int (nI xs.length)], (q, aR dT 1 (xs.length + max 1 (xs.length / 2)) (fun i => xs[i]?))]] ++ EE)) noX 1 (xs.length + max 1 (xs.length / 2)) := by
  refine Con.of (maxL := 1) (ret := (some (.array (.object "java/lang/Object")))) (by first | exact plainFor_of_name (by decide) | decide +kernel) (Nat.le_of_ble_eq_true rfl) ?_
  intro p e s m args below meth c A ls hf hr hlocks hnm hno hK hA hAz hw hl hst
  have hf : CallFix p m c cJ2_grow 1 s args lw_all "java/util/ArrayList" := hf
  have hnm : meth.name = "grow" := hnm
  have hx := hf.1
  have hb := hf.2.1
  have hts := hf.2.2.2.2
  have hl : lv_has ls 1 [(0, .ref a)] := hl
  have hw : Wd D A s.heap s.heap [] ([[ob a 15 [.int u, .ref d, .int (nI xs.length)], (d, aR dT 1 xs.length (fun i => xs[i]?))]] ++ EE) := hw
  refine lv_aload_n hx hb dJ2_grow_0 rfl (lv_at hl 0 rfl) ?_
  refine lv_aload_n hx hb dJ2_grow_1 rfl (lv_at hl 0 rfl) ?_
  refine xr_get hf hK hw 0 0 rfl rfl in_J2 2 (by decide) q102 (fun _ h => h) rfl dJ2_grow_2 ?_
  refine lv_iconst (v := 1) hx hb dJ2_grow_5 (by decide) ?_
  refine lv_iadd hx hb dJ2_grow_6 ?_
  refine lv_as (y := (nI (xs.length + 1))) (nI_1 _) ?_
  refine xc_V (rest := []) (As := [.int (nI (xs.length + 1))]) hf hK hA hAz hst hw.app0 (k_J2_grow_2_full l D dT g z0 a d u xs EE h0 h1 hE) (cwV 1 hts (lw_V q144 q146 qs2 q47 q147) rfl rfl rfl (by decide +kernel) ⟨Nat.le_of_ble_eq_true rfl, Nat.le_of_ble_eq_true rfl⟩) (xr_rv hK hw 0 0 rfl rfl) rfl hl.1 rfl (Nat.le_of_ble_eq_true rfl) dJ2_grow_7 ⟨(Nat.le_of_ble_eq_true rfl), (by first | omega | (dsimp only; omega))⟩ (fun _ _ _ _ _ _ h => h.elim) (fun v9 LL1 H locs hp hw => ?_)
  obtain ⟨q_1, rfl, rfl⟩ := hp
  have hw := hw.unapp0
  have hw : Wd D A s.heap _ _ ([[ob a 15 [.int u, .ref q_1, .int (nI xs.length)], (q_1, aR dT 1 (xs.length + max 1 (xs.length / 2)) (fun i => xs[i]?))]] ++ EE) := hw
  refine W.eq (g2 := F0 m 10 ls [.ref q_1]) rfl ?_
  exact xr_aret hf hr (by first | exact Or.inl ⟨_, rfl⟩ | exact Or.inr ⟨_, rfl⟩) (Or.inr ⟨_, rfl⟩) hlocks hw (Nat.le_of_ble_eq_true rfl) (by first | omega | (dsimp only; omega)) ⟨q_1, rfl, rfl⟩ dJ2_grow_10

set_option maxHeartbeats 4000000 in
theorem k_J2_grow_first (l : Launch) (D : va_G) (dT g : Nat → Nat) (z0 : Nat) (a : Nat) (u : Int32) : Con l D dT g z0 yJ2_grow (ws_ yJ2_grow cJ2_grow 1 (some (.array (.object "java/lang/Object")))) ({ frames := 2, cells := 1, slots := 10, locals := 63 }) [.ref a] [[ob a 15 [.int u, .ref (g 0), .int 0]]] (fun r LL => ∃ (q : Nat), r = some (.ref q) ∧ LL = [[ob a 15 [.int u, .ref q, .int 0], (q, aR dT 1 10 (fun _ => none))]]) noX 1 10 := by
  refine Con.of (maxL := 1) (ret := (some (.array (.object "java/lang/Object")))) (by first | exact plainFor_of_name (by decide) | decide +kernel) (Nat.le_of_ble_eq_true rfl) ?_
  intro p e s m args below meth c A ls hf hr hlocks hnm hno hK hA hAz hw hl hst
  have hf : CallFix p m c cJ2_grow 1 s args lw_all "java/util/ArrayList" := hf
  have hnm : meth.name = "grow" := hnm
  have hx := hf.1
  have hb := hf.2.1
  have hts := hf.2.2.2.2
  have hl : lv_has ls 1 [(0, .ref a)] := hl
  have hw : Wd D A s.heap s.heap [] [[ob a 15 [.int u, .ref (g 0), .int 0]]] := hw
  refine lv_aload_n hx hb dJ2_grow_0 rfl (lv_at hl 0 rfl) ?_
  refine lv_aload_n hx hb dJ2_grow_1 rfl (lv_at hl 0 rfl) ?_
  refine xr_get hf hK hw 0 0 rfl rfl in_J2 2 (by decide) q102 (fun _ h => h) rfl dJ2_grow_2 ?_
  refine lv_iconst (v := 1) hx hb dJ2_grow_5 (by decide) ?_
  refine lv_iadd hx hb dJ2_grow_6 ?_
  refine lv_as (y := 1) (by decide) ?_
  refine xc_V (rest := []) (As := [.int 1]) hf hK hA hAz hst (hw.pick [0] rfl rfl rfl) (k_J2_grow_2_first l D dT g z0 a u) (cwV 1 hts (lw_V q144 q146 qs2 q47 q147) rfl rfl rfl (by decide +kernel) ⟨Nat.le_of_ble_eq_true rfl, Nat.le_of_ble_eq_true rfl⟩) (xr_rv hK hw 0 0 rfl rfl) rfl hl.1 rfl (Nat.le_of_ble_eq_true rfl) dJ2_grow_7 ⟨(Nat.le_of_ble_eq_true rfl), (Nat.le_of_ble_eq_true rfl)⟩ (fun _ _ _ _ _ _ h => h.elim) (fun v9 LL1 H locs hp hw => ?_)
  obtain ⟨q_1, rfl, rfl⟩ := hp
  have hw : Wd D A s.heap _ _ [[ob a 15 [.int u, .ref q_1, .int 0], (q_1, aR dT 1 10 (fun _ => none))]] := hw
  refine W.eq (g2 := F0 m 10 ls [.ref q_1]) rfl ?_
  exact xr_aret hf hr (by first | exact Or.inl ⟨_, rfl⟩ | exact Or.inr ⟨_, rfl⟩) (Or.inr ⟨_, rfl⟩) hlocks hw (Nat.le_of_ble_eq_true rfl) (Nat.le_of_ble_eq_true rfl) ⟨q_1, rfl, rfl⟩ dJ2_grow_10

set_option maxHeartbeats 4000000 in
theorem k_J2_add_2_room (l : Launch) (D : va_G) (dT g : Nat → Nat) (z0 : Nat) (a : Nat) (d : Nat) (cap : Nat) (u : Int32) (xs : List Nat) (x : Nat) (EE : List va_W) (hc : xs.length < cap) (hC : cap < 4096) (hE2 : elOK dT EE x) : Con l D dT g z0 yJ2_add_2 (ws_ yJ2_add_2 cJ2_add_2 4 none) ({ frames := 1, cells := 0, slots := 0, locals := 40 }) [.ref a, .ref x, .ref d, .int (nI xs.length)] ([[ob a 15 [.int u, .ref d, .int (nI xs.length)], (d, aR dT 1 cap (fun i => xs[i]?))]] ++ EE) (fun r LL => r = none ∧ LL = ([[ob a 15 [.int u, .ref d, .int (nI (xs.length + 1))], (d, aR dT 1 cap (fun i => (xs ++ [x])[i]?))]] ++ EE)) noX 0 0 := by
  refine Con.of (maxL := 4) (ret := none) (by first | exact plainFor_of_name (by decide) | decide +kernel) (Nat.le_of_ble_eq_true rfl) ?_
  intro p e s m args below meth c A ls hf hr hlocks hnm hno hK hA hAz hw hl hst
  have hf : CallFix p m c cJ2_add_2 4 s args lw_all "java/util/ArrayList" := hf
  have hnm : meth.name = "add" := hnm
  have hx := hf.1
  have hb := hf.2.1
  have hts := hf.2.2.2.2
  have hl : lv_has ls 4 [(0, .ref a), (1, .ref x), (2, .ref d), (3, .int (nI xs.length))] := hl
  have hw : Wd D A s.heap s.heap [] ([[ob a 15 [.int u, .ref d, .int (nI xs.length)], (d, aR dT 1 cap (fun i => xs[i]?))]] ++ EE) := hw
  refine lv_iload_n hx hb dJ2_add_2_0 rfl (lv_at hl 3 rfl) ?_
  refine lv_aload_n hx hb dJ2_add_2_1 rfl (lv_at hl 2 rfl) ?_
  refine xr_rlen (v := nI cap) hf hK hw 0 1 rfl rfl rfl dJ2_add_2_2 ?_
  refine lv_icmp_ne (tgt := 11) hx hb dJ2_add_2_3 (by decide) (fun _ => ?_) (fun c9 => absurd c9 (fun z => absurd ((nI_eq (by omega) (by omega)).mp z) (by omega)))
  refine lv_aload_n hx hb dJ2_add_2_11 rfl (lv_at hl 2 rfl) ?_
  refine lv_iload_n hx hb dJ2_add_2_12 rfl (lv_at hl 3 rfl) ?_
  refine lv_aload_n hx hb dJ2_add_2_13 rfl (lv_at hl 1 rfl) ?_
  refine xr_aast (LL' := ([[ob a 15 [.int u, .ref d, .int (nI xs.length)], (d, aR dT 1 cap (fun i => (xs ++ [x])[i]?))]] ++ EE)) hf hK hw 0 1 rfl rfl xs.length (nI_pos (by omega)) (nI_clamp (by omega)) hc (elOK.any (L1 := [[ob a 15 [.int u, .ref d, .int (nI xs.length)], (d, aR dT 1 cap (fun i => xs[i]?))]]) (L2 := []) hK hw.mem hE2) (by rw [al_push (xs := xs) (x := x)]; rfl) dJ2_add_2_14 (fun H locs hw => ?_)
  refine lv_aload_n hx hb dJ2_add_2_15 rfl (lv_at hl 0 rfl) ?_
  refine lv_iload_n hx hb dJ2_add_2_16 rfl (lv_at hl 3 rfl) ?_
  refine lv_iconst (v := 1) hx hb dJ2_add_2_17 (by decide) ?_
  refine lv_iadd hx hb dJ2_add_2_18 ?_
  refine lv_as (y := (nI (xs.length + 1))) (nI_1 _) ?_
  refine xr_put (LL' := ([[ob a 15 [.int u, .ref d, .int (nI (xs.length + 1))], (d, aR dT 1 cap (fun i => (xs ++ [x])[i]?))]] ++ EE)) hf hK hw 0 0 rfl rfl in_J2 tyJ2_ok nmJ2 2 (by decide) q102 (fun _ h => h) rfl rfl rfl (Nat.le_of_ble_eq_true rfl) rfl dJ2_add_2_19 (fun H locs hw => ?_)
  exact xr_vret hf hr hlocks hw (Nat.le_of_ble_eq_true rfl) (Nat.le_of_ble_eq_true rfl) ⟨rfl, rfl⟩ dJ2_add_2_22

set_option maxHeartbeats 4000000 in
theorem k_J2_add_2_full (l : Launch) (D : va_G) (dT g : Nat → Nat) (z0 : Nat) (a : Nat) (d : Nat) (u : Int32) (xs : List Nat) (x : Nat) (EE : List va_W) (h0 : 0 < xs.length) (h1 : xs.length < 4096) (hE : ∀ x ∈ xs, elOK dT EE x) (hE2 : elOK dT EE x) : Con l D dT g z0 yJ2_add_2 (ws_ yJ2_add_2 cJ2_add_2 4 none) ({ frames := 5, cells := 1, slots := (xs.length + max 1 (xs.length / 2)), locals := 127 }) [.ref a, .ref x, .ref d, .int (nI xs.length)] ([[ob a 15 [.int u, .ref d, .int (nI xs.length)], (d, aR dT 1 xs.length (fun i => xs[i]?))]] ++ EE) (fun r LL => ∃ (q : Nat), r = none ∧ LL = ([[ob a 15 [.int u, .ref q, .int (nI (xs.length + 1))], (q, aR dT 1 (xs.length + max 1 (xs.length / 2)) (fun i => (xs ++ [x])[i]?))]] ++ EE)) noX 1 (xs.length + max 1 (xs.length / 2)) := by
  refine Con.of (maxL := 4) (ret := none) (by first | exact plainFor_of_name (by decide) | decide +kernel) (Nat.le_of_ble_eq_true rfl) ?_
  intro p e s m args below meth c A ls hf hr hlocks hnm hno hK hA hAz hw hl hst
  have hf : CallFix p m c cJ2_add_2 4 s args lw_all "java/util/ArrayList" := hf
  have hnm : meth.name = "add" := hnm
  have hx := hf.1
  have hb := hf.2.1
  have hts := hf.2.2.2.2
  have hl : lv_has ls 4 [(0, .ref a), (1, .ref x), (2, .ref d), (3, .int (nI xs.length))] := hl
  have hw : Wd D A s.heap s.heap [] ([[ob a 15 [.int u, .ref d, .int (nI xs.length)], (d, aR dT 1 xs.length (fun i => xs[i]?))]] ++ EE) := hw
  refine lv_iload_n hx hb dJ2_add_2_0 rfl (lv_at hl 3 rfl) ?_
  refine lv_aload_n hx hb dJ2_add_2_1 rfl (lv_at hl 2 rfl) ?_
  refine xr_rlen (v := nI xs.length) hf hK hw 0 1 rfl rfl rfl dJ2_add_2_2 ?_
  refine lv_icmp_ne (tgt := 11) hx hb dJ2_add_2_3 (by decide) (fun c9 => absurd c9 (not_not_intro rfl)) (fun _ => ?_)
  refine lv_aload_n hx hb dJ2_add_2_6 rfl (lv_at hl 0 rfl) ?_
  refine xc_V (rest := []) (As := []) hf hK hA hAz hst hw.app0 (k_J2_grow_full l D dT g z0 a d u xs EE h0 h1 hE) (cwV 0 hts (lw_V q140 q142 qs1 q47 q143) rfl rfl rfl (by decide +kernel) ⟨Nat.le_of_ble_eq_true rfl, Nat.le_of_ble_eq_true rfl⟩) (xr_rv hK hw 0 0 rfl rfl) rfl hl.1 rfl (Nat.le_of_ble_eq_true rfl) dJ2_add_2_7 ⟨(Nat.le_of_ble_eq_true rfl), (by first | omega | (dsimp only; omega))⟩ (fun _ _ _ _ _ _ h => h.elim) (fun v9 LL1 H locs hp hw => ?_)
  obtain ⟨q_1, rfl, rfl⟩ := hp
  have hw := hw.unapp0
  have hw : Wd D A s.heap _ _ ([[ob a 15 [.int u, .ref q_1, .int (nI xs.length)], (q_1, aR dT 1 (xs.length + max 1 (xs.length / 2)) (fun i => xs[i]?))]] ++ EE) := hw
  refine W.eq (g2 := F0 m 10 ls [.ref q_1]) rfl ?_
  refine lv_astore_n (lv' := [(2, .ref q_1), (0, .ref a), (1, .ref x), (3, .int (nI xs.length))]) hx hb dJ2_add_2_10 rfl hl (by decide) rfl (fun ls hl => ?_)
  refine lv_aload_n hx hb dJ2_add_2_11 rfl (lv_at hl 0 rfl) ?_
  refine lv_iload_n hx hb dJ2_add_2_12 rfl (lv_at hl 3 rfl) ?_
  refine lv_aload_n hx hb dJ2_add_2_13 rfl (lv_at hl 2 rfl) ?_
  refine xr_aast (LL' := ([[ob a 15 [.int u, .ref q_1, .int (nI xs.length)], (q_1, aR dT 1 (xs.length + max 1 (xs.length / 2)) (fun i => (xs ++ [x])[i]?))]] ++ EE)) hf hK hw 0 1 rfl rfl xs.length (nI_pos (by omega)) (nI_clamp (by omega)) (by omega) (elOK.any (L1 := [[ob a 15 [.int u, .ref q_1, .int (nI xs.length)], (q_1, aR dT 1 (xs.length + max 1 (xs.length / 2)) (fun i => xs[i]?))]]) (L2 := []) hK hw.mem hE2) (by rw [al_push (xs := xs) (x := x)]; rfl) dJ2_add_2_14 (fun H locs hw => ?_)
  refine lv_aload_n hx hb dJ2_add_2_15 rfl (lv_at hl 1 rfl) ?_
  refine lv_iload_n hx hb dJ2_add_2_16 rfl (lv_at hl 3 rfl) ?_
  refine lv_iconst (v := 1) hx hb dJ2_add_2_17 (by decide) ?_
  refine lv_iadd hx hb dJ2_add_2_18 ?_
  refine lv_as (y := (nI (xs.length + 1))) (nI_1 _) ?_
  refine xr_put (LL' := ([[ob a 15 [.int u, .ref q_1, .int (nI (xs.length + 1))], (q_1, aR dT 1 (xs.length + max 1 (xs.length / 2)) (fun i => (xs ++ [x])[i]?))]] ++ EE)) hf hK hw 0 0 rfl rfl in_J2 tyJ2_ok nmJ2 2 (by decide) q102 (fun _ h => h) rfl rfl rfl (Nat.le_of_ble_eq_true rfl) rfl dJ2_add_2_19 (fun H locs hw => ?_)
  exact xr_vret hf hr hlocks hw (Nat.le_of_ble_eq_true rfl) (by first | omega | (dsimp only; omega)) ⟨q_1, rfl, rfl⟩ dJ2_add_2_22

set_option maxHeartbeats 4000000 in
theorem k_J2_add_2_first (l : Launch) (D : va_G) (dT g : Nat → Nat) (z0 : Nat) (a : Nat) (u : Int32) (x : Nat) (EE : List va_W) (hE2 : elOK dT EE x) : Con l D dT g z0 yJ2_add_2 (ws_ yJ2_add_2 cJ2_add_2 4 none) ({ frames := 3, cells := 1, slots := 10, locals := 83 }) [.ref a, .ref x, .ref (g 0), .int 0] ([[ob a 15 [.int u, .ref (g 0), .int 0]]] ++ EE) (fun r LL => ∃ (q : Nat), r = none ∧ LL = ([[ob a 15 [.int u, .ref q, .int 1], (q, aR dT 1 10 (fun i => [x][i]?))]] ++ EE)) noX 1 10 := by
  refine Con.of (maxL := 4) (ret := none) (by first | exact plainFor_of_name (by decide) | decide +kernel) (Nat.le_of_ble_eq_true rfl) ?_
  intro p e s m args below meth c A ls hf hr hlocks hnm hno hK hA hAz hw hl hst
  have hf : CallFix p m c cJ2_add_2 4 s args lw_all "java/util/ArrayList" := hf
  have hnm : meth.name = "add" := hnm
  have hx := hf.1
  have hb := hf.2.1
  have hts := hf.2.2.2.2
  have hl : lv_has ls 4 [(0, .ref a), (1, .ref x), (2, .ref (g 0)), (3, .int 0)] := hl
  have hw : Wd D A s.heap s.heap [] ([[ob a 15 [.int u, .ref (g 0), .int 0]]] ++ EE) := hw
  refine lv_iload_n hx hb dJ2_add_2_0 rfl (lv_at hl 3 rfl) ?_
  refine lv_aload_n hx hb dJ2_add_2_1 rfl (lv_at hl 2 rfl) ?_
  refine xr_slen (v := 0) hf hAz hK.2.2.2.2.2.1.2.1 hw (by decide) dJ2_add_2_2 ?_
  refine lv_icmp_ne (tgt := 11) hx hb dJ2_add_2_3 (by decide) (fun c9 => absurd c9 (by decide)) (fun _ => ?_)
  refine lv_aload_n hx hb dJ2_add_2_6 rfl (lv_at hl 0 rfl) ?_
  refine xc_V (rest := []) (As := []) hf hK hA hAz hst (hw.pick [0] rfl rfl rfl) (k_J2_grow_first l D dT g z0 a u) (cwV 0 hts (lw_V q140 q142 qs1 q47 q143) rfl rfl rfl (by decide +kernel) ⟨Nat.le_of_ble_eq_true rfl, Nat.le_of_ble_eq_true rfl⟩) (xr_rv hK hw 0 0 rfl rfl) rfl hl.1 rfl (Nat.le_of_ble_eq_true rfl) dJ2_add_2_7 ⟨(Nat.le_of_ble_eq_true rfl), (Nat.le_of_ble_eq_true rfl)⟩ (fun _ _ _ _ _ _ h => h.elim) (fun v9 LL1 H locs hp hw => ?_)
  obtain ⟨q_1, rfl, rfl⟩ := hp
  have hw : Wd D A s.heap _ _ ([[ob a 15 [.int u, .ref q_1, .int 0], (q_1, aR dT 1 10 (fun _ => none))]] ++ EE) := hw
  refine W.eq (g2 := F0 m 10 ls [.ref q_1]) rfl ?_
  refine lv_astore_n (lv' := [(2, .ref q_1), (0, .ref a), (1, .ref x), (3, .int 0)]) hx hb dJ2_add_2_10 rfl hl (by decide) rfl (fun ls hl => ?_)
  refine lv_aload_n hx hb dJ2_add_2_11 rfl (lv_at hl 0 rfl) ?_
  refine lv_iload_n hx hb dJ2_add_2_12 rfl (lv_at hl 3 rfl) ?_
  refine lv_aload_n hx hb dJ2_add_2_13 rfl (lv_at hl 2 rfl) ?_
  refine xr_aast (LL' := ([[ob a 15 [.int u, .ref q_1, .int 0], (q_1, aR dT 1 10 (fun i => [x][i]?))]] ++ EE)) hf hK hw 0 1 rfl rfl 0 (by decide) (by decide) (Nat.le_of_ble_eq_true rfl) (elOK.any (L1 := [[ob a 15 [.int u, .ref q_1, .int 0], (q_1, aR dT 1 10 (fun _ => none))]]) (L2 := []) hK hw.mem hE2) (by rw [al_push0 (x := x)]; rfl) dJ2_add_2_14 (fun H locs hw => ?_)
  refine lv_aload_n hx hb dJ2_add_2_15 rfl (lv_at hl 1 rfl) ?_
  refine lv_iload_n hx hb dJ2_add_2_16 rfl (lv_at hl 3 rfl) ?_
  refine lv_iconst (v := 1) hx hb dJ2_add_2_17 (by decide) ?_
  refine lv_iadd hx hb dJ2_add_2_18 ?_
  refine lv_as (y := 1) (by decide) ?_
  refine xr_put (LL' := ([[ob a 15 [.int u, .ref q_1, .int 1], (q_1, aR dT 1 10 (fun i => [x][i]?))]] ++ EE)) hf hK hw 0 0 rfl rfl in_J2 tyJ2_ok nmJ2 2 (by decide) q102 (fun _ h => h) rfl rfl rfl (Nat.le_of_ble_eq_true rfl) rfl dJ2_add_2_19 (fun H locs hw => ?_)
  exact xr_vret hf hr hlocks hw (Nat.le_of_ble_eq_true rfl) (Nat.le_of_ble_eq_true rfl) ⟨q_1, rfl, rfl⟩ dJ2_add_2_22

set_option maxHeartbeats 4000000 in
theorem k_J2_add (l : Launch) (D : va_G) (dT g : Nat → Nat) (z0 : Nat) (a : Nat) (st : Option (Nat × Nat)) (u : Int32) (xs : List Nat) (x : Nat) (EE : List va_W) (hok : alOK st xs) (hE : ∀ y ∈ xs, elOK dT EE y) (hE2 : elOK dT EE x) : Con l D dT g z0 yJ2_add (ws_ yJ2_add cJ2_add 2 (some .boolean)) ({ frames := 6, cells := al_gc st xs, slots := al_gs st xs, locals := 150 }) [.ref a, .ref x] ([((ob a 15 [.int u, .ref (al_d g st), .int (nI xs.length)]) :: (al_t dT st xs))] ++ EE) (fun r LL => ∃ (dn : Nat), r = some (.int 1) ∧ LL = ([((ob a 15 [.int (u + 1), .ref (al_d g (al_n st xs dn)), .int (nI ((xs ++ [x])).length)]) :: (al_t dT (al_n st xs dn) (xs ++ [x])))] ++ EE)) noX (al_gc st xs) (al_gs st xs) := by
  refine Con.of (maxL := 2) (ret := (some .boolean)) (by first | exact plainFor_of_name (by decide) | decide +kernel) (Nat.le_of_ble_eq_true rfl) ?_
  intro p e s m args below meth c A ls hf hr hlocks hnm hno hK hA hAz hw hl hst
  have hf : CallFix p m c cJ2_add 2 s args lw_all "java/util/ArrayList" := hf
  have hnm : meth.name = "add" := hnm
  have hx := hf.1
  have hb := hf.2.1
  have hts := hf.2.2.2.2
  have hl : lv_has ls 2 [(0, .ref a), (1, .ref x)] := hl
  have hw : Wd D A s.heap s.heap [] ([((ob a 15 [.int u, .ref (al_d g st), .int (nI xs.length)]) :: (al_t dT st xs))] ++ EE) := hw
  rcases al_cases hok with ⟨rfl, rfl⟩ | ⟨d, cap, rfl, hc, h3⟩ | ⟨d, rfl, h2, h3⟩
  · skip
    have hl : lv_has ls 2 [(0, .ref a), (1, .ref x)] := hl
    have hw : Wd D A s.heap s.heap [] ([[ob a 15 [.int u, .ref (g 0), .int 0]]] ++ EE) := hw
    refine lv_aload_n hx hb dJ2_add_0 rfl (lv_at hl 0 rfl) ?_
    refine lv_dup hx hb dJ2_add_1 rfl ?_
    refine xr_get hf hK hw 0 0 rfl rfl in_J2 0 (by decide) q106 (u_same (hts _ q105)) rfl dJ2_add_2 ?_
    refine lv_iconst (v := 1) hx hb dJ2_add_5 (by decide) ?_
    refine lv_iadd hx hb dJ2_add_6 ?_
    refine xr_put (LL' := ([[ob a 15 [.int (u + 1), .ref (g 0), .int 0]]] ++ EE)) hf hK hw 0 0 rfl rfl in_J2 tyJ2_ok nmJ2 0 (by decide) q106 (u_same (hts _ q105)) rfl rfl rfl (Nat.le_of_ble_eq_true rfl) rfl dJ2_add_7 (fun H locs hw => ?_)
    refine lv_aload_n hx hb dJ2_add_10 rfl (lv_at hl 0 rfl) ?_
    refine lv_aload_n hx hb dJ2_add_11 rfl (lv_at hl 1 rfl) ?_
    refine lv_aload_n hx hb dJ2_add_12 rfl (lv_at hl 0 rfl) ?_
    refine xr_get hf hK hw 0 0 rfl rfl in_J2 1 (by decide) q99 (fun _ h => h) rfl dJ2_add_13 ?_
    refine lv_aload_n hx hb dJ2_add_16 rfl (lv_at hl 0 rfl) ?_
    refine xr_get hf hK hw 0 0 rfl rfl in_J2 2 (by decide) q102 (fun _ h => h) rfl dJ2_add_17 ?_
    refine xc_V (rest := []) (As := [.ref x, .ref (g 0), .int 0]) hf hK hA hAz hst hw.app0 (k_J2_add_2_first l D dT g z0 a (u + 1) x EE hE2) (cwV 3 hts (lw_V q136 q138 qs0 q47 q139) rfl rfl rfl (by decide +kernel) ⟨Nat.le_of_ble_eq_true rfl, Nat.le_of_ble_eq_true rfl⟩) (xr_rv hK hw 0 0 rfl rfl) rfl hl.1 rfl (Nat.le_of_ble_eq_true rfl) dJ2_add_20 ⟨(Nat.le_of_ble_eq_true rfl), (Nat.le_of_ble_eq_true rfl)⟩ (fun _ _ _ _ _ _ h => h.elim) (fun v9 LL1 H locs hp hw => ?_)
    obtain ⟨q_1, rfl, rfl⟩ := hp
    have hw := hw.unapp0
    have hw : Wd D A s.heap _ _ ([[ob a 15 [.int (u + 1), .ref q_1, .int 1], (q_1, aR dT 1 10 (fun i => [x][i]?))]] ++ EE) := hw
    refine W.eq (g2 := F0 m 23 ls []) rfl ?_
    refine lv_iconst (v := 1) hx hb dJ2_add_23 (by decide) ?_
    exact xr_zret hf hr hlocks hw (Nat.le_of_ble_eq_true rfl) (Nat.le_of_ble_eq_true rfl) rfl ⟨q_1, rfl, al_n_none⟩ dJ2_add_24
  · skip
    have hl : lv_has ls 2 [(0, .ref a), (1, .ref x)] := hl
    have hw : Wd D A s.heap s.heap [] ([[ob a 15 [.int u, .ref d, .int (nI xs.length)], (d, aR dT 1 cap (fun i => xs[i]?))]] ++ EE) := hw
    refine lv_aload_n hx hb dJ2_add_0 rfl (lv_at hl 0 rfl) ?_
    refine lv_dup hx hb dJ2_add_1 rfl ?_
    refine xr_get hf hK hw 0 0 rfl rfl in_J2 0 (by decide) q106 (u_same (hts _ q105)) rfl dJ2_add_2 ?_
    refine lv_iconst (v := 1) hx hb dJ2_add_5 (by decide) ?_
    refine lv_iadd hx hb dJ2_add_6 ?_
    refine xr_put (LL' := ([[ob a 15 [.int (u + 1), .ref d, .int (nI xs.length)], (d, aR dT 1 cap (fun i => xs[i]?))]] ++ EE)) hf hK hw 0 0 rfl rfl in_J2 tyJ2_ok nmJ2 0 (by decide) q106 (u_same (hts _ q105)) rfl rfl rfl (Nat.le_of_ble_eq_true rfl) rfl dJ2_add_7 (fun H locs hw => ?_)
    refine lv_aload_n hx hb dJ2_add_10 rfl (lv_at hl 0 rfl) ?_
    refine lv_aload_n hx hb dJ2_add_11 rfl (lv_at hl 1 rfl) ?_
    refine lv_aload_n hx hb dJ2_add_12 rfl (lv_at hl 0 rfl) ?_
    refine xr_get hf hK hw 0 0 rfl rfl in_J2 1 (by decide) q99 (fun _ h => h) rfl dJ2_add_13 ?_
    refine lv_aload_n hx hb dJ2_add_16 rfl (lv_at hl 0 rfl) ?_
    refine xr_get hf hK hw 0 0 rfl rfl in_J2 2 (by decide) q102 (fun _ h => h) rfl dJ2_add_17 ?_
    refine xc_V (rest := []) (As := [.ref x, .ref d, .int (nI xs.length)]) hf hK hA hAz hst hw.app0 (k_J2_add_2_room l D dT g z0 a d cap (u + 1) xs x EE hc h3 hE2) (cwV 3 hts (lw_V q136 q138 qs0 q47 q139) rfl rfl rfl (by decide +kernel) ⟨Nat.le_of_ble_eq_true rfl, Nat.le_of_ble_eq_true rfl⟩) (xr_rv hK hw 0 0 rfl rfl) rfl hl.1 rfl (Nat.le_of_ble_eq_true rfl) dJ2_add_20 ⟨(Nat.le_of_ble_eq_true rfl), (Nat.le_of_ble_eq_true rfl)⟩ (fun _ _ _ _ _ _ h => h.elim) (fun v9 LL1 H locs hp hw => ?_)
    obtain ⟨rfl, rfl⟩ := hp
    have hw := hw.unapp0
    have hw : Wd D A s.heap _ _ ([[ob a 15 [.int (u + 1), .ref d, .int (nI (xs.length + 1))], (d, aR dT 1 cap (fun i => (xs ++ [x])[i]?))]] ++ EE) := hw
    refine W.eq (g2 := F0 m 23 ls []) rfl ?_
    refine lv_iconst (v := 1) hx hb dJ2_add_23 (by decide) ?_
    exact xr_zret hf hr hlocks hw (Nat.le_of_ble_eq_true rfl) (Nat.le_of_ble_eq_true rfl) rfl ⟨d, rfl, (al_n_room hc)⟩ dJ2_add_24
  · rw [al_gc_full, al_gs_full]
    have hl : lv_has ls 2 [(0, .ref a), (1, .ref x)] := hl
    have hw : Wd D A s.heap s.heap [] ([[ob a 15 [.int u, .ref d, .int (nI xs.length)], (d, aR dT 1 xs.length (fun i => xs[i]?))]] ++ EE) := hw
    refine lv_aload_n hx hb dJ2_add_0 rfl (lv_at hl 0 rfl) ?_
    refine lv_dup hx hb dJ2_add_1 rfl ?_
    refine xr_get hf hK hw 0 0 rfl rfl in_J2 0 (by decide) q106 (u_same (hts _ q105)) rfl dJ2_add_2 ?_
    refine lv_iconst (v := 1) hx hb dJ2_add_5 (by decide) ?_
    refine lv_iadd hx hb dJ2_add_6 ?_
    refine xr_put (LL' := ([[ob a 15 [.int (u + 1), .ref d, .int (nI xs.length)], (d, aR dT 1 xs.length (fun i => xs[i]?))]] ++ EE)) hf hK hw 0 0 rfl rfl in_J2 tyJ2_ok nmJ2 0 (by decide) q106 (u_same (hts _ q105)) rfl rfl rfl (Nat.le_of_ble_eq_true rfl) rfl dJ2_add_7 (fun H locs hw => ?_)
    refine lv_aload_n hx hb dJ2_add_10 rfl (lv_at hl 0 rfl) ?_
    refine lv_aload_n hx hb dJ2_add_11 rfl (lv_at hl 1 rfl) ?_
    refine lv_aload_n hx hb dJ2_add_12 rfl (lv_at hl 0 rfl) ?_
    refine xr_get hf hK hw 0 0 rfl rfl in_J2 1 (by decide) q99 (fun _ h => h) rfl dJ2_add_13 ?_
    refine lv_aload_n hx hb dJ2_add_16 rfl (lv_at hl 0 rfl) ?_
    refine xr_get hf hK hw 0 0 rfl rfl in_J2 2 (by decide) q102 (fun _ h => h) rfl dJ2_add_17 ?_
    refine xc_V (rest := []) (As := [.ref x, .ref d, .int (nI xs.length)]) hf hK hA hAz hst hw.app0 (k_J2_add_2_full l D dT g z0 a d (u + 1) xs x EE h2 h3 hE hE2) (cwV 3 hts (lw_V q136 q138 qs0 q47 q139) rfl rfl rfl (by decide +kernel) ⟨Nat.le_of_ble_eq_true rfl, Nat.le_of_ble_eq_true rfl⟩) (xr_rv hK hw 0 0 rfl rfl) rfl hl.1 rfl (Nat.le_of_ble_eq_true rfl) dJ2_add_20 ⟨(Nat.le_of_ble_eq_true rfl), (by first | omega | (dsimp only; omega))⟩ (fun _ _ _ _ _ _ h => h.elim) (fun v9 LL1 H locs hp hw => ?_)
    obtain ⟨q_1, rfl, rfl⟩ := hp
    have hw := hw.unapp0
    have hw : Wd D A s.heap _ _ ([[ob a 15 [.int (u + 1), .ref q_1, .int (nI (xs.length + 1))], (q_1, aR dT 1 (xs.length + max 1 (xs.length / 2)) (fun i => (xs ++ [x])[i]?))]] ++ EE) := hw
    refine W.eq (g2 := F0 m 23 ls []) rfl ?_
    refine lv_iconst (v := 1) hx hb dJ2_add_23 (by decide) ?_
    exact xr_zret hf hr hlocks hw (Nat.le_of_ble_eq_true rfl) (by first | omega | (dsimp only; omega)) rfl ⟨q_1, rfl, al_n_full⟩ dJ2_add_24

