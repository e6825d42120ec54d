/-! 76.mmany (printed by gen/silk.py) -/
set_option maxRecDepth 100000
set_option maxHeartbeats 4000000 in
theorem wl_mn {p : Program} {l : Launch} {e : Env} {s : State} {m : MethodId} {args : Array Value} {below : List Frame} {meth : Method} {c : Code} {A : Nat → Prop} {Q : State → Prop} {D : va_G} {dT g : Nat → Nat} {z0 mc ms : Nat} (hf : CallFix p m c cX4_manyNow 9 s args lw_all "SilkRowModel") (hK : KK D dT g z0 s s.heap) (hA : ∀ q, s.heap.size ≤ q → A q) (hAz : ∀ q, A q → zA z0 q) (hst : l.stackTraces = false) {S0 : va_W} {x ar kc ks : Nat} {w : Int32} {mt : List (Nat × (Nat → Int32))} {RES : Int32 × Int32 × Int32} (hmt : mt.length = 6) (hmc : kc ≤ mc) (hms : ks ≤ ms) (K75 : ∀ (a1 a2 a3 : Int32) (ls : Array Slot) (H : Heap) (locs : List Loc), RES = (a1, a2, a3) → lv_has ls 9 [(4, .int a3), (3, .int a2), (2, .int a1), (1, .int w), (0, .ref x)] → Wd D A s.heap H locs [[(ar, aR dT 4 6 (fun i => (ads mt)[i]?))], (mt.flatMap mtE), S0] → W p l e ({ frames := 12, cells := mc, slots := ms, locals := 300 }) s m args below meth c H locs kc ks Q (F0 m 75 ls [])) : ∀ (rem dn : List (Nat × (Nat → Int32))) (a1 a2 a3 : Int32) (ls : Array Slot) (H : Heap) (locs : List Loc), mt = dn ++ rem → (mapA cn_f (a1, a2, a3) rem).1 = RES → lv_has ls 9 [(7, .int (nI dn.length)), (6, .int 6), (5, .ref ar), (4, .int a3), (3, .int a2), (2, .int a1), (1, .int w), (0, .ref x)] → Wd D A s.heap H locs [[(ar, aR dT 4 6 (fun i => (ads mt)[i]?))], (mt.flatMap mtE), S0] → W p l e ({ frames := 12, cells := mc, slots := ms, locals := 300 }) s m args below meth c H locs kc ks Q (F0 m 21 ls []) := by
  have hx := hf.1
  have hb := hf.2.1
  have hts := hf.2.2.2.2
  intro rem
  induction rem with
  | nil =>
    intro dn a1 a2 a3 ls H locs hmtl hRES hl hw
    have hN : dn.length = 6 := by rw [← hmt, hmtl, List.append_nil]
    have hw : Wd D A s.heap _ _ [[(ar, aR dT 4 6 (fun i => (ads mt)[i]?))], (mt.flatMap mtE), S0] := hw
    refine lv_iload hx hb dX4_manyNow_21 (lv_at hl 0 rfl) ?_
    refine lv_iload hx hb dX4_manyNow_23 (lv_at hl 1 rfl) ?_
    refine lv_icmp_ge (tgt := 75) hx hb dX4_manyNow_25 (by decide) (fun _ => ?_) (fun c9 => absurd c9 (not_not_intro (nI_le (a := 6) (by omega) (by omega))))
    have hl9 := lv_sub hl [3, 4, 5, 6, 7] rfl
    exact K75 a1 a2 a3 _ _ _ hRES.symm hl9 hw
  | cons q rem ih =>
    intro dn a1 a2 a3 ls H locs hmtl hRES hl hw
    have hN : dn.length + 1 + rem.length = 6 := by rw [← hmt, hmtl, List.length_append, List.length_cons]; omega
    have hg9 : mt[dn.length]? = some q := by rw [hmtl]; exact mid_get
    have hk9 : dn.length < 4096 := by omega
    have hw : Wd D A s.heap _ _ [[(ar, aR dT 4 6 (fun i => (ads mt)[i]?))], (mt.flatMap mtE), S0] := hw
    refine lv_iload hx hb dX4_manyNow_21 (lv_at hl 0 rfl) ?_
    refine lv_iload hx hb dX4_manyNow_23 (lv_at hl 1 rfl) ?_
    refine lv_icmp_ge (tgt := 75) hx hb dX4_manyNow_25 (by decide) (fun c9 => absurd c9 (nI_ge (b := 6) (by omega) (by omega))) (fun _ => ?_)
    refine lv_aload hx hb dX4_manyNow_28 (lv_at hl 2 rfl) ?_
    refine lv_iload hx hb dX4_manyNow_30 (lv_at hl 0 rfl) ?_
    refine xr_aald (r := (some q.1)) hf hK hw 0 0 rfl rfl dn.length (ixp rfl hk9) (ixc rfl hk9) (by have := ads_lt hg9; rw [ads_len] at this; omega) (ads_some hg9) dX4_manyNow_32 ?_
    refine lv_astore (lv' := [(8, .ref q.1), (7, .int (nI dn.length)), (6, .int 6), (5, .ref ar), (4, .int a3), (3, .int a2), (2, .int a1), (1, .int w), (0, .ref x)]) hx hb dX4_manyNow_33 hl (by decide) rfl (fun ls hl => ?_)
    refine lv_iload_n hx hb dX4_manyNow_35 rfl (lv_at hl 6 rfl) ?_
    refine lv_aload hx hb dX4_manyNow_36 (lv_at hl 0 rfl) ?_
    have hw : Wd D A s.heap _ _ [(mt.flatMap mtE), [(ar, aR dT 4 6 (fun i => (ads mt)[i]?))], S0] := hw.pick [1] rfl rfl rfl
    have hw : Wd D A s.heap _ _ [[ob q.1 6 [.int (q.2 0), .int (q.2 1), .int (q.2 2), .int (q.2 3), .int (q.2 4), .int (q.2 5), .int (q.2 6), .int (q.2 7), .int (q.2 8), .int (q.2 9), .int (bz (q.2 10))]], ((mt.eraseIdx dn.length).flatMap mtE), [(ar, aR dT 4 6 (fun i => (ads mt)[i]?))], S0] := hw.foc hg9
    refine xr_get hf hK hw 0 0 rfl rfl in_X7 0 (by decide) q1136 (fun _ h => h) rfl dX4_manyNow_38 ?_
    refine lv_iadd hx hb dX4_manyNow_41 ?_
    refine lv_istore_n (lv' := [(2, .int (a1 + q.2 0)), (8, .ref q.1), (7, .int (nI dn.length)), (6, .int 6), (5, .ref ar), (4, .int a3), (3, .int a2), (1, .int w), (0, .ref x)]) hx hb dX4_manyNow_42 rfl hl (by decide) rfl (fun ls hl => ?_)
    refine lv_iload_n hx hb dX4_manyNow_43 rfl (lv_at hl 6 rfl) ?_
    refine lv_aload hx hb dX4_manyNow_44 (lv_at hl 1 rfl) ?_
    refine xr_get hf hK hw 0 0 rfl rfl in_X7 1 (by decide) q1138 (fun _ h => h) rfl dX4_manyNow_46 ?_
    refine lv_iadd hx hb dX4_manyNow_49 ?_
    refine lv_istore_n (lv' := [(3, .int (a2 + q.2 1)), (2, .int (a1 + q.2 0)), (8, .ref q.1), (7, .int (nI dn.length)), (6, .int 6), (5, .ref ar), (4, .int a3), (1, .int w), (0, .ref x)]) hx hb dX4_manyNow_50 rfl hl (by decide) rfl (fun ls hl => ?_)
    refine lv_iload hx hb dX4_manyNow_51 (lv_at hl 6 rfl) ?_
    refine lv_aload hx hb dX4_manyNow_53 (lv_at hl 2 rfl) ?_
    refine xr_get hf hK hw 0 0 rfl rfl in_X7 10 (by decide) q1156 (fun _ h => h) rfl dX4_manyNow_55 ?_
    refine lv_if_eq (tgt := 65) hx hb dX4_manyNow_58 (by decide) (fun c_58 => ?_) (fun c_58 => ?_)
    · refine lv_iconst (v := 0) hx hb dX4_manyNow_65 (by decide) ?_
      refine lv_iadd hx hb dX4_manyNow_66 ?_
      refine lv_istore (lv' := [(4, .int (a3 + 0)), (3, .int (a2 + q.2 1)), (2, .int (a1 + q.2 0)), (8, .ref q.1), (7, .int (nI dn.length)), (6, .int 6), (5, .ref ar), (1, .int w), (0, .ref x)]) hx hb dX4_manyNow_67 hl (by decide) rfl (fun ls hl => ?_)
      refine lv_iinc (v := (nI (dn.length + 1))) (lv' := [(7, .int (nI (dn.length + 1))), (4, .int (a3 + 0)), (3, .int (a2 + q.2 1)), (2, .int (a1 + q.2 0)), (8, .ref q.1), (6, .int 6), (5, .ref ar), (1, .int w), (0, .ref x)]) hx hb dX4_manyNow_69 hl (k := 4) rfl (nI_1 _) (by decide) rfl (fun ls hl => ?_)
      refine lv_goto (tgt := 21) hx hb dX4_manyNow_72 (by decide) ?_
      have hw : Wd D A s.heap _ _ [(mt.flatMap mtE), [(ar, aR dT 4 6 (fun i => (ads mt)[i]?))], S0] := Wd.unf0 (q := q) (L := mt) (k := dn.length) hw hg9
      have hw : Wd D A s.heap _ _ [[(ar, aR dT 4 6 (fun i => (ads mt)[i]?))], (mt.flatMap mtE), S0] := Wd.take hw [1, 0, 0] rfl rfl
      have hlen9 : dn.length + 1 = (dn ++ [q]).length := by simp
      have hl9 := lv_sub hl [0, 5, 6, 1, 2, 3, 7, 8] rfl
      rw [hlen9] at hl9
      have hRES2 : (mapA cn_f (a1 + q.2 0, a2 + q.2 1, a3 + f_X1_one (q.2 10)) rem).1 = RES := hRES
      rw [one_f c_58] at hRES2
      exact ih (dn ++ [q]) _ _ _ _ _ _ (by rw [hmtl, List.append_assoc]; rfl) hRES2 hl9 hw
    · refine lv_iconst (v := 1) hx hb dX4_manyNow_61 (by decide) ?_
      refine lv_goto (tgt := 66) hx hb dX4_manyNow_62 (by decide) ?_
      refine lv_iadd hx hb dX4_manyNow_66 ?_
      refine lv_istore (lv' := [(4, .int (a3 + 1)), (3, .int (a2 + q.2 1)), (2, .int (a1 + q.2 0)), (8, .ref q.1), (7, .int (nI dn.length)), (6, .int 6), (5, .ref ar), (1, .int w), (0, .ref x)]) hx hb dX4_manyNow_67 hl (by decide) rfl (fun ls hl => ?_)
      refine lv_iinc (v := (nI (dn.length + 1))) (lv' := [(7, .int (nI (dn.length + 1))), (4, .int (a3 + 1)), (3, .int (a2 + q.2 1)), (2, .int (a1 + q.2 0)), (8, .ref q.1), (6, .int 6), (5, .ref ar), (1, .int w), (0, .ref x)]) hx hb dX4_manyNow_69 hl (k := 4) rfl (nI_1 _) (by decide) rfl (fun ls hl => ?_)
      refine lv_goto (tgt := 21) hx hb dX4_manyNow_72 (by decide) ?_
      have hw : Wd D A s.heap _ _ [(mt.flatMap mtE), [(ar, aR dT 4 6 (fun i => (ads mt)[i]?))], S0] := Wd.unf0 (q := q) (L := mt) (k := dn.length) hw hg9
      have hw : Wd D A s.heap _ _ [[(ar, aR dT 4 6 (fun i => (ads mt)[i]?))], (mt.flatMap mtE), S0] := Wd.take hw [1, 0, 0] rfl rfl
      have hlen9 : dn.length + 1 = (dn ++ [q]).length := by simp
      have hl9 := lv_sub hl [0, 5, 6, 1, 2, 3, 7, 8] rfl
      rw [hlen9] at hl9
      have hRES2 : (mapA cn_f (a1 + q.2 0, a2 + q.2 1, a3 + f_X1_one (q.2 10)) rem).1 = RES := hRES
      rw [one_t c_58] at hRES2
      exact ih (dn ++ [q]) _ _ _ _ _ _ (by rw [hmtl, List.append_assoc]; rfl) hRES2 hl9 hw
set_option maxHeartbeats 4000000 in
theorem k_X4_manyNow (l : Launch) (D : va_G) (dT g : Nat → Nat) (z0 : Nat) (x : Nat) (th : Int32) (L : Nat → Nat) (sc : Nat → Int32) (mt : List (Nat × (Nat → Int32))) (u0 : Int32) (w0 : Value) (T0 : va_W) (u3 : Int32) (w3 : Value) (T3 : va_W) (u5 : Int32) (w5 : Value) (T5 : va_W) (np : Nat) (nl : Nat) (ns : Nat) (w : Int32) (hmt : mt.length = 6) (hin : ¬ (w < 0 ∨ 11 < w)) : Con l D dT g z0 yX4_manyNow (ws_ yX4_manyNow cX4_manyNow 9 (some .int)) ({ frames := 12, cells := 1, slots := 12, locals := 300 }) [.ref x, .int w] [[ob x 3 [.int th, .ref (L 0), .ref (L 1), .ref (L 2), .ref (L 3), .ref (L 4), .ref (L 5), .int (sc 0), .int (bz (sc 1)), .int (sc 2), .int (sc 3), .int (sc 4), .int (sc 5), .int (sc 6)]], [((L 2), aR dT 4 6 (fun i => (ads mt)[i]?))], (mt.flatMap mtE), ((ob (L 0) 15 [.int u0, w0, .int (nI np)]) :: T0), ((ob (L 3) 15 [.int u3, w3, .int (nI nl)]) :: T3), ((ob (L 5) 15 [.int u5, w5, .int (nI ns)]) :: T5)] (fun r LL => r = some (.int (cn_all np nl ns sc (cn_tr mt) w)) ∧ LL = [[ob x 3 [.int th, .ref (L 0), .ref (L 1), .ref (L 2), .ref (L 3), .ref (L 4), .ref (L 5), .int (sc 0), .int (bz (sc 1)), .int (sc 2), .int (sc 3), .int (sc 4), .int (sc 5), .int (sc 6)]], [((L 2), aR dT 4 6 (fun i => (ads mt)[i]?))], (mt.flatMap mtE), ((ob (L 0) 15 [.int u0, w0, .int (nI np)]) :: T0), ((ob (L 3) 15 [.int u3, w3, .int (nI nl)]) :: T3), ((ob (L 5) 15 [.int u5, w5, .int (nI ns)]) :: T5)]) noX 1 12 := by
  refine Con.of (maxL := 9) (ret := (some .int)) (by first | exact plainFor_of_name (by decide) | decide +kernel) (Nat.le_of_ble_eq_true rfl) ?_
  intro p e s m args below meth c A ls hf hr hlocks hnm hno hK hA hAz hw hl hst
  have hf : CallFix p m c cX4_manyNow 9 s args lw_all "SilkRowModel" := hf
  have hnm : meth.name = "manyNow" := hnm
  have hx := hf.1
  have hb := hf.2.1
  have hts := hf.2.2.2.2
  have hl : lv_has ls 9 [(0, .ref x), (1, .int w)] := hl
  have hw : Wd D A s.heap s.heap [] [[ob x 3 [.int th, .ref (L 0), .ref (L 1), .ref (L 2), .ref (L 3), .ref (L 4), .ref (L 5), .int (sc 0), .int (bz (sc 1)), .int (sc 2), .int (sc 3), .int (sc 4), .int (sc 5), .int (sc 6)]], [((L 2), aR dT 4 6 (fun i => (ads mt)[i]?))], (mt.flatMap mtE), ((ob (L 0) 15 [.int u0, w0, .int (nI np)]) :: T0), ((ob (L 3) 15 [.int u3, w3, .int (nI nl)]) :: T3), ((ob (L 5) 15 [.int u5, w5, .int (nI ns)]) :: T5)] := hw
  refine lv_iconst (v := 0) hx hb dX4_manyNow_0 (by decide) ?_
  refine lv_istore_n (lv' := [(2, .int 0), (0, .ref x), (1, .int w)]) hx hb dX4_manyNow_1 rfl hl (by decide) rfl (fun ls hl => ?_)
  refine lv_iconst (v := 0) hx hb dX4_manyNow_2 (by decide) ?_
  refine lv_istore_n (lv' := [(3, .int 0), (2, .int 0), (0, .ref x), (1, .int w)]) hx hb dX4_manyNow_3 rfl hl (by decide) rfl (fun ls hl => ?_)
  refine lv_iconst (v := 0) hx hb dX4_manyNow_4 (by decide) ?_
  refine lv_istore (lv' := [(4, .int 0), (3, .int 0), (2, .int 0), (0, .ref x), (1, .int w)]) hx hb dX4_manyNow_5 hl (by decide) rfl (fun ls hl => ?_)
  refine lv_aload_n hx hb dX4_manyNow_7 rfl (lv_at hl 3 rfl) ?_
  refine xr_get hf hK hw 0 0 rfl rfl in_X4 3 (by decide) q1183 (fun _ h => h) rfl dX4_manyNow_8 ?_
  refine lv_astore (lv' := [(5, .ref (L 2)), (4, .int 0), (3, .int 0), (2, .int 0), (0, .ref x), (1, .int w)]) hx hb dX4_manyNow_11 hl (by decide) rfl (fun ls hl => ?_)
  refine lv_aload hx hb dX4_manyNow_13 (lv_at hl 0 rfl) ?_
  refine xr_rlen (v := nI 6) hf hK hw 1 0 rfl rfl rfl dX4_manyNow_15 ?_
  refine lv_istore (lv' := [(6, .int (nI 6)), (5, .ref (L 2)), (4, .int 0), (3, .int 0), (2, .int 0), (0, .ref x), (1, .int w)]) hx hb dX4_manyNow_16 hl (by decide) rfl (fun ls hl => ?_)
  refine lv_iconst (v := 0) hx hb dX4_manyNow_18 (by decide) ?_
  refine lv_istore (lv' := [(7, .int 0), (6, .int (nI 6)), (5, .ref (L 2)), (4, .int 0), (3, .int 0), (2, .int 0), (0, .ref x), (1, .int w)]) hx hb dX4_manyNow_19 hl (by decide) rfl (fun ls hl => ?_)
  have hw : Wd D A s.heap _ _ [[((L 2), aR dT 4 6 (fun i => (ads mt)[i]?))], (mt.flatMap mtE), [ob x 3 [.int th, .ref (L 0), .ref (L 1), .ref (L 2), .ref (L 3), .ref (L 4), .ref (L 5), .int (sc 0), .int (bz (sc 1)), .int (sc 2), .int (sc 3), .int (sc 4), .int (sc 5), .int (sc 6)]], ((ob (L 0) 15 [.int u0, w0, .int (nI np)]) :: T0), ((ob (L 3) 15 [.int u3, w3, .int (nI nl)]) :: T3), ((ob (L 5) 15 [.int u5, w5, .int (nI ns)]) :: T5)] := Wd.take hw [1, 1, 0, 0, 0, 0] rfl rfl
  have hl9 := lv_sub hl [0, 1, 2, 3, 4, 5, 7, 6] rfl
  have hw : Wd D A s.heap _ _ [[((L 2), aR dT 4 6 (fun i => (ads mt)[i]?))], (mt.flatMap mtE), ([ob x 3 [.int th, .ref (L 0), .ref (L 1), .ref (L 2), .ref (L 3), .ref (L 4), .ref (L 5), .int (sc 0), .int (bz (sc 1)), .int (sc 2), .int (sc 3), .int (sc 4), .int (sc 5), .int (sc 6)]] ++ (((ob (L 0) 15 [.int u0, w0, .int (nI np)]) :: T0) ++ (((ob (L 3) 15 [.int u3, w3, .int (nI nl)]) :: T3) ++ ((ob (L 5) 15 [.int u5, w5, .int (nI ns)]) :: T5))))] := hw.eq (by simp [List.append_assoc])
  refine wl_mn (RES := cn_tr mt) hf hK hA hAz hst hmt (Nat.le_of_ble_eq_true rfl) (Nat.le_of_ble_eq_true rfl) ?_ mt [] 0 0 0 _ _ _ rfl rfl hl9 hw
  intro a1 a2 a3 ls H locs hcn hl hw
  have hw : Wd D A s.heap _ _ [[((L 2), aR dT 4 6 (fun i => (ads mt)[i]?))], (mt.flatMap mtE), [ob x 3 [.int th, .ref (L 0), .ref (L 1), .ref (L 2), .ref (L 3), .ref (L 4), .ref (L 5), .int (sc 0), .int (bz (sc 1)), .int (sc 2), .int (sc 3), .int (sc 4), .int (sc 5), .int (sc 6)]], ((ob (L 0) 15 [.int u0, w0, .int (nI np)]) :: T0), ((ob (L 3) 15 [.int u3, w3, .int (nI nl)]) :: T3), ((ob (L 5) 15 [.int u5, w5, .int (nI ns)]) :: T5)] := hw.eq (by simp [List.append_assoc])
  refine lv_bipush (v := 12) hx hb dX4_manyNow_75 (by decide) ?_
  refine xr_newi hf hK hw hA q463 (N := 12) (by decide) (by decide) (Nat.le_of_ble_eq_true rfl) (Nat.le_of_ble_eq_true rfl) (Nat.le_of_ble_eq_true rfl) dX4_manyNow_77 (fun qa1 H hw => ?_)
  have hw : Wd D A s.heap _ _ [[((L 2), aR dT 4 6 (fun i => (ads mt)[i]?))], (mt.flatMap mtE), [ob x 3 [.int th, .ref (L 0), .ref (L 1), .ref (L 2), .ref (L 3), .ref (L 4), .ref (L 5), .int (sc 0), .int (bz (sc 1)), .int (sc 2), .int (sc 3), .int (sc 4), .int (sc 5), .int (sc 6)]], ((ob (L 0) 15 [.int u0, w0, .int (nI np)]) :: T0), ((ob (L 3) 15 [.int u3, w3, .int (nI nl)]) :: T3), ((ob (L 5) 15 [.int u5, w5, .int (nI ns)]) :: T5), [(qa1, aI dT [0, 0, 0, 0, 0, 0, 0, 0, 0, 0, 0, 0])]] := hw
  refine lv_dup hx hb dX4_manyNow_79 rfl ?_
  refine lv_iconst (v := 0) hx hb dX4_manyNow_80 (by decide) ?_
  refine lv_aload_n hx hb dX4_manyNow_81 rfl (lv_at hl 4 rfl) ?_
  refine xr_get hf hK hw 2 0 rfl rfl in_X4 1 (by decide) q1181 (fun _ h => h) rfl dX4_manyNow_82 ?_
  refine xc_V (rest := [.int 0, .ref qa1, .ref qa1]) (As := []) hf hK hA hAz hst (hw.pick [3] rfl rfl rfl) (k_J2_size l D dT g z0 (L 0) u0 (nI np) (w0) (T0)) (cwV 0 hts (lw_V q1242 q359 q360 q47 q361) rfl rfl rfl (by decide +kernel) ⟨Nat.le_of_ble_eq_true rfl, Nat.le_of_ble_eq_true rfl⟩) (xr_rv hK hw 3 0 rfl rfl) rfl hl.1 rfl (Nat.le_of_ble_eq_true rfl) dX4_manyNow_85 ⟨(Nat.le_of_ble_eq_true rfl), (Nat.le_of_ble_eq_true rfl)⟩ (fun _ _ _ _ _ _ h => h.elim) (fun v9 LL1 H locs hp hw => ?_)
  obtain ⟨rfl, rfl⟩ := hp
  have hw : Wd D A s.heap _ _ [((ob (L 0) 15 [.int u0, w0, .int (nI np)]) :: T0), [((L 2), aR dT 4 6 (fun i => (ads mt)[i]?))], (mt.flatMap mtE), [ob x 3 [.int th, .ref (L 0), .ref (L 1), .ref (L 2), .ref (L 3), .ref (L 4), .ref (L 5), .int (sc 0), .int (bz (sc 1)), .int (sc 2), .int (sc 3), .int (sc 4), .int (sc 5), .int (sc 6)]], ((ob (L 3) 15 [.int u3, w3, .int (nI nl)]) :: T3), ((ob (L 5) 15 [.int u5, w5, .int (nI ns)]) :: T5), [(qa1, aI dT [0, 0, 0, 0, 0, 0, 0, 0, 0, 0, 0, 0])]] := hw
  refine W.eq (g2 := F0 m 88 ls [.int (nI np), .int 0, .ref qa1, .ref qa1]) rfl ?_
  refine xr_iast (LL' := [((ob (L 0) 15 [.int u0, w0, .int (nI np)]) :: T0), [((L 2), aR dT 4 6 (fun i => (ads mt)[i]?))], (mt.flatMap mtE), [ob x 3 [.int th, .ref (L 0), .ref (L 1), .ref (L 2), .ref (L 3), .ref (L 4), .ref (L 5), .int (sc 0), .int (bz (sc 1)), .int (sc 2), .int (sc 3), .int (sc 4), .int (sc 5), .int (sc 6)]], ((ob (L 3) 15 [.int u3, w3, .int (nI nl)]) :: T3), ((ob (L 5) 15 [.int u5, w5, .int (nI ns)]) :: T5), [(qa1, aI dT [(nI np), 0, 0, 0, 0, 0, 0, 0, 0, 0, 0, 0])]]) hf hK hw 6 0 rfl 0 (by decide) (by decide) (Nat.le_of_ble_eq_true rfl) rfl dX4_manyNow_88 (fun H locs hw => ?_)
  refine lv_dup hx hb dX4_manyNow_89 rfl ?_
  refine lv_iconst (v := 1) hx hb dX4_manyNow_90 (by decide) ?_
  refine lv_aload_n hx hb dX4_manyNow_91 rfl (lv_at hl 4 rfl) ?_
  refine xr_get hf hK hw 3 0 rfl rfl in_X4 7 (by decide) q1187 (fun _ h => h) rfl dX4_manyNow_92 ?_
  refine xr_iast (LL' := [((ob (L 0) 15 [.int u0, w0, .int (nI np)]) :: T0), [((L 2), aR dT 4 6 (fun i => (ads mt)[i]?))], (mt.flatMap mtE), [ob x 3 [.int th, .ref (L 0), .ref (L 1), .ref (L 2), .ref (L 3), .ref (L 4), .ref (L 5), .int (sc 0), .int (bz (sc 1)), .int (sc 2), .int (sc 3), .int (sc 4), .int (sc 5), .int (sc 6)]], ((ob (L 3) 15 [.int u3, w3, .int (nI nl)]) :: T3), ((ob (L 5) 15 [.int u5, w5, .int (nI ns)]) :: T5), [(qa1, aI dT [(nI np), (sc 0), 0, 0, 0, 0, 0, 0, 0, 0, 0, 0])]]) hf hK hw 6 0 rfl 1 (by decide) (by decide) (Nat.le_of_ble_eq_true rfl) rfl dX4_manyNow_95 (fun H locs hw => ?_)
  refine lv_dup hx hb dX4_manyNow_96 rfl ?_
  refine lv_iconst (v := 2) hx hb dX4_manyNow_97 (by decide) ?_
  refine lv_aload_n hx hb dX4_manyNow_98 rfl (lv_at hl 4 rfl) ?_
  refine xr_get hf hK hw 3 0 rfl rfl in_X4 9 (by decide) q1189 (fun _ h => h) rfl dX4_manyNow_99 ?_
  refine xr_iast (LL' := [((ob (L 0) 15 [.int u0, w0, .int (nI np)]) :: T0), [((L 2), aR dT 4 6 (fun i => (ads mt)[i]?))], (mt.flatMap mtE), [ob x 3 [.int th, .ref (L 0), .ref (L 1), .ref (L 2), .ref (L 3), .ref (L 4), .ref (L 5), .int (sc 0), .int (bz (sc 1)), .int (sc 2), .int (sc 3), .int (sc 4), .int (sc 5), .int (sc 6)]], ((ob (L 3) 15 [.int u3, w3, .int (nI nl)]) :: T3), ((ob (L 5) 15 [.int u5, w5, .int (nI ns)]) :: T5), [(qa1, aI dT [(nI np), (sc 0), (sc 2), 0, 0, 0, 0, 0, 0, 0, 0, 0])]]) hf hK hw 6 0 rfl 2 (by decide) (by decide) (Nat.le_of_ble_eq_true rfl) rfl dX4_manyNow_102 (fun H locs hw => ?_)
  refine lv_dup hx hb dX4_manyNow_103 rfl ?_
  refine lv_iconst (v := 3) hx hb dX4_manyNow_104 (by decide) ?_
  refine lv_aload_n hx hb dX4_manyNow_105 rfl (lv_at hl 4 rfl) ?_
  refine xr_get hf hK hw 3 0 rfl rfl in_X4 10 (by decide) q1190 (fun _ h => h) rfl dX4_manyNow_106 ?_
  refine xr_iast (LL' := [((ob (L 0) 15 [.int u0, w0, .int (nI np)]) :: T0), [((L 2), aR dT 4 6 (fun i => (ads mt)[i]?))], (mt.flatMap mtE), [ob x 3 [.int th, .ref (L 0), .ref (L 1), .ref (L 2), .ref (L 3), .ref (L 4), .ref (L 5), .int (sc 0), .int (bz (sc 1)), .int (sc 2), .int (sc 3), .int (sc 4), .int (sc 5), .int (sc 6)]], ((ob (L 3) 15 [.int u3, w3, .int (nI nl)]) :: T3), ((ob (L 5) 15 [.int u5, w5, .int (nI ns)]) :: T5), [(qa1, aI dT [(nI np), (sc 0), (sc 2), (sc 3), 0, 0, 0, 0, 0, 0, 0, 0])]]) hf hK hw 6 0 rfl 3 (by decide) (by decide) (Nat.le_of_ble_eq_true rfl) rfl dX4_manyNow_109 (fun H locs hw => ?_)
  refine lv_dup hx hb dX4_manyNow_110 rfl ?_
  refine lv_iconst (v := 4) hx hb dX4_manyNow_111 (by decide) ?_
  refine lv_iload_n hx hb dX4_manyNow_112 rfl (lv_at hl 2 rfl) ?_
  refine xr_iast (LL' := [((ob (L 0) 15 [.int u0, w0, .int (nI np)]) :: T0), [((L 2), aR dT 4 6 (fun i => (ads mt)[i]?))], (mt.flatMap mtE), [ob x 3 [.int th, .ref (L 0), .ref (L 1), .ref (L 2), .ref (L 3), .ref (L 4), .ref (L 5), .int (sc 0), .int (bz (sc 1)), .int (sc 2), .int (sc 3), .int (sc 4), .int (sc 5), .int (sc 6)]], ((ob (L 3) 15 [.int u3, w3, .int (nI nl)]) :: T3), ((ob (L 5) 15 [.int u5, w5, .int (nI ns)]) :: T5), [(qa1, aI dT [(nI np), (sc 0), (sc 2), (sc 3), a1, 0, 0, 0, 0, 0, 0, 0])]]) hf hK hw 6 0 rfl 4 (by decide) (by decide) (Nat.le_of_ble_eq_true rfl) rfl dX4_manyNow_113 (fun H locs hw => ?_)
  refine lv_dup hx hb dX4_manyNow_114 rfl ?_
  refine lv_iconst (v := 5) hx hb dX4_manyNow_115 (by decide) ?_
  refine lv_iload_n hx hb dX4_manyNow_116 rfl (lv_at hl 1 rfl) ?_
  refine xr_iast (LL' := [((ob (L 0) 15 [.int u0, w0, .int (nI np)]) :: T0), [((L 2), aR dT 4 6 (fun i => (ads mt)[i]?))], (mt.flatMap mtE), [ob x 3 [.int th, .ref (L 0), .ref (L 1), .ref (L 2), .ref (L 3), .ref (L 4), .ref (L 5), .int (sc 0), .int (bz (sc 1)), .int (sc 2), .int (sc 3), .int (sc 4), .int (sc 5), .int (sc 6)]], ((ob (L 3) 15 [.int u3, w3, .int (nI nl)]) :: T3), ((ob (L 5) 15 [.int u5, w5, .int (nI ns)]) :: T5), [(qa1, aI dT [(nI np), (sc 0), (sc 2), (sc 3), a1, a2, 0, 0, 0, 0, 0, 0])]]) hf hK hw 6 0 rfl 5 (by decide) (by decide) (Nat.le_of_ble_eq_true rfl) rfl dX4_manyNow_117 (fun H locs hw => ?_)
  refine lv_dup hx hb dX4_manyNow_118 rfl ?_
  refine lv_bipush (v := 6) hx hb dX4_manyNow_119 (by decide) ?_
  refine lv_aload_n hx hb dX4_manyNow_121 rfl (lv_at hl 4 rfl) ?_
  refine xr_get hf hK hw 3 0 rfl rfl in_X4 11 (by decide) q1191 (fun _ h => h) rfl dX4_manyNow_122 ?_
  refine xr_iast (LL' := [((ob (L 0) 15 [.int u0, w0, .int (nI np)]) :: T0), [((L 2), aR dT 4 6 (fun i => (ads mt)[i]?))], (mt.flatMap mtE), [ob x 3 [.int th, .ref (L 0), .ref (L 1), .ref (L 2), .ref (L 3), .ref (L 4), .ref (L 5), .int (sc 0), .int (bz (sc 1)), .int (sc 2), .int (sc 3), .int (sc 4), .int (sc 5), .int (sc 6)]], ((ob (L 3) 15 [.int u3, w3, .int (nI nl)]) :: T3), ((ob (L 5) 15 [.int u5, w5, .int (nI ns)]) :: T5), [(qa1, aI dT [(nI np), (sc 0), (sc 2), (sc 3), a1, a2, (sc 4), 0, 0, 0, 0, 0])]]) hf hK hw 6 0 rfl 6 (by decide) (by decide) (Nat.le_of_ble_eq_true rfl) rfl dX4_manyNow_125 (fun H locs hw => ?_)
  refine lv_dup hx hb dX4_manyNow_126 rfl ?_
  refine lv_bipush (v := 7) hx hb dX4_manyNow_127 (by decide) ?_
  refine lv_aload_n hx hb dX4_manyNow_129 rfl (lv_at hl 4 rfl) ?_
  refine xr_get hf hK hw 3 0 rfl rfl in_X4 4 (by decide) q1184 (fun _ h => h) rfl dX4_manyNow_130 ?_
  refine xc_V (rest := [.int 7, .ref qa1, .ref qa1]) (As := []) hf hK hA hAz hst (hw.pick [4] rfl rfl rfl) (k_J2_size l D dT g z0 (L 3) u3 (nI nl) (w3) (T3)) (cwV 0 hts (lw_V q1242 q359 q360 q47 q361) rfl rfl rfl (by decide +kernel) ⟨Nat.le_of_ble_eq_true rfl, Nat.le_of_ble_eq_true rfl⟩) (xr_rv hK hw 4 0 rfl rfl) rfl hl.1 rfl (Nat.le_of_ble_eq_true rfl) dX4_manyNow_133 ⟨(Nat.le_of_ble_eq_true rfl), (Nat.le_of_ble_eq_true rfl)⟩ (fun _ _ _ _ _ _ h => h.elim) (fun v9 LL1 H locs hp hw => ?_)
  obtain ⟨rfl, rfl⟩ := hp
  have hw : Wd D A s.heap _ _ [((ob (L 3) 15 [.int u3, w3, .int (nI nl)]) :: T3), ((ob (L 0) 15 [.int u0, w0, .int (nI np)]) :: T0), [((L 2), aR dT 4 6 (fun i => (ads mt)[i]?))], (mt.flatMap mtE), [ob x 3 [.int th, .ref (L 0), .ref (L 1), .ref (L 2), .ref (L 3), .ref (L 4), .ref (L 5), .int (sc 0), .int (bz (sc 1)), .int (sc 2), .int (sc 3), .int (sc 4), .int (sc 5), .int (sc 6)]], ((ob (L 5) 15 [.int u5, w5, .int (nI ns)]) :: T5), [(qa1, aI dT [(nI np), (sc 0), (sc 2), (sc 3), a1, a2, (sc 4), 0, 0, 0, 0, 0])]] := hw
  refine W.eq (g2 := F0 m 136 ls [.int (nI nl), .int 7, .ref qa1, .ref qa1]) rfl ?_
  refine xr_iast (LL' := [((ob (L 3) 15 [.int u3, w3, .int (nI nl)]) :: T3), ((ob (L 0) 15 [.int u0, w0, .int (nI np)]) :: T0), [((L 2), aR dT 4 6 (fun i => (ads mt)[i]?))], (mt.flatMap mtE), [ob x 3 [.int th, .ref (L 0), .ref (L 1), .ref (L 2), .ref (L 3), .ref (L 4), .ref (L 5), .int (sc 0), .int (bz (sc 1)), .int (sc 2), .int (sc 3), .int (sc 4), .int (sc 5), .int (sc 6)]], ((ob (L 5) 15 [.int u5, w5, .int (nI ns)]) :: T5), [(qa1, aI dT [(nI np), (sc 0), (sc 2), (sc 3), a1, a2, (sc 4), (nI nl), 0, 0, 0, 0])]]) hf hK hw 6 0 rfl 7 (by decide) (by decide) (Nat.le_of_ble_eq_true rfl) rfl dX4_manyNow_136 (fun H locs hw => ?_)
  refine lv_dup hx hb dX4_manyNow_137 rfl ?_
  refine lv_bipush (v := 8) hx hb dX4_manyNow_138 (by decide) ?_
  refine lv_aload_n hx hb dX4_manyNow_140 rfl (lv_at hl 4 rfl) ?_
  refine xr_get hf hK hw 4 0 rfl rfl in_X4 6 (by decide) q1186 (fun _ h => h) rfl dX4_manyNow_141 ?_
  refine xc_V (rest := [.int 8, .ref qa1, .ref qa1]) (As := []) hf hK hA hAz hst (hw.pick [5] rfl rfl rfl) (k_J2_size l D dT g z0 (L 5) u5 (nI ns) (w5) (T5)) (cwV 0 hts (lw_V q1242 q359 q360 q47 q361) rfl rfl rfl (by decide +kernel) ⟨Nat.le_of_ble_eq_true rfl, Nat.le_of_ble_eq_true rfl⟩) (xr_rv hK hw 5 0 rfl rfl) rfl hl.1 rfl (Nat.le_of_ble_eq_true rfl) dX4_manyNow_144 ⟨(Nat.le_of_ble_eq_true rfl), (Nat.le_of_ble_eq_true rfl)⟩ (fun _ _ _ _ _ _ h => h.elim) (fun v9 LL1 H locs hp hw => ?_)
  obtain ⟨rfl, rfl⟩ := hp
  have hw : Wd D A s.heap _ _ [((ob (L 5) 15 [.int u5, w5, .int (nI ns)]) :: T5), ((ob (L 3) 15 [.int u3, w3, .int (nI nl)]) :: T3), ((ob (L 0) 15 [.int u0, w0, .int (nI np)]) :: T0), [((L 2), aR dT 4 6 (fun i => (ads mt)[i]?))], (mt.flatMap mtE), [ob x 3 [.int th, .ref (L 0), .ref (L 1), .ref (L 2), .ref (L 3), .ref (L 4), .ref (L 5), .int (sc 0), .int (bz (sc 1)), .int (sc 2), .int (sc 3), .int (sc 4), .int (sc 5), .int (sc 6)]], [(qa1, aI dT [(nI np), (sc 0), (sc 2), (sc 3), a1, a2, (sc 4), (nI nl), 0, 0, 0, 0])]] := hw
  refine W.eq (g2 := F0 m 147 ls [.int (nI ns), .int 8, .ref qa1, .ref qa1]) rfl ?_
  refine xr_iast (LL' := [((ob (L 5) 15 [.int u5, w5, .int (nI ns)]) :: T5), ((ob (L 3) 15 [.int u3, w3, .int (nI nl)]) :: T3), ((ob (L 0) 15 [.int u0, w0, .int (nI np)]) :: T0), [((L 2), aR dT 4 6 (fun i => (ads mt)[i]?))], (mt.flatMap mtE), [ob x 3 [.int th, .ref (L 0), .ref (L 1), .ref (L 2), .ref (L 3), .ref (L 4), .ref (L 5), .int (sc 0), .int (bz (sc 1)), .int (sc 2), .int (sc 3), .int (sc 4), .int (sc 5), .int (sc 6)]], [(qa1, aI dT [(nI np), (sc 0), (sc 2), (sc 3), a1, a2, (sc 4), (nI nl), (nI ns), 0, 0, 0])]]) hf hK hw 6 0 rfl 8 (by decide) (by decide) (Nat.le_of_ble_eq_true rfl) rfl dX4_manyNow_147 (fun H locs hw => ?_)
  refine lv_dup hx hb dX4_manyNow_148 rfl ?_
  refine lv_bipush (v := 9) hx hb dX4_manyNow_149 (by decide) ?_
  refine lv_aload_n hx hb dX4_manyNow_151 rfl (lv_at hl 4 rfl) ?_
  refine xr_get hf hK hw 5 0 rfl rfl in_X4 12 (by decide) q1192 (fun _ h => h) rfl dX4_manyNow_152 ?_
  refine xr_iast (LL' := [((ob (L 5) 15 [.int u5, w5, .int (nI ns)]) :: T5), ((ob (L 3) 15 [.int u3, w3, .int (nI nl)]) :: T3), ((ob (L 0) 15 [.int u0, w0, .int (nI np)]) :: T0), [((L 2), aR dT 4 6 (fun i => (ads mt)[i]?))], (mt.flatMap mtE), [ob x 3 [.int th, .ref (L 0), .ref (L 1), .ref (L 2), .ref (L 3), .ref (L 4), .ref (L 5), .int (sc 0), .int (bz (sc 1)), .int (sc 2), .int (sc 3), .int (sc 4), .int (sc 5), .int (sc 6)]], [(qa1, aI dT [(nI np), (sc 0), (sc 2), (sc 3), a1, a2, (sc 4), (nI nl), (nI ns), (sc 5), 0, 0])]]) hf hK hw 6 0 rfl 9 (by decide) (by decide) (Nat.le_of_ble_eq_true rfl) rfl dX4_manyNow_155 (fun H locs hw => ?_)
  refine lv_dup hx hb dX4_manyNow_156 rfl ?_
  refine lv_bipush (v := 10) hx hb dX4_manyNow_157 (by decide) ?_
  refine lv_aload_n hx hb dX4_manyNow_159 rfl (lv_at hl 4 rfl) ?_
  refine xr_get hf hK hw 5 0 rfl rfl in_X4 13 (by decide) q1193 (fun _ h => h) rfl dX4_manyNow_160 ?_
  refine xr_iast (LL' := [((ob (L 5) 15 [.int u5, w5, .int (nI ns)]) :: T5), ((ob (L 3) 15 [.int u3, w3, .int (nI nl)]) :: T3), ((ob (L 0) 15 [.int u0, w0, .int (nI np)]) :: T0), [((L 2), aR dT 4 6 (fun i => (ads mt)[i]?))], (mt.flatMap mtE), [ob x 3 [.int th, .ref (L 0), .ref (L 1), .ref (L 2), .ref (L 3), .ref (L 4), .ref (L 5), .int (sc 0), .int (bz (sc 1)), .int (sc 2), .int (sc 3), .int (sc 4), .int (sc 5), .int (sc 6)]], [(qa1, aI dT [(nI np), (sc 0), (sc 2), (sc 3), a1, a2, (sc 4), (nI nl), (nI ns), (sc 5), (sc 6), 0])]]) hf hK hw 6 0 rfl 10 (by decide) (by decide) (Nat.le_of_ble_eq_true rfl) rfl dX4_manyNow_163 (fun H locs hw => ?_)
  refine lv_dup hx hb dX4_manyNow_164 rfl ?_
  refine lv_bipush (v := 11) hx hb dX4_manyNow_165 (by decide) ?_
  refine lv_iload hx hb dX4_manyNow_167 (lv_at hl 0 rfl) ?_
  refine xr_iast (LL' := [((ob (L 5) 15 [.int u5, w5, .int (nI ns)]) :: T5), ((ob (L 3) 15 [.int u3, w3, .int (nI nl)]) :: T3), ((ob (L 0) 15 [.int u0, w0, .int (nI np)]) :: T0), [((L 2), aR dT 4 6 (fun i => (ads mt)[i]?))], (mt.flatMap mtE), [ob x 3 [.int th, .ref (L 0), .ref (L 1), .ref (L 2), .ref (L 3), .ref (L 4), .ref (L 5), .int (sc 0), .int (bz (sc 1)), .int (sc 2), .int (sc 3), .int (sc 4), .int (sc 5), .int (sc 6)]], [(qa1, aI dT [(nI np), (sc 0), (sc 2), (sc 3), a1, a2, (sc 4), (nI nl), (nI ns), (sc 5), (sc 6), a3])]]) hf hK hw 6 0 rfl 11 (by decide) (by decide) (Nat.le_of_ble_eq_true rfl) rfl dX4_manyNow_169 (fun H locs hw => ?_)
  refine lv_astore (lv' := [(5, .ref qa1), (4, .int a3), (3, .int a2), (2, .int a1), (1, .int w), (0, .ref x)]) hx hb dX4_manyNow_170 hl (by decide) rfl (fun ls hl => ?_)
  refine lv_aload hx hb dX4_manyNow_172 (lv_at hl 0 rfl) ?_
  refine lv_iload_n hx hb dX4_manyNow_174 rfl (lv_at hl 4 rfl) ?_
  refine xr_iald hf hK hw 6 0 rfl w.toNatClampNeg (fun z => hin (Or.inl z)) rfl (ix_nor 11 (by decide) hin) rfl dX4_manyNow_175 ?_
  have hw : Wd D A s.heap _ _ [[ob x 3 [.int th, .ref (L 0), .ref (L 1), .ref (L 2), .ref (L 3), .ref (L 4), .ref (L 5), .int (sc 0), .int (bz (sc 1)), .int (sc 2), .int (sc 3), .int (sc 4), .int (sc 5), .int (sc 6)]], [((L 2), aR dT 4 6 (fun i => (ads mt)[i]?))], (mt.flatMap mtE), ((ob (L 0) 15 [.int u0, w0, .int (nI np)]) :: T0), ((ob (L 3) 15 [.int u3, w3, .int (nI nl)]) :: T3), ((ob (L 5) 15 [.int u5, w5, .int (nI ns)]) :: T5)] := Wd.take hw [5, 3, 3, 2, 1, 0] rfl rfl
  exact xr_iret hf hr hlocks hw (Nat.le_of_ble_eq_true rfl) (Nat.le_of_ble_eq_true rfl) ⟨by unfold cn_all; rw [hcn]; first | done | rfl, rfl⟩ dX4_manyNow_176

set_option maxHeartbeats 4000000 in
theorem k_X4_many (l : Launch) (D : va_G) (dT g : Nat → Nat) (z0 : Nat) (x : Nat) (th : Int32) (L : Nat → Nat) (sc : Nat → Int32) (mt : List (Nat × (Nat → Int32))) (u0 : Int32) (w0 : Value) (T0 : va_W) (u3 : Int32) (w3 : Value) (T3 : va_W) (u5 : Int32) (w5 : Value) (T5 : va_W) (np : Nat) (nl : Nat) (ns : Nat) (w : Int32) (hmt : mt.length = 6) : Con l D dT g z0 yX4_many (ws_ yX4_many cX4_many 2 (some .int)) ({ frames := 13, cells := 1, slots := 12, locals := 328 }) [.ref x, .int w] [[ob x 3 [.int th, .ref (L 0), .ref (L 1), .ref (L 2), .ref (L 3), .ref (L 4), .ref (L 5), .int (sc 0), .int (bz (sc 1)), .int (sc 2), .int (sc 3), .int (sc 4), .int (sc 5), .int (sc 6)]], [((L 2), aR dT 4 6 (fun i => (ads mt)[i]?))], (mt.flatMap mtE), ((ob (L 0) 15 [.int u0, w0, .int (nI np)]) :: T0), ((ob (L 3) 15 [.int u3, w3, .int (nI nl)]) :: T3), ((ob (L 5) 15 [.int u5, w5, .int (nI ns)]) :: T5)] (fun r LL => ((w < 0 ∨ 11 < w) ∧ r = some (.int 0) ∧ LL = [[ob x 3 [.int 1, .ref (L 0), .ref (L 1), .ref (L 2), .ref (L 3), .ref (L 4), .ref (L 5), .int (sc 0), .int (bz (sc 1)), .int (sc 2), .int (sc 3), .int (sc 4), .int (sc 5), .int (sc 6)]], [((L 2), aR dT 4 6 (fun i => (ads mt)[i]?))], (mt.flatMap mtE), ((ob (L 0) 15 [.int u0, w0, .int (nI np)]) :: T0), ((ob (L 3) 15 [.int u3, w3, .int (nI nl)]) :: T3), ((ob (L 5) 15 [.int u5, w5, .int (nI ns)]) :: T5)]) ∨ ((¬ (w < 0 ∨ 11 < w)) ∧ r = some (.int (cn_all np nl ns sc (cn_tr mt) w)) ∧ LL = [[ob x 3 [.int 0, .ref (L 0), .ref (L 1), .ref (L 2), .ref (L 3), .ref (L 4), .ref (L 5), .int (sc 0), .int (bz (sc 1)), .int (sc 2), .int (sc 3), .int (sc 4), .int (sc 5), .int (sc 6)]], [((L 2), aR dT 4 6 (fun i => (ads mt)[i]?))], (mt.flatMap mtE), ((ob (L 0) 15 [.int u0, w0, .int (nI np)]) :: T0), ((ob (L 3) 15 [.int u3, w3, .int (nI nl)]) :: T3), ((ob (L 5) 15 [.int u5, w5, .int (nI ns)]) :: T5)])) noX 1 12 := by
  refine Con.of (maxL := 2) (ret := (some .int)) (by first | exact plainFor_of_name (by decide) | decide +kernel) (Nat.le_of_ble_eq_true rfl) ?_
  intro p e s m args below meth c A ls hf hr hlocks hnm hno hK hA hAz hw hl hst
  have hf : CallFix p m c cX4_many 2 s args lw_all "SilkRowModel" := hf
  have hnm : meth.name = "many" := hnm
  have hx := hf.1
  have hb := hf.2.1
  have hts := hf.2.2.2.2
  have hl : lv_has ls 2 [(0, .ref x), (1, .int w)] := hl
  have hw : Wd D A s.heap s.heap [] [[ob x 3 [.int th, .ref (L 0), .ref (L 1), .ref (L 2), .ref (L 3), .ref (L 4), .ref (L 5), .int (sc 0), .int (bz (sc 1)), .int (sc 2), .int (sc 3), .int (sc 4), .int (sc 5), .int (sc 6)]], [((L 2), aR dT 4 6 (fun i => (ads mt)[i]?))], (mt.flatMap mtE), ((ob (L 0) 15 [.int u0, w0, .int (nI np)]) :: T0), ((ob (L 3) 15 [.int u3, w3, .int (nI nl)]) :: T3), ((ob (L 5) 15 [.int u5, w5, .int (nI ns)]) :: T5)] := hw
  refine lv_aload_n hx hb dX4_many_0 rfl (lv_at hl 0 rfl) ?_
  refine lv_iload_n hx hb dX4_many_1 rfl (lv_at hl 1 rfl) ?_
  refine lv_iconst (v := 0) hx hb dX4_many_2 (by decide) ?_
  refine lv_bipush (v := 11) hx hb dX4_many_3 (by decide) ?_
  rcases Decidable.em (w < 0 ∨ 11 < w) with f_5 | f_5
  · refine xc_S (rest := [.ref x]) (As := [.int w, .int 0, .int 11]) hf hK hA hAz hst (hw.pick [] rfl rfl rfl) (k_X4_isIn_no l D dT g z0 w 0 11 f_5) (va_cwS 3 hts (lw_S q1231 q1232 q54 q1233) rfl rfl rfl (by decide +kernel) ⟨Nat.le_of_ble_eq_true rfl, Nat.le_of_ble_eq_true rfl⟩) rfl hl.1 rfl (Nat.le_of_ble_eq_true rfl) dX4_many_5 ⟨(Nat.le_of_ble_eq_true rfl), (Nat.le_of_ble_eq_true rfl)⟩ (fun _ _ _ _ _ _ h => h.elim) (fun v9 LL1 H locs hp hw => ?_)
    obtain ⟨rfl, rfl⟩ := hp
    have hw : Wd D A s.heap _ _ [[ob x 3 [.int th, .ref (L 0), .ref (L 1), .ref (L 2), .ref (L 3), .ref (L 4), .ref (L 5), .int (sc 0), .int (bz (sc 1)), .int (sc 2), .int (sc 3), .int (sc 4), .int (sc 5), .int (sc 6)]], [((L 2), aR dT 4 6 (fun i => (ads mt)[i]?))], (mt.flatMap mtE), ((ob (L 0) 15 [.int u0, w0, .int (nI np)]) :: T0), ((ob (L 3) 15 [.int u3, w3, .int (nI nl)]) :: T3), ((ob (L 5) 15 [.int u5, w5, .int (nI ns)]) :: T5)] := hw
    refine W.eq (g2 := F0 m 8 ls [.int 0, .ref x]) rfl ?_
    refine lv_if_ne (tgt := 15) hx hb dX4_many_8 (by decide) (fun c9 => absurd c9 (by decide)) (fun _ => ?_)
    refine lv_iconst (v := 1) hx hb dX4_many_11 (by decide) ?_
    refine lv_goto (tgt := 16) hx hb dX4_many_12 (by decide) ?_
    refine lv_iconst (v := 1) hx hb dX4_many_16 (by decide) ?_
    refine xc_V (rest := []) (As := [.int 1, .int 1]) hf hK hA hAz hst (hw.pick [0] rfl rfl rfl) (k_X4_start_yes l D dT g z0 x th (.ref (L 0)) (.ref (L 1)) (.ref (L 2)) (.ref (L 3)) (.ref (L 4)) (.ref (L 5)) (.int (sc 0)) (.int (bz (sc 1))) (.int (sc 2)) (.int (sc 3)) (.int (sc 4)) (.int (sc 5)) (.int (sc 6)) 1 (by decide)) (cwV 2 hts (lw_V q1234 q1236 qs19 q54 q1237) rfl rfl rfl (by decide +kernel) ⟨Nat.le_of_ble_eq_true rfl, Nat.le_of_ble_eq_true rfl⟩) (xr_rv hK hw 0 0 rfl rfl) rfl hl.1 rfl (Nat.le_of_ble_eq_true rfl) dX4_many_17 ⟨(Nat.le_of_ble_eq_true rfl), (Nat.le_of_ble_eq_true rfl)⟩ (fun _ _ _ _ _ _ h => h.elim) (fun v9 LL1 H locs hp hw => ?_)
    obtain ⟨rfl, rfl⟩ := hp
    have hw : Wd D A s.heap _ _ [[ob x 3 [.int 1, .ref (L 0), .ref (L 1), .ref (L 2), .ref (L 3), .ref (L 4), .ref (L 5), .int (sc 0), .int (bz (sc 1)), .int (sc 2), .int (sc 3), .int (sc 4), .int (sc 5), .int (sc 6)]], [((L 2), aR dT 4 6 (fun i => (ads mt)[i]?))], (mt.flatMap mtE), ((ob (L 0) 15 [.int u0, w0, .int (nI np)]) :: T0), ((ob (L 3) 15 [.int u3, w3, .int (nI nl)]) :: T3), ((ob (L 5) 15 [.int u5, w5, .int (nI ns)]) :: T5)] := hw
    refine W.eq (g2 := F0 m 20 ls [.int 1]) rfl ?_
    refine lv_if_eq (tgt := 27) hx hb dX4_many_20 (by decide) (fun c9 => absurd c9 (by decide)) (fun _ => ?_)
    refine lv_iconst (v := 0) hx hb dX4_many_23 (by decide) ?_
    refine lv_goto (tgt := 32) hx hb dX4_many_24 (by decide) ?_
    have hw : Wd D A s.heap _ _ [[ob x 3 [.int 1, .ref (L 0), .ref (L 1), .ref (L 2), .ref (L 3), .ref (L 4), .ref (L 5), .int (sc 0), .int (bz (sc 1)), .int (sc 2), .int (sc 3), .int (sc 4), .int (sc 5), .int (sc 6)]], [((L 2), aR dT 4 6 (fun i => (ads mt)[i]?))], (mt.flatMap mtE), ((ob (L 0) 15 [.int u0, w0, .int (nI np)]) :: T0), ((ob (L 3) 15 [.int u3, w3, .int (nI nl)]) :: T3), ((ob (L 5) 15 [.int u5, w5, .int (nI ns)]) :: T5)] := Wd.take hw [0, 0, 0, 0, 0, 0] rfl rfl
    exact xr_iret hf hr hlocks hw (Nat.le_of_ble_eq_true rfl) (Nat.le_of_ble_eq_true rfl) (Or.inl ⟨(by first | (simp only [f_5, true_or, or_true, false_or, or_false, not_true_eq_false, not_false_eq_true, and_true, true_and, and_self]; done) | (simp only [← Int32.not_le, f_5, true_or, or_true, false_or, or_false, not_true_eq_false, not_false_eq_true, and_true, true_and, and_self]; done)), rfl, rfl⟩) dX4_many_32
  · refine xc_S (rest := [.ref x]) (As := [.int w, .int 0, .int 11]) hf hK hA hAz hst (hw.pick [] rfl rfl rfl) (k_X4_isIn_in l D dT g z0 w 0 11 f_5) (va_cwS 3 hts (lw_S q1231 q1232 q54 q1233) rfl rfl rfl (by decide +kernel) ⟨Nat.le_of_ble_eq_true rfl, Nat.le_of_ble_eq_true rfl⟩) rfl hl.1 rfl (Nat.le_of_ble_eq_true rfl) dX4_many_5 ⟨(Nat.le_of_ble_eq_true rfl), (Nat.le_of_ble_eq_true rfl)⟩ (fun _ _ _ _ _ _ h => h.elim) (fun v9 LL1 H locs hp hw => ?_)
    obtain ⟨rfl, rfl⟩ := hp
    have hw : Wd D A s.heap _ _ [[ob x 3 [.int th, .ref (L 0), .ref (L 1), .ref (L 2), .ref (L 3), .ref (L 4), .ref (L 5), .int (sc 0), .int (bz (sc 1)), .int (sc 2), .int (sc 3), .int (sc 4), .int (sc 5), .int (sc 6)]], [((L 2), aR dT 4 6 (fun i => (ads mt)[i]?))], (mt.flatMap mtE), ((ob (L 0) 15 [.int u0, w0, .int (nI np)]) :: T0), ((ob (L 3) 15 [.int u3, w3, .int (nI nl)]) :: T3), ((ob (L 5) 15 [.int u5, w5, .int (nI ns)]) :: T5)] := hw
    refine W.eq (g2 := F0 m 8 ls [.int 1, .ref x]) rfl ?_
    refine lv_if_ne (tgt := 15) hx hb dX4_many_8 (by decide) (fun _ => ?_) (fun c9 => absurd c9 (by decide))
    refine lv_iconst (v := 0) hx hb dX4_many_15 (by decide) ?_
    refine lv_iconst (v := 1) hx hb dX4_many_16 (by decide) ?_
    refine xc_V (rest := []) (As := [.int 0, .int 1]) hf hK hA hAz hst (hw.pick [0] rfl rfl rfl) (k_X4_start_no l D dT g z0 x th (.ref (L 0)) (.ref (L 1)) (.ref (L 2)) (.ref (L 3)) (.ref (L 4)) (.ref (L 5)) (.int (sc 0)) (.int (bz (sc 1))) (.int (sc 2)) (.int (sc 3)) (.int (sc 4)) (.int (sc 5)) (.int (sc 6)) 1) (cwV 2 hts (lw_V q1234 q1236 qs19 q54 q1237) rfl rfl rfl (by decide +kernel) ⟨Nat.le_of_ble_eq_true rfl, Nat.le_of_ble_eq_true rfl⟩) (xr_rv hK hw 0 0 rfl rfl) rfl hl.1 rfl (Nat.le_of_ble_eq_true rfl) dX4_many_17 ⟨(Nat.le_of_ble_eq_true rfl), (Nat.le_of_ble_eq_true rfl)⟩ (fun _ _ _ _ _ _ h => h.elim) (fun v9 LL1 H locs hp hw => ?_)
    obtain ⟨rfl, rfl⟩ := hp
    have hw : Wd D A s.heap _ _ [[ob x 3 [.int 0, .ref (L 0), .ref (L 1), .ref (L 2), .ref (L 3), .ref (L 4), .ref (L 5), .int (sc 0), .int (bz (sc 1)), .int (sc 2), .int (sc 3), .int (sc 4), .int (sc 5), .int (sc 6)]], [((L 2), aR dT 4 6 (fun i => (ads mt)[i]?))], (mt.flatMap mtE), ((ob (L 0) 15 [.int u0, w0, .int (nI np)]) :: T0), ((ob (L 3) 15 [.int u3, w3, .int (nI nl)]) :: T3), ((ob (L 5) 15 [.int u5, w5, .int (nI ns)]) :: T5)] := hw
    refine W.eq (g2 := F0 m 20 ls [.int 0]) rfl ?_
    refine lv_if_eq (tgt := 27) hx hb dX4_many_20 (by decide) (fun _ => ?_) (fun c9 => absurd c9 (by decide))
    refine lv_aload_n hx hb dX4_many_27 rfl (lv_at hl 0 rfl) ?_
    refine lv_iload_n hx hb dX4_many_28 rfl (lv_at hl 1 rfl) ?_
    refine xc_V (rest := []) (As := [.int w]) hf hK hA hAz hst (hw.pick [0, 0, 0, 0, 0, 0] rfl rfl rfl) (k_X4_manyNow l D dT g z0 x 0 L sc mt u0 (w0) (T0) u3 (w3) (T3) u5 (w5) (T5) np nl ns w hmt (by first | (simp only [f_5, true_or, or_true, false_or, or_false, not_true_eq_false, not_false_eq_true, and_true, true_and, and_self]; done) | (simp only [← Int32.not_le, f_5, true_or, or_true, false_or, or_false, not_true_eq_false, not_false_eq_true, and_true, true_and, and_self]; done))) (cwV 1 hts (lw_V q1592 q1594 qs36 q54 q1595) rfl rfl rfl (by decide +kernel) ⟨Nat.le_of_ble_eq_true rfl, Nat.le_of_ble_eq_true rfl⟩) (xr_rv hK hw 0 0 rfl rfl) rfl hl.1 rfl (Nat.le_of_ble_eq_true rfl) dX4_many_29 ⟨(Nat.le_of_ble_eq_true rfl), (Nat.le_of_ble_eq_true rfl)⟩ (fun _ _ _ _ _ _ h => h.elim) (fun v9 LL1 H locs hp hw => ?_)
    obtain ⟨rfl, rfl⟩ := hp
    have hw : Wd D A s.heap _ _ [[ob x 3 [.int 0, .ref (L 0), .ref (L 1), .ref (L 2), .ref (L 3), .ref (L 4), .ref (L 5), .int (sc 0), .int (bz (sc 1)), .int (sc 2), .int (sc 3), .int (sc 4), .int (sc 5), .int (sc 6)]], [((L 2), aR dT 4 6 (fun i => (ads mt)[i]?))], (mt.flatMap mtE), ((ob (L 0) 15 [.int u0, w0, .int (nI np)]) :: T0), ((ob (L 3) 15 [.int u3, w3, .int (nI nl)]) :: T3), ((ob (L 5) 15 [.int u5, w5, .int (nI ns)]) :: T5)] := hw
    refine W.eq (g2 := F0 m 32 ls [.int (cn_all np nl ns sc (cn_tr mt) w)]) rfl ?_
    have hw : Wd D A s.heap _ _ [[ob x 3 [.int 0, .ref (L 0), .ref (L 1), .ref (L 2), .ref (L 3), .ref (L 4), .ref (L 5), .int (sc 0), .int (bz (sc 1)), .int (sc 2), .int (sc 3), .int (sc 4), .int (sc 5), .int (sc 6)]], [((L 2), aR dT 4 6 (fun i => (ads mt)[i]?))], (mt.flatMap mtE), ((ob (L 0) 15 [.int u0, w0, .int (nI np)]) :: T0), ((ob (L 3) 15 [.int u3, w3, .int (nI nl)]) :: T3), ((ob (L 5) 15 [.int u5, w5, .int (nI ns)]) :: T5)] := Wd.take hw [0, 0, 0, 0, 0, 0] rfl rfl
    exact xr_iret hf hr hlocks hw (Nat.le_of_ble_eq_true rfl) (Nat.le_of_ble_eq_true rfl) (Or.inr ⟨(by first | (simp only [f_5, true_or, or_true, false_or, or_false, not_true_eq_false, not_false_eq_true, and_true, true_and, and_self]; done) | (simp only [← Int32.not_le, f_5, true_or, or_true, false_or, or_false, not_true_eq_false, not_false_eq_true, and_true, true_and, and_self]; done)), rfl, rfl⟩) dX4_many_32

set_option maxHeartbeats 4000000 in
theorem k_X4_meanGrade (l : Launch) (D : va_G) (dT g : Nat → Nat) (z0 : Nat) (x : Nat) (th : Int32) (L : Nat → Nat) (sc : Nat → Int32) (us : Int32) (sts : Option (Nat × Nat)) (ms : List (Nat × Nat × (Nat → Int32))) (hoks : alOK sts (ads ms)) : Con l D dT g z0 yX4_meanGrade (ws_ yX4_meanGrade cX4_meanGrade 5 (some .double)) ({ frames := 3, cells := 1, slots := 4, locals := 82 }) [.ref x] [[ob x 3 [.int th, .ref (L 0), .ref (L 1), .ref (L 2), .ref (L 3), .ref (L 4), .ref (L 5), .int (sc 0), .int (bz (sc 1)), .int (sc 2), .int (sc 3), .int (sc 4), .int (sc 5), .int (sc 6)]], ((ob (L 5) 15 [.int us, .ref (al_d g sts), .int (nI (ads ms).length)]) :: (al_t dT sts (ads ms))), (ms.flatMap (msE dT))] (fun r LL => r = some (.double (mm_val (mapA mm_f (0, 0) ms).1)) ∧ LL = [[ob x 3 [.int 0, .ref (L 0), .ref (L 1), .ref (L 2), .ref (L 3), .ref (L 4), .ref (L 5), .int (sc 0), .int (bz (sc 1)), .int (sc 2), .int (sc 3), .int (sc 4), .int (sc 5), .int (sc 6)]], ((ob (L 5) 15 [.int us, .ref (al_d g sts), .int (nI (ads ms).length)]) :: (al_t dT sts (ads ms))), (ms.flatMap (msE dT))]) noX 1 4 := by
  refine Con.of (maxL := 5) (ret := (some .double)) (by first | exact plainFor_of_name (by decide) | decide +kernel) (Nat.le_of_ble_eq_true rfl) ?_
  intro p e s m args below meth c A ls hf hr hlocks hnm hno hK hA hAz hw hl hst
  have hf : CallFix p m c cX4_meanGrade 5 s args lw_all "SilkRowModel" := hf
  have hnm : meth.name = "meanGrade" := hnm
  have hx := hf.1
  have hb := hf.2.1
  have hts := hf.2.2.2.2
  have hl : lv_has ls 5 [(0, .ref x)] := hl
  have hw : Wd D A s.heap s.heap [] [[ob x 3 [.int th, .ref (L 0), .ref (L 1), .ref (L 2), .ref (L 3), .ref (L 4), .ref (L 5), .int (sc 0), .int (bz (sc 1)), .int (sc 2), .int (sc 3), .int (sc 4), .int (sc 5), .int (sc 6)]], ((ob (L 5) 15 [.int us, .ref (al_d g sts), .int (nI (ads ms).length)]) :: (al_t dT sts (ads ms))), (ms.flatMap (msE dT))] := hw
  refine lv_aload_n hx hb dX4_meanGrade_0 rfl (lv_at hl 0 rfl) ?_
  refine lv_iconst (v := 0) hx hb dX4_meanGrade_1 (by decide) ?_
  refine xr_put (LL' := [[ob x 3 [.int 0, .ref (L 0), .ref (L 1), .ref (L 2), .ref (L 3), .ref (L 4), .ref (L 5), .int (sc 0), .int (bz (sc 1)), .int (sc 2), .int (sc 3), .int (sc 4), .int (sc 5), .int (sc 6)]], ((ob (L 5) 15 [.int us, .ref (al_d g sts), .int (nI (ads ms).length)]) :: (al_t dT sts (ads ms))), (ms.flatMap (msE dT))]) hf hK hw 0 0 rfl rfl in_X4 tyX4_ok nmX4 0 (by decide) q1180 (fun _ h => h) rfl rfl rfl (Nat.le_of_ble_eq_true rfl) rfl dX4_meanGrade_2 (fun H locs hw => ?_)
  refine lv_iconst (v := 0) hx hb dX4_meanGrade_5 (by decide) ?_
  refine lv_istore_n (lv' := [(1, .int 0), (0, .ref x)]) hx hb dX4_meanGrade_6 rfl hl (by decide) rfl (fun ls hl => ?_)
  refine lv_iconst (v := 0) hx hb dX4_meanGrade_7 (by decide) ?_
  refine lv_istore_n (lv' := [(2, .int 0), (1, .int 0), (0, .ref x)]) hx hb dX4_meanGrade_8 rfl hl (by decide) rfl (fun ls hl => ?_)
  refine lv_aload_n hx hb dX4_meanGrade_9 rfl (lv_at hl 2 rfl) ?_
  refine xr_get hf hK hw 0 0 rfl rfl in_X4 6 (by decide) q1186 (fun _ h => h) rfl dX4_meanGrade_10 ?_
  refine xc_V (rest := []) (As := []) hf hK hA hAz hst (hw.pick [1] rfl rfl rfl) (k_J2_iterator l D dT g z0 (L 5) us (nI (ads ms).length) (.ref (al_d g sts)) (al_t dT sts (ads ms))) (cwV 0 hts (lw_V q1271 q296 q297 q47 q298) rfl rfl rfl (by decide +kernel) ⟨Nat.le_of_ble_eq_true rfl, Nat.le_of_ble_eq_true rfl⟩) (xr_rv hK hw 1 0 rfl rfl) rfl hl.1 rfl (Nat.le_of_ble_eq_true rfl) dX4_meanGrade_13 ⟨(Nat.le_of_ble_eq_true rfl), (Nat.le_of_ble_eq_true rfl)⟩ (fun _ _ _ _ _ _ h => h.elim) (fun v9 LL1 H locs hp hw => ?_)
  obtain ⟨q_1, rfl, rfl⟩ := hp
  have hw : Wd D A s.heap _ _ [[ob q_1 16 [.int 0, .int (-1), .int us, .ref (L 5)]], ((ob (L 5) 15 [.int us, .ref (al_d g sts), .int (nI (ads ms).length)]) :: (al_t dT sts (ads ms))), [ob x 3 [.int 0, .ref (L 0), .ref (L 1), .ref (L 2), .ref (L 3), .ref (L 4), .ref (L 5), .int (sc 0), .int (bz (sc 1)), .int (sc 2), .int (sc 3), .int (sc 4), .int (sc 5), .int (sc 6)]], (ms.flatMap (msE dT))] := hw
  refine W.eq (g2 := F0 m 16 ls [.ref q_1]) rfl ?_
  refine lv_astore_n (lv' := [(3, .ref q_1), (2, .int 0), (1, .int 0), (0, .ref x)]) hx hb dX4_meanGrade_16 rfl hl (by decide) rfl (fun ls hl => ?_)
  obtain ⟨rem, hrem⟩ : ∃ z, z = ms := ⟨_, rfl⟩
  obtain ⟨dn, hdn⟩ : ∃ z : List (Nat × Nat × (Nat → Int32)), z = [] := ⟨_, rfl⟩
  obtain ⟨last, hlast⟩ : ∃ z : Int32, z = (-1) := ⟨_, rfl⟩
  obtain ⟨a1, ha1⟩ : ∃ z : Int32, z = 0 := ⟨_, rfl⟩
  obtain ⟨a2, ha2⟩ : ∃ z : Int32, z = 0 := ⟨_, rfl⟩
  have hI : mapA mm_f (0, 0) ms = ((mapA mm_f (a1, a2) rem).1, dn ++ (mapA mm_f (a1, a2) rem).2) := by subst hdn hlast ha1 ha2; rw [hrem]; rfl
  have hAd : ads ms = ads (dn ++ rem) := by subst hdn hlast ha1 ha2; rw [hrem]; rfl
  replace hl : lv_has ls 5 [(3, .ref q_1), (2, .int a2), (1, .int a1), (0, .ref x)] := by subst hdn hlast ha1 ha2; exact hl
  refine W.fresh (P := fun H locs => Wd D A s.heap H locs [[ob q_1 16 [.int (nI dn.length), .int last, .int us, .ref (L 5)]], ((ob (L 5) 15 [.int us, .ref (al_d g sts), .int (nI (ads ms).length)]) :: (al_t dT sts (ads ms))), [ob x 3 [.int 0, .ref (L 0), .ref (L 1), .ref (L 2), .ref (L 3), .ref (L 4), .ref (L 5), .int (sc 0), .int (bz (sc 1)), .int (sc 2), .int (sc 3), .int (sc 4), .int (sc 5), .int (sc 6)]], ((dn ++ rem).flatMap (msE dT))]) (by subst hdn hlast ha1 ha2; rw [hrem]; exact hw) (fun H locs hw => ?_)
  clear hrem hdn hlast ha1 ha2
  induction rem generalizing dn last a1 a2 ls H locs with
  | nil =>
    have hN := ads_nil hAd
    have hT := (mapA_end hI).1
    have hS := (mapA_end hI).2
    rw [hT] at hw
    have hw : Wd D A s.heap _ _ [[ob q_1 16 [.int (nI dn.length), .int last, .int us, .ref (L 5)]], ((ob (L 5) 15 [.int us, .ref (al_d g sts), .int (nI (ads ms).length)]) :: (al_t dT sts (ads ms))), [ob x 3 [.int 0, .ref (L 0), .ref (L 1), .ref (L 2), .ref (L 3), .ref (L 4), .ref (L 5), .int (sc 0), .int (bz (sc 1)), .int (sc 2), .int (sc 3), .int (sc 4), .int (sc 5), .int (sc 6)]], (((mapA mm_f (0, 0) ms).2).flatMap (msE dT))] := hw
    refine lv_aload_n hx hb dX4_meanGrade_17 rfl (lv_at hl 0 rfl) ?_
    refine xc_F (ci := 16) (rest := []) (As := []) hf hK hA hAz hst (hw.pick [0, 0] rfl rfl rfl) (k_J11_hasNext l D dT g z0 q_1 (nI dn.length) last (L 5) us (nI (ads ms).length) (.ref (al_d g sts)) (al_t dT sts (ads ms)) us) (va_cwF 0 hts (lw_Fc q1273 q323 q325 q65 q327) rfl rfl rfl (hK.fw 7 rfl) (by decide +kernel) ⟨Nat.le_of_ble_eq_true rfl, Nat.le_of_ble_eq_true rfl⟩) rfl (xr_rv hK hw 0 0 rfl rfl) rfl hl.1 rfl (Nat.le_of_ble_eq_true rfl) dX4_meanGrade_18 ⟨(Nat.le_of_ble_eq_true rfl), (Nat.le_of_ble_eq_true rfl)⟩ (fun _ _ _ _ _ _ h => h.elim) (fun v9 LL1 H locs hp hw => ?_)
    obtain ⟨rfl, rfl⟩ := hp
    have hw : Wd D A s.heap _ _ [[ob q_1 16 [.int (nI dn.length), .int last, .int us, .ref (L 5)]], ((ob (L 5) 15 [.int us, .ref (al_d g sts), .int (nI (ads ms).length)]) :: (al_t dT sts (ads ms))), [ob x 3 [.int 0, .ref (L 0), .ref (L 1), .ref (L 2), .ref (L 3), .ref (L 4), .ref (L 5), .int (sc 0), .int (bz (sc 1)), .int (sc 2), .int (sc 3), .int (sc 4), .int (sc 5), .int (sc 6)]], (((mapA mm_f (0, 0) ms).2).flatMap (msE dT))] := hw
    refine W.eq (g2 := F0 m 23 ls [.int (if (nI dn.length) = (nI (ads ms).length) then 0 else 1)]) rfl ?_
    refine lv_if_eq (tgt := 62) hx hb dX4_meanGrade_23 (by decide) (fun _ => ?_) (fun c9 => absurd c9 (not_not_intro (if0 (by rw [hN]))))
    rw [mapA_same (f := mm_f) (fun _ _ => rfl)] at hw
    have hw : Wd D A s.heap _ _ [[ob q_1 16 [.int (nI dn.length), .int last, .int us, .ref (L 5)]], ((ob (L 5) 15 [.int us, .ref (al_d g sts), .int (nI (ads ms).length)]) :: (al_t dT sts (ads ms))), [ob x 3 [.int 0, .ref (L 0), .ref (L 1), .ref (L 2), .ref (L 3), .ref (L 4), .ref (L 5), .int (sc 0), .int (bz (sc 1)), .int (sc 2), .int (sc 3), .int (sc 4), .int (sc 5), .int (sc 6)]], (ms.flatMap (msE dT))] := hw
    refine lv_iload_n hx hb dX4_meanGrade_62 rfl (lv_at hl 2 rfl) ?_
    refine lv_if_ne (tgt := 70) hx hb dX4_meanGrade_63 (by decide) (fun c_63 => ?_) (fun c_63 => ?_)
    · refine lv_iload_n hx hb dX4_meanGrade_70 rfl (lv_at hl 1 rfl) ?_
      refine lv_i2d hx hb dX4_meanGrade_71 ?_
      refine lv_iload_n hx hb dX4_meanGrade_72 rfl (lv_at hl 2 rfl) ?_
      refine lv_i2d hx hb dX4_meanGrade_73 ?_
      refine lv_ddiv hx hb dX4_meanGrade_74 (dd_n64 _ c_63) ?_
      have hw : Wd D A s.heap _ _ [[ob x 3 [.int 0, .ref (L 0), .ref (L 1), .ref (L 2), .ref (L 3), .ref (L 4), .ref (L 5), .int (sc 0), .int (bz (sc 1)), .int (sc 2), .int (sc 3), .int (sc 4), .int (sc 5), .int (sc 6)]], ((ob (L 5) 15 [.int us, .ref (al_d g sts), .int (nI (ads ms).length)]) :: (al_t dT sts (ads ms))), (ms.flatMap (msE dT))] := Wd.take hw [2, 1, 1] rfl rfl
      exact xr_dret hf hr hlocks hw (Nat.le_of_ble_eq_true rfl) (Nat.le_of_ble_eq_true rfl) ⟨congrArg (fun z => some (Value.double z)) (by unfold mm_val; rw [← hS]; simp only [if_neg (show ¬ (a1 = 0) from c_63)]), rfl⟩ dX4_meanGrade_75
    · refine lv_dconst0 hx hb dX4_meanGrade_66 ?_
      refine lv_goto (tgt := 75) hx hb dX4_meanGrade_67 (by decide) ?_
      have hw : Wd D A s.heap _ _ [[ob x 3 [.int 0, .ref (L 0), .ref (L 1), .ref (L 2), .ref (L 3), .ref (L 4), .ref (L 5), .int (sc 0), .int (bz (sc 1)), .int (sc 2), .int (sc 3), .int (sc 4), .int (sc 5), .int (sc 6)]], ((ob (L 5) 15 [.int us, .ref (al_d g sts), .int (nI (ads ms).length)]) :: (al_t dT sts (ads ms))), (ms.flatMap (msE dT))] := Wd.take hw [2, 1, 1] rfl rfl
      exact xr_dret hf hr hlocks hw (Nat.le_of_ble_eq_true rfl) (Nat.le_of_ble_eq_true rfl) ⟨congrArg (fun z => some (Value.double z)) (by unfold mm_val; rw [← hS]; simp only [if_pos (show a1 = 0 from c_63)]), rfl⟩ dX4_meanGrade_75
  | cons q rem ih =>
    have hX := ads_mid hAd
    have hN := ads_midlen hAd
    have hSh := al_short hoks
    obtain ⟨d, cap, hd, hc, hC⟩ := al_some (k := dn.length) hoks (by omega)
    subst hd
    have hw : Wd D A s.heap _ _ [[ob q_1 16 [.int (nI dn.length), .int last, .int us, .ref (L 5)]], [ob (L 5) 15 [.int us, .ref d, .int (nI (ads ms).length)], (d, aR dT 1 cap (fun i => (ads ms)[i]?))], [ob x 3 [.int 0, .ref (L 0), .ref (L 1), .ref (L 2), .ref (L 3), .ref (L 4), .ref (L 5), .int (sc 0), .int (bz (sc 1)), .int (sc 2), .int (sc 3), .int (sc 4), .int (sc 5), .int (sc 6)]], ((dn ++ q :: rem).flatMap (msE dT))] := hw
    refine lv_aload_n hx hb dX4_meanGrade_17 rfl (lv_at hl 0 rfl) ?_
    refine xc_F (ci := 16) (rest := []) (As := []) hf hK hA hAz hst (hw.pick [0, 0] rfl rfl rfl) (k_J11_hasNext l D dT g z0 q_1 (nI dn.length) last (L 5) us (nI (ads ms).length) (.ref d) ((d, aR dT 1 cap (fun i => (ads ms)[i]?)) :: []) us) (va_cwF 0 hts (lw_Fc q1273 q323 q325 q65 q327) rfl rfl rfl (hK.fw 7 rfl) (by decide +kernel) ⟨Nat.le_of_ble_eq_true rfl, Nat.le_of_ble_eq_true rfl⟩) rfl (xr_rv hK hw 0 0 rfl rfl) rfl hl.1 rfl (Nat.le_of_ble_eq_true rfl) dX4_meanGrade_18 ⟨(Nat.le_of_ble_eq_true rfl), (Nat.le_of_ble_eq_true rfl)⟩ (fun _ _ _ _ _ _ h => h.elim) (fun v9 LL1 H locs hp hw => ?_)
    obtain ⟨rfl, rfl⟩ := hp
    have hw : Wd D A s.heap _ _ [[ob q_1 16 [.int (nI dn.length), .int last, .int us, .ref (L 5)]], [ob (L 5) 15 [.int us, .ref d, .int (nI (ads ms).length)], (d, aR dT 1 cap (fun i => (ads ms)[i]?))], [ob x 3 [.int 0, .ref (L 0), .ref (L 1), .ref (L 2), .ref (L 3), .ref (L 4), .ref (L 5), .int (sc 0), .int (bz (sc 1)), .int (sc 2), .int (sc 3), .int (sc 4), .int (sc 5), .int (sc 6)]], ((dn ++ q :: rem).flatMap (msE dT))] := hw
    refine W.eq (g2 := F0 m 23 ls [.int (if (nI dn.length) = (nI (ads ms).length) then 0 else 1)]) rfl ?_
    refine lv_if_eq (tgt := 62) hx hb dX4_meanGrade_23 (by decide) (fun c9 => absurd c9 (if1 (fun z => absurd ((nI_eq (by omega) (by omega)).mp z) (by omega)))) (fun _ => ?_)
    refine lv_aload_n hx hb dX4_meanGrade_26 rfl (lv_at hl 0 rfl) ?_
    refine xc_F (ci := 16) (rest := []) (As := []) hf hK hA hAz hst (hw.pick [0, 0] rfl rfl rfl) (k_J11_next l D dT g z0 q_1 last (L 5) d cap us (ads ms) dn.length q.1 hc hC (by omega) hX) (va_cwF 0 hts (lw_Fc q1275 q332 q334 q65 q336) rfl rfl rfl (hK.fw 8 rfl) (by decide +kernel) ⟨Nat.le_of_ble_eq_true rfl, Nat.le_of_ble_eq_true rfl⟩) rfl (xr_rv hK hw 0 0 rfl rfl) rfl hl.1 rfl (Nat.le_of_ble_eq_true rfl) dX4_meanGrade_27 ⟨(Nat.le_of_ble_eq_true rfl), (Nat.le_of_ble_eq_true rfl)⟩ (fun _ _ _ _ _ _ h => h.elim) (fun v9 LL1 H locs hp hw => ?_)
    obtain ⟨rfl, rfl⟩ := hp
    have hw : Wd D A s.heap _ _ [[ob q_1 16 [.int (nI (dn.length + 1)), .int (nI dn.length), .int us, .ref (L 5)]], [ob (L 5) 15 [.int us, .ref d, .int (nI (ads ms).length)], (d, aR dT 1 cap (fun i => (ads ms)[i]?))], [ob x 3 [.int 0, .ref (L 0), .ref (L 1), .ref (L 2), .ref (L 3), .ref (L 4), .ref (L 5), .int (sc 0), .int (bz (sc 1)), .int (sc 2), .int (sc 3), .int (sc 4), .int (sc 5), .int (sc 6)]], ((dn ++ q :: rem).flatMap (msE dT))] := hw
    refine W.eq (g2 := F0 m 32 ls [.ref q.1]) rfl ?_
    have hw : Wd D A s.heap _ _ [[ob q_1 16 [.int (nI (dn.length + 1)), .int (nI dn.length), .int us, .ref (L 5)]], ((ob (L 5) 15 [.int us, .ref (al_d g (some (d, cap))), .int (nI (ads ms).length)]) :: (al_t dT (some (d, cap)) (ads ms))), [ob x 3 [.int 0, .ref (L 0), .ref (L 1), .ref (L 2), .ref (L 3), .ref (L 4), .ref (L 5), .int (sc 0), .int (bz (sc 1)), .int (sc 2), .int (sc 3), .int (sc 4), .int (sc 5), .int (sc 6)]], ((dn ++ q :: rem).flatMap (msE dT))] := hw
    refine xr_castM hf hK hw (sg_mem 3 rfl (fm_mem mid_get List.mem_cons_self)) rfl q1524 dX4_meanGrade_32 ?_
    refine lv_astore (lv' := [(4, .ref q.1), (3, .ref q_1), (2, .int a2), (1, .int a1), (0, .ref x)]) hx hb dX4_meanGrade_35 hl (by decide) rfl (fun ls hl => ?_)
    refine lv_iload_n hx hb dX4_meanGrade_37 rfl (lv_at hl 3 rfl) ?_
    refine lv_aload hx hb dX4_meanGrade_38 (lv_at hl 0 rfl) ?_
    have hw : Wd D A s.heap _ _ [((dn ++ q :: rem).flatMap (msE dT)), [ob q_1 16 [.int (nI (dn.length + 1)), .int (nI dn.length), .int us, .ref (L 5)]], ((ob (L 5) 15 [.int us, .ref (al_d g (some (d, cap))), .int (nI (ads ms).length)]) :: (al_t dT (some (d, cap)) (ads ms))), [ob x 3 [.int 0, .ref (L 0), .ref (L 1), .ref (L 2), .ref (L 3), .ref (L 4), .ref (L 5), .int (sc 0), .int (bz (sc 1)), .int (sc 2), .int (sc 3), .int (sc 4), .int (sc 5), .int (sc 6)]]] := hw.pick [3] rfl rfl rfl
    have hw : Wd D A s.heap _ _ [[ob q.1 13 [.int (q.2.2 0), .int (q.2.2 1), .int (q.2.2 2), .int (q.2.2 3), .ref q.2.1, .int (bz (q.2.2 4))], (q.2.1, aI dT [q.2.2 5, q.2.2 6, q.2.2 7, q.2.2 8])], (((dn ++ q :: rem).eraseIdx dn.length).flatMap (msE dT)), [ob q_1 16 [.int (nI (dn.length + 1)), .int (nI dn.length), .int us, .ref (L 5)]], ((ob (L 5) 15 [.int us, .ref (al_d g (some (d, cap))), .int (nI (ads ms).length)]) :: (al_t dT (some (d, cap)) (ads ms))), [ob x 3 [.int 0, .ref (L 0), .ref (L 1), .ref (L 2), .ref (L 3), .ref (L 4), .ref (L 5), .int (sc 0), .int (bz (sc 1)), .int (sc 2), .int (sc 3), .int (sc 4), .int (sc 5), .int (sc 6)]]] := hw.foc mid_get
    refine xr_get hf hK hw 0 0 rfl rfl in_X14 0 (by decide) q1456 (fun _ h => h) rfl dX4_meanGrade_40 ?_
    refine lv_iadd hx hb dX4_meanGrade_43 ?_
    refine lv_istore_n (lv' := [(1, .int (a1 + q.2.2 0)), (4, .ref q.1), (3, .ref q_1), (2, .int a2), (0, .ref x)]) hx hb dX4_meanGrade_44 rfl hl (by decide) rfl (fun ls hl => ?_)
    refine lv_iload_n hx hb dX4_meanGrade_45 rfl (lv_at hl 3 rfl) ?_
    refine lv_aload hx hb dX4_meanGrade_46 (lv_at hl 1 rfl) ?_
    refine xr_get hf hK hw 0 0 rfl rfl in_X14 0 (by decide) q1456 (fun _ h => h) rfl dX4_meanGrade_48 ?_
    refine lv_aload hx hb dX4_meanGrade_51 (lv_at hl 1 rfl) ?_
    refine xc_V (rest := [.int (q.2.2 0), .int a2]) (As := []) hf hK hA hAz hst (hw.pick [0] rfl rfl rfl) (k_X14_grade l D dT g z0 q.1 q.2.1 q.2.2) (cwV 0 hts (lw_V q1525 q1526 q1527 q75 q1528) rfl rfl rfl (by decide +kernel) ⟨Nat.le_of_ble_eq_true rfl, Nat.le_of_ble_eq_true rfl⟩) (xr_rv hK hw 0 0 rfl rfl) rfl hl.1 rfl (Nat.le_of_ble_eq_true rfl) dX4_meanGrade_53 ⟨(Nat.le_of_ble_eq_true rfl), (Nat.le_of_ble_eq_true rfl)⟩ (fun _ _ _ _ _ _ h => h.elim) (fun v9 LL1 H locs hp hw => ?_)
    rw [fs_X14_grade] at hp
    obtain ⟨r2, hr2⟩ : ∃ z, z = f_X14_grade q.2.2 := ⟨_, rfl⟩
    rw [← hr2] at hp
    obtain ⟨rfl, rfl⟩ := hp
    have hw : Wd D A s.heap _ _ [[ob q.1 13 [.int (q.2.2 0), .int (q.2.2 1), .int (q.2.2 2), .int (q.2.2 3), .ref q.2.1, .int (bz (q.2.2 4))], (q.2.1, aI dT [q.2.2 5, q.2.2 6, q.2.2 7, q.2.2 8])], (((dn ++ q :: rem).eraseIdx dn.length).flatMap (msE dT)), [ob q_1 16 [.int (nI (dn.length + 1)), .int (nI dn.length), .int us, .ref (L 5)]], ((ob (L 5) 15 [.int us, .ref (al_d g (some (d, cap))), .int (nI (ads ms).length)]) :: (al_t dT (some (d, cap)) (ads ms))), [ob x 3 [.int 0, .ref (L 0), .ref (L 1), .ref (L 2), .ref (L 3), .ref (L 4), .ref (L 5), .int (sc 0), .int (bz (sc 1)), .int (sc 2), .int (sc 3), .int (sc 4), .int (sc 5), .int (sc 6)]]] := hw
    refine W.eq (g2 := F0 m 56 ls [.int r2.1, .int (q.2.2 0), .int a2]) rfl ?_
    refine lv_imul hx hb dX4_meanGrade_56 ?_
    refine lv_iadd hx hb dX4_meanGrade_57 ?_
    refine lv_istore_n (lv' := [(2, .int (a2 + (q.2.2 0 * r2.1))), (1, .int (a1 + q.2.2 0)), (4, .ref q.1), (3, .ref q_1), (0, .ref x)]) hx hb dX4_meanGrade_58 rfl hl (by decide) rfl (fun ls hl => ?_)
    refine lv_goto (tgt := 17) hx hb dX4_meanGrade_59 (by decide) ?_
    have hw : Wd D A s.heap _ _ [((dn ++ q :: rem).flatMap (msE dT)), [ob q_1 16 [.int (nI (dn.length + 1)), .int (nI dn.length), .int us, .ref (L 5)]], ((ob (L 5) 15 [.int us, .ref (al_d g (some (d, cap))), .int (nI (ads ms).length)]) :: (al_t dT (some (d, cap)) (ads ms))), [ob x 3 [.int 0, .ref (L 0), .ref (L 1), .ref (L 2), .ref (L 3), .ref (L 4), .ref (L 5), .int (sc 0), .int (bz (sc 1)), .int (sc 2), .int (sc 3), .int (sc 4), .int (sc 5), .int (sc 6)]]] := Wd.unf0 (q := q) (L := (dn ++ q :: rem)) (k := dn.length) hw mid_get
    have hwZ := hw
    have hlZ := hl
    subst hr2
    have hw := hwZ
    have hl := hlZ
    have hw9 : Wd D A s.heap H locs [(((dn ++ [q]) ++ rem).flatMap (msE dT)), [ob q_1 16 [.int (nI (dn ++ [q]).length), .int (nI dn.length), .int us, .ref (L 5)]], ((ob (L 5) 15 [.int us, .ref (al_d g (some (d, cap))), .int (nI (ads ms).length)]) :: (al_t dT (some (d, cap)) (ads ms))), [ob x 3 [.int 0, .ref (L 0), .ref (L 1), .ref (L 2), .ref (L 3), .ref (L 4), .ref (L 5), .int (sc 0), .int (bz (sc 1)), .int (sc 2), .int (sc 3), .int (sc 4), .int (sc 5), .int (sc 6)]]] := by rw [← mid0, snoc_len]; exact hw
    have hF9 : mm_f (a1, a2) q = (((a1 + q.2.2 0), (a2 + (q.2.2 0 * (f_X14_grade q.2.2).1))), q) := rfl
    have hI9 := mapA_step hF9 hI
    have hAd9 : ads ms = ads ((dn ++ [q]) ++ rem) := hAd.trans (ads_step rfl)
    have hw9 : Wd D A s.heap _ _ [[ob q_1 16 [.int (nI (dn ++ [q]).length), .int (nI dn.length), .int us, .ref (L 5)]], ((ob (L 5) 15 [.int us, .ref (al_d g (some (d, cap))), .int (nI (ads ms).length)]) :: (al_t dT (some (d, cap)) (ads ms))), [ob x 3 [.int 0, .ref (L 0), .ref (L 1), .ref (L 2), .ref (L 3), .ref (L 4), .ref (L 5), .int (sc 0), .int (bz (sc 1)), .int (sc 2), .int (sc 3), .int (sc 4), .int (sc 5), .int (sc 6)]], (((dn ++ [q]) ++ rem).flatMap (msE dT))] := Wd.take hw9 [1, 1, 1, 0] rfl rfl
    have hl9 := lv_sub hl [3, 0, 1, 4] rfl
    exact ih (dn := dn ++ [q]) (last := (nI dn.length)) (a1 := (a1 + q.2.2 0)) (a2 := (a2 + (q.2.2 0 * (f_X14_grade q.2.2).1))) (ls := _) (H := _) (locs := _) hI9 hAd9 hl9 hw9

