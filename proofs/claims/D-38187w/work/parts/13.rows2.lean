/-! MORE ROWS: calls over a world that is shown in two pieces; statics, Class objects, copies, interfaces -/
set_option maxRecDepth 100000
theorem lw_Fc {own : String} {idx : Nat} {C : String} {x y : MethodName} {b : ByteArray} {L : Nat} {r : Option FieldType} (h1 : Cond.methodLink own idx x ∈ lw_all) (h2 : Cond.selects C x y ∈ lw_all) (h3 : Cond.instanceMethod y ∈ lw_all) (h4 : Cond.initialized y.cls ∈ lw_all) (h5 : Cond.code y b L r ∈ lw_all) : GoodIn lw_all (va_wsF own idx C x y (ws_ y b L r)) := by
  refine lw_app ?_ (lw_meth h5)
  intro w hw
  simp only [List.mem_cons, List.not_mem_nil, or_false] at hw
  rcases hw with e | e | e | e
  · rw [e]; exact h1
  · rw [e]; exact h2
  · rw [e]; exact h3
  · rw [e]; exact h4
theorem lw_Uc {own : String} {idx : Nat} {C owner : String} {x y : MethodName} {b : ByteArray} {L : Nat} {r : Option FieldType} (h1 : Cond.methodLink own idx x ∈ lw_all) (h0 : Cond.sameMethod x.cls owner x.name x.desc ∈ lw_all) (h2 : Cond.selects C x y ∈ lw_all) (h3 : Cond.instanceMethod y ∈ lw_all) (h4 : Cond.initialized y.cls ∈ lw_all) (h5 : Cond.code y b L r ∈ lw_all) : GoodIn lw_all (va_wsU own idx C owner x y (ws_ y b L r)) := by
  refine lw_app ?_ (lw_meth h5)
  intro w hw
  simp only [List.mem_cons, List.not_mem_nil, or_false] at hw
  rcases hw with e | e | e | e | e
  · rw [e]; exact h1
  · rw [e]; exact h0
  · rw [e]; exact h2
  · rw [e]; exact h3
  · rw [e]; exact h4
section XR
variable {p : Program} {l : Launch} {e : Env} {R : Room} {s : State} {m : MethodId} {args : Array Value} {below : List Frame} {meth : Method} {c : Code} {H : Heap} {locs : List Loc} {cells slots : Nat} {Q : State → Prop}
variable {cc : ByteArray} {nL pc : Nat} {ls : Array Slot} {rest st0 : List Value} {D : va_G} {dT g : Nat → Nat} {z0 : Nat} {A : Nat → Prop} {LL LL' : List va_W} {H0 : Heap} {own : String} {a : Nat}

variable {y : MethodName} {bytes : ByteArray} {maxL mc ms n index : Nat} {ret : Option FieldType} {wl : List Cond} {rm : Room} {av As : List Value} {pre rst : List va_W} {post : Option Value → List va_W → Prop} {px : String → List va_W → Prop} {C : String} {b : Nat}

theorem xc_V (hf : CallFix p m c cc nL s args lw_all own) (hK : KK D dT g z0 s s.heap) (hA : ∀ q, s.heap.size ≤ q → A q) (hAz : ∀ q, A q → zA z0 q) (hstr : l.stackTraces = false) (hw2 : Wd D A s.heap H locs (pre ++ rst)) (hM : Con l D dT g z0 y wl rm (.ref b :: As) pre post px mc ms) (cw : CallW R s args own C index y bytes maxL ret wl rm mc ms n) (hv : ∃ cell : Cell, H[b]? = some cell ∧ cell.vm.isStatics = false ∧ s.vm.findClass C = some cell.cls) (hlen : As.length = n) (hl : ls.size = nL) (hst : st0 = As.reverse ++ .ref b :: rest) (hcat : (rest.map fun v => v.category).sum ≤ 8) (hd : decode cc pc = .ok (.invokevirtual index, 3)) (hcs : cells + mc ≤ R.cells ∧ slots + ms ≤ R.slots)
    (kx : ∀ (E : String) (LL1 : List va_W) (H1 : Heap) (locs1 : List Loc) (q9 : Nat) (ce : Cell), px E LL1 → Wd D A s.heap H1 locs1 (LL1 ++ rst) → H1[q9]? = some ce → ce.vm = .none → s.vm.findClass E = some ce.cls → vx_W p l e R s m args below meth c H1 locs1 (cells + mc) (slots + ms) Q (F0 m pc ls rest) q9)
    (kk : ∀ (v : Option Value) (LL1 : List va_W) (H1 : Heap) (locs1 : List Loc), post v LL1 → Wd D A s.heap H1 locs1 (LL1 ++ rst) → W p l e R s m args below meth c H1 locs1 (cells + mc) (slots + ms) Q (F0 m (pc + 3) ls (v.toList ++ rest))) : W p l e R s m args below meth c H locs cells slots Q (F0 m pc ls st0) := by
  exact xr_call (vx_runV (g := F0 m pc ls st0) hf (hM hstr H.size) cw ⟨cP_blind, hv, xr_pc hK hAz hw2⟩ rfl hlen hl hst (lv_room hcat) hd hcs) hw2 hA kx kk
theorem xc_VN {host : String} (hf : CallFix p m c cc nL s args lw_all own) (hK : KK D dT g z0 s s.heap) (hA : ∀ q, s.heap.size ≤ q → A q) (hAz : ∀ q, A q → zA z0 q) (hstr : l.stackTraces = false) (hw2 : Wd D A s.heap H locs (pre ++ rst)) (hM : Con l D dT g z0 y wl rm (.ref b :: As) pre post px mc ms) (cw : va_CN R s args own index y host bytes maxL ret wl rm mc ms n ∧ (Cond.instanceMethod y).before args s = true ∧ (Cond.selects C y y).before args s = true) (hv : ∃ cell : Cell, H[b]? = some cell ∧ cell.vm.isStatics = false ∧ s.vm.findClass C = some cell.cls) (hlen : As.length = n) (hl : ls.size = nL) (hst : st0 = As.reverse ++ .ref b :: rest) (hcat : (rest.map fun v => v.category).sum ≤ 8) (hd : decode cc pc = .ok (.invokevirtual index, 3)) (hcs : cells + mc ≤ R.cells ∧ slots + ms ≤ R.slots)
    (kx : ∀ (E : String) (LL1 : List va_W) (H1 : Heap) (locs1 : List Loc) (q9 : Nat) (ce : Cell), px E LL1 → Wd D A s.heap H1 locs1 (LL1 ++ rst) → H1[q9]? = some ce → ce.vm = .none → s.vm.findClass E = some ce.cls → vx_W p l e R s m args below meth c H1 locs1 (cells + mc) (slots + ms) Q (F0 m pc ls rest) q9)
    (kk : ∀ (v : Option Value) (LL1 : List va_W) (H1 : Heap) (locs1 : List Loc), post v LL1 → Wd D A s.heap H1 locs1 (LL1 ++ rst) → W p l e R s m args below meth c H1 locs1 (cells + mc) (slots + ms) Q (F0 m (pc + 3) ls (v.toList ++ rest))) : W p l e R s m args below meth c H locs cells slots Q (F0 m pc ls st0) := by
  exact xr_call (vx_runVN (g := F0 m pc ls st0) hf (hM hstr H.size) cw ⟨cP_blind, hv, xr_pc hK hAz hw2⟩ rfl hlen hl hst (lv_room hcat) hd hcs) hw2 hA kx kk
theorem xc_S (hf : CallFix p m c cc nL s args lw_all own) (hK : KK D dT g z0 s s.heap) (hA : ∀ q, s.heap.size ≤ q → A q) (hAz : ∀ q, A q → zA z0 q) (hstr : l.stackTraces = false) (hw2 : Wd D A s.heap H locs (pre ++ rst)) (hM : Con l D dT g z0 y wl rm As pre post px mc ms) (cw : CallB R s args own index y bytes maxL ret wl rm mc ms n ∧ (Cond.static y).before args s = true) (hlen : As.length = n) (hl : ls.size = nL) (hst : st0 = As.reverse ++ rest) (hcat : (rest.map fun v => v.category).sum ≤ 8) (hd : decode cc pc = .ok (.invokestatic index, 3)) (hcs : cells + mc ≤ R.cells ∧ slots + ms ≤ R.slots)
    (kx : ∀ (E : String) (LL1 : List va_W) (H1 : Heap) (locs1 : List Loc) (q9 : Nat) (ce : Cell), px E LL1 → Wd D A s.heap H1 locs1 (LL1 ++ rst) → H1[q9]? = some ce → ce.vm = .none → s.vm.findClass E = some ce.cls → vx_W p l e R s m args below meth c H1 locs1 (cells + mc) (slots + ms) Q (F0 m pc ls rest) q9)
    (kk : ∀ (v : Option Value) (LL1 : List va_W) (H1 : Heap) (locs1 : List Loc), post v LL1 → Wd D A s.heap H1 locs1 (LL1 ++ rst) → W p l e R s m args below meth c H1 locs1 (cells + mc) (slots + ms) Q (F0 m (pc + 3) ls (v.toList ++ rest))) : W p l e R s m args below meth c H locs cells slots Q (F0 m pc ls st0) := by
  exact xr_call (vx_runS (g := F0 m pc ls st0) hf (hM hstr H.size) cw ⟨cP_blind, xr_pc hK hAz hw2⟩ rfl hlen hl hst (lv_room hcat) hd hcs) hw2 hA kx kk
theorem xc_SN {host : String} (hf : CallFix p m c cc nL s args lw_all own) (hK : KK D dT g z0 s s.heap) (hA : ∀ q, s.heap.size ≤ q → A q) (hAz : ∀ q, A q → zA z0 q) (hstr : l.stackTraces = false) (hw2 : Wd D A s.heap H locs (pre ++ rst)) (hM : Con l D dT g z0 y wl rm As pre post px mc ms) (cw : va_CN R s args own index y host bytes maxL ret wl rm mc ms n ∧ (Cond.static y).before args s = true) (hlen : As.length = n) (hl : ls.size = nL) (hst : st0 = As.reverse ++ rest) (hcat : (rest.map fun v => v.category).sum ≤ 8) (hd : decode cc pc = .ok (.invokestatic index, 3)) (hcs : cells + mc ≤ R.cells ∧ slots + ms ≤ R.slots)
    (kx : ∀ (E : String) (LL1 : List va_W) (H1 : Heap) (locs1 : List Loc) (q9 : Nat) (ce : Cell), px E LL1 → Wd D A s.heap H1 locs1 (LL1 ++ rst) → H1[q9]? = some ce → ce.vm = .none → s.vm.findClass E = some ce.cls → vx_W p l e R s m args below meth c H1 locs1 (cells + mc) (slots + ms) Q (F0 m pc ls rest) q9)
    (kk : ∀ (v : Option Value) (LL1 : List va_W) (H1 : Heap) (locs1 : List Loc), post v LL1 → Wd D A s.heap H1 locs1 (LL1 ++ rst) → W p l e R s m args below meth c H1 locs1 (cells + mc) (slots + ms) Q (F0 m (pc + 3) ls (v.toList ++ rest))) : W p l e R s m args below meth c H locs cells slots Q (F0 m pc ls st0) := by
  exact xr_call (vx_runSN (g := F0 m pc ls st0) hf (hM hstr H.size) ⟨cw.1, cw.2, trivial⟩ ⟨cP_blind, xr_pc hK hAz hw2⟩ rfl hlen hl hst (lv_room hcat) hd hcs) hw2 hA kx kk
theorem xc_I (hf : CallFix p m c cc nL s args lw_all own) (hK : KK D dT g z0 s s.heap) (hA : ∀ q, s.heap.size ≤ q → A q) (hAz : ∀ q, A q → zA z0 q) (hstr : l.stackTraces = false) (hw2 : Wd D A s.heap H locs (pre ++ rst)) (hM : Con l D dT g z0 y wl rm (.ref b :: As) pre post px mc ms) (cw : CallB R s args own index y bytes maxL none wl rm mc ms n ∧ y.name = "<init>" ∧ (Cond.instanceMethod y).before args s = true) (hlen : As.length = n) (hl : ls.size = nL) (hst : st0 = As.reverse ++ .ref b :: rest) (hcat : (rest.map fun v => v.category).sum ≤ 8) (hd : decode cc pc = .ok (.invokespecial index, 3)) (hcs : cells + mc ≤ R.cells ∧ slots + ms ≤ R.slots)
    (kx : ∀ (E : String) (LL1 : List va_W) (H1 : Heap) (locs1 : List Loc) (q9 : Nat) (ce : Cell), px E LL1 → Wd D A s.heap H1 locs1 (LL1 ++ rst) → H1[q9]? = some ce → ce.vm = .none → s.vm.findClass E = some ce.cls → vx_W p l e R s m args below meth c H1 locs1 (cells + mc) (slots + ms) Q (F0 m pc ls rest) q9)
    (kk : ∀ (v : Option Value) (LL1 : List va_W) (H1 : Heap) (locs1 : List Loc), post v LL1 → Wd D A s.heap H1 locs1 (LL1 ++ rst) → W p l e R s m args below meth c H1 locs1 (cells + mc) (slots + ms) Q (F0 m (pc + 3) ls (v.toList ++ rest))) : W p l e R s m args below meth c H locs cells slots Q (F0 m pc ls st0) := by
  exact xr_call (vx_runI (g := F0 m pc ls st0) hf (hM hstr H.size) cw ⟨cP_blind, xr_pc hK hAz hw2⟩ rfl hlen hl hst (lv_room hcat) hd hcs) hw2 hA kx kk
theorem xc_IN {host : String} (hf : CallFix p m c cc nL s args lw_all own) (hK : KK D dT g z0 s s.heap) (hA : ∀ q, s.heap.size ≤ q → A q) (hAz : ∀ q, A q → zA z0 q) (hstr : l.stackTraces = false) (hw2 : Wd D A s.heap H locs (pre ++ rst)) (hM : Con l D dT g z0 y wl rm (.ref b :: As) pre post px mc ms) (cw : va_CN R s args own index y host bytes maxL none wl rm mc ms n ∧ y.name = "<init>" ∧ (Cond.instanceMethod y).before args s = true) (hlen : As.length = n) (hl : ls.size = nL) (hst : st0 = As.reverse ++ .ref b :: rest) (hcat : (rest.map fun v => v.category).sum ≤ 8) (hd : decode cc pc = .ok (.invokespecial index, 3)) (hcs : cells + mc ≤ R.cells ∧ slots + ms ≤ R.slots)
    (kx : ∀ (E : String) (LL1 : List va_W) (H1 : Heap) (locs1 : List Loc) (q9 : Nat) (ce : Cell), px E LL1 → Wd D A s.heap H1 locs1 (LL1 ++ rst) → H1[q9]? = some ce → ce.vm = .none → s.vm.findClass E = some ce.cls → vx_W p l e R s m args below meth c H1 locs1 (cells + mc) (slots + ms) Q (F0 m pc ls rest) q9)
    (kk : ∀ (v : Option Value) (LL1 : List va_W) (H1 : Heap) (locs1 : List Loc), post v LL1 → Wd D A s.heap H1 locs1 (LL1 ++ rst) → W p l e R s m args below meth c H1 locs1 (cells + mc) (slots + ms) Q (F0 m (pc + 3) ls (v.toList ++ rest))) : W p l e R s m args below meth c H locs cells slots Q (F0 m pc ls st0) := by
  exact xr_call (vx_runIN (g := F0 m pc ls st0) hf (hM hstr H.size) cw ⟨cP_blind, xr_pc hK hAz hw2⟩ rfl hlen hl hst (lv_room hcat) hd hcs) hw2 hA kx kk
/-- a call of an inherited method -/
theorem xc_U {owner : String} {x : MethodName} (hf : CallFix p m c cc nL s args lw_all own) (hK : KK D dT g z0 s s.heap) (hA : ∀ q, s.heap.size ≤ q → A q) (hAz : ∀ q, A q → zA z0 q) (hstr : l.stackTraces = false) (hw2 : Wd D A s.heap H locs (pre ++ rst)) (hM : Con l D dT g z0 y wl rm (.ref b :: As) pre post px mc ms) (cw : va_CU R s args own C owner index x y bytes maxL ret wl rm mc ms n) (hv : ∃ cell : Cell, H[b]? = some cell ∧ cell.vm.isStatics = false ∧ s.vm.findClass C = some cell.cls) (hlen : As.length = n) (hl : ls.size = nL) (hst : st0 = As.reverse ++ .ref b :: rest) (hcat : (rest.map fun v => v.category).sum ≤ 8) (hd : decode cc pc = .ok (.invokevirtual index, 3)) (hcs : cells + mc ≤ R.cells ∧ slots + ms ≤ R.slots)
    (kx : ∀ (E : String) (LL1 : List va_W) (H1 : Heap) (locs1 : List Loc) (q9 : Nat) (ce : Cell), px E LL1 → Wd D A s.heap H1 locs1 (LL1 ++ rst) → H1[q9]? = some ce → ce.vm = .none → s.vm.findClass E = some ce.cls → vx_W p l e R s m args below meth c H1 locs1 (cells + mc) (slots + ms) Q (F0 m pc ls rest) q9)
    (kk : ∀ (v : Option Value) (LL1 : List va_W) (H1 : Heap) (locs1 : List Loc), post v LL1 → Wd D A s.heap H1 locs1 (LL1 ++ rst) → W p l e R s m args below meth c H1 locs1 (cells + mc) (slots + ms) Q (F0 m (pc + 3) ls (v.toList ++ rest))) : W p l e R s m args below meth c H locs cells slots Q (F0 m pc ls st0) := by
  exact xr_call (vx_runU (g := F0 m pc ls st0) hf (hM hstr H.size) cw ⟨cP_blind, hv, xr_pc hK hAz hw2⟩ rfl hlen hl hst (lv_room hcat) hd hcs) hw2 hA kx kk
theorem xr_call5 (hr : vx_Run5 p l e R s m args below meth c H locs cells slots mc ms (F0 m pc ls st0) rest (cQ D (va_A pre.flatten H.size) post av.toArray) (cX D (va_A pre.flatten H.size) px) (va_A pre.flatten H.size)) (hw : Wd D A s.heap H locs (pre ++ rst)) (hA : ∀ q, s.heap.size ≤ q → A q)
    (kx : ∀ (E : String) (LL1 : List va_W) (H1 : Heap) (locs1 : List Loc) (q9 : Nat) (ce : Cell), px E LL1 → Wd D A s.heap H1 locs1 (LL1 ++ rst) → H1[q9]? = some ce → ce.vm = .none → s.vm.findClass E = some ce.cls → vx_W p l e R s m args below meth c H1 locs1 (cells + mc) (slots + ms) Q (F0 m pc ls rest) q9)
    (kk : ∀ (v : Option Value) (LL1 : List va_W) (H1 : Heap) (locs1 : List Loc), post v LL1 → Wd D A s.heap H1 locs1 (LL1 ++ rst) → W p l e R s m args below meth c H1 locs1 (cells + mc) (slots + ms) Q (F0 m (pc + 5) ls (v.toList ++ rest))) : W p l e R s m args below meth c H locs cells slots Q (F0 m pc ls st0) := by
  intro T hT X
  have hA2 : ∀ q, H.size ≤ q → A q := fun q h => hA q (Nat.le_trans hw.2.1 h)
  have hw1 := hw.1
  rw [List.flatten_append] at hw1
  have hf : ∀ q, va_A pre.flatten H.size q → A q := by
    intro q hq
    rcases hq with ⟨k, e, hk⟩ | hq
    · exact (wp_D.mp hw1.2).2 (q, e) (List.mem_append_left _ (List.mem_of_getElem? hk))
    · exact hA2 q hq
  rcases hr T hT X with ⟨v, st₀, t, T', L, h0, X', hL, e1, e2, ⟨⟨v', LL1, hv, hp, hPD⟩, hF⟩, st⟩ | ⟨q, st₀, t, T', L, E, ce, h0, X', hL, e1, e2, ⟨⟨LL1, hp, hPD⟩, hF⟩, hce, hcv, hcl, st⟩
  · cases hv
    obtain ⟨k1, k2, k3⟩ := vx_keep h0 e1 hw.2 (fun q _ h => hf q h) hf hL hF
    obtain ⟨t2, a1, b1⟩ := kk v LL1 T'.heap (locs ++ L) hp ⟨by rw [List.flatten_append]; exact wp_frame hw1 hA2 k2 (by rw [e1]; exact hPD), k3⟩ T' rfl X'
    exact ⟨t2, st t2 a1, b1⟩
  · obtain ⟨k1, k2, k3⟩ := vx_keep h0 e1 hw.2 (fun q _ h => hf q h) hf hL hF
    obtain ⟨t2, a1, b1⟩ := kx E LL1 T'.heap (locs ++ L) q ce hp ⟨by rw [List.flatten_append]; exact wp_frame hw1 hA2 k2 (by rw [e1]; exact hPD), k3⟩ (by rw [e1]; exact hce) hcv hcl T' rfl X'
    exact ⟨t2, st.trans a1, b1⟩
/-- a call through an interface -/
theorem xc_F {count ci : Nat} {T : u_T} {N : Nat} {x : MethodName} (hf : CallFix p m c cc nL s args lw_all own) (hK : KK D dT g z0 s s.heap) (hA : ∀ q, s.heap.size ≤ q → A q) (hAz : ∀ q, A q → zA z0 q) (hstr : l.stackTraces = false) (hw2 : Wd D A s.heap H locs (pre ++ rst)) (hM : Con l D dT g z0 y wl rm (.ref b :: As) pre post px mc ms) (cw : va_CI R s args own C index x y bytes maxL ret wl rm mc ms n) (hc : vwCl[ci]? = some (C, T, N)) (hv : ∃ cell : Cell, H[b]? = some cell ∧ cell.vm.isStatics = false ∧ s.vm.findClass C = some cell.cls) (hlen : As.length = n) (hl : ls.size = nL) (hst : st0 = As.reverse ++ .ref b :: rest) (hcat : (rest.map fun v => v.category).sum ≤ 8) (hd : decode cc pc = .ok (.invokeinterface index count, 5)) (hcs : cells + mc ≤ R.cells ∧ slots + ms ≤ R.slots)
    (kx : ∀ (E : String) (LL1 : List va_W) (H1 : Heap) (locs1 : List Loc) (q9 : Nat) (ce : Cell), px E LL1 → Wd D A s.heap H1 locs1 (LL1 ++ rst) → H1[q9]? = some ce → ce.vm = .none → s.vm.findClass E = some ce.cls → vx_W p l e R s m args below meth c H1 locs1 (cells + mc) (slots + ms) Q (F0 m pc ls rest) q9)
    (kk : ∀ (v : Option Value) (LL1 : List va_W) (H1 : Heap) (locs1 : List Loc), post v LL1 → Wd D A s.heap H1 locs1 (LL1 ++ rst) → W p l e R s m args below meth c H1 locs1 (cells + mc) (slots + ms) Q (F0 m (pc + 5) ls (v.toList ++ rest))) : W p l e R s m args below meth c H locs cells slots Q (F0 m pc ls st0) :=
  xr_call5 (vx_runF (g := F0 m pc ls st0) (hK.k.1 ci _ hc).2 hf (hM hstr H.size) cw ⟨cP_blind, hv, xr_pc hK hAz hw2⟩ rfl hlen hl hst (lv_room hcat) hd hcs) hw2 hA kx kk
/-! ## statics -/
theorem xr_gets {Cn nm ds ref : String} {v : Value} (hf : CallFix p m c cc nL s args lw_all own) (hAz : ∀ q, A q → zA z0 q) (hZ : va_Z Cn nm ds v (zA z0) s s.heap) (hw : Wd D A s.heap H locs LL) (hq : Cond.fieldLink own index ref nm ds ∈ lw_all) (hsame : ∀ x, s.fieldFound? Cn nm ds = some x → s.fieldFound? ref nm ds = some x) (hdg : decode cc pc = .ok (.getstatic index, 3))
    (kk : W p l e R s m args below meth c H locs cells slots Q (F0 m (pc + 3) ls (v :: rest))) : W p l e R s m args below meth c H locs cells slots Q (F0 m pc ls rest) :=
  va_gets hf.1 hf.2.1 (hZ.narrow hAz) hw.2 hf.2.2.2.1 (hf.2.2.2.2 _ hq) hsame hdg kk
theorem xr_slen {ty : FieldType} {t N : Nat} {f : Nat → Value} (hf : CallFix p m c cc nL s args lw_all own) (hAz : ∀ q, A q → zA z0 q) (hT : va_T ty t N f (zA z0) s s.heap) (hw : Wd D A s.heap H locs LL) {v : Int32} (hv : Int32.ofNat N = v) (hdg : decode cc pc = .ok (.arraylength, 1))
    (kk : W p l e R s m args below meth c H locs cells slots Q (F0 m (pc + 1) ls (.int v :: rest))) : W p l e R s m args below meth c H locs cells slots Q (F0 m pc ls (.ref t :: rest)) :=
  va_tlen hf.1 hf.2.1 (hT.narrow hAz) hw.2 hv hdg kk
theorem xr_sld {t N : Nat} {f : Nat → Value} (hf : CallFix p m c cc nL s args lw_all own) (hAz : ∀ q, A q → zA z0 q) (hT : va_T .int t N f (zA z0) s s.heap) (hw : Wd D A s.heap H locs LL) {i : Int32} {v : Value} (hin : vp_in i N) (hv : f i.toNatClampNeg = v) (hdg : decode cc pc = .ok (.iaload, 1))
    (kk : W p l e R s m args below meth c H locs cells slots Q (F0 m (pc + 1) ls (v :: rest))) : W p l e R s m args below meth c H locs cells slots Q (F0 m pc ls (.int i :: .ref t :: rest)) :=
  va_ti hf.1 hf.2.1 (hT.narrow hAz) hw.2 hin hv hdg kk
/-! ## Class objects -/
theorem xr_ldcM {Cn : String} {mi : Nat} (hf : CallFix p m c cc nL s args lw_all own) (hM : va_Mi Cn mi s) (hq : Cond.classLink own index Cn ∈ lw_all) (hdg : decode cc pc = .ok (.ldc index, 2))
    (kk : W p l e R s m args below meth c H locs cells slots Q (F0 m (pc + 2) ls (.ref mi :: rest))) : W p l e R s m args below meth c H locs cells slots Q (F0 m pc ls rest) :=
  va_ldcM hf.1 hf.2.1 hf.2.2.2.1 (hf.2.2.2.2 _ hq) hM hdg kk
theorem xr_getCA {t n : Nat} {f : Nat → Option Nat} {Cn nm : String} {mi : Nat} (hf : CallFix p m c cc nL s args lw_all own) (hl : ls.size = nL) (hK : KK D dT g z0 s s.heap) (hw : Wd D A H0 H locs LL) (i j : Nat) (he : sg_at LL i j = some (a, aR dT t n f)) (ht : (tysG dT)[t]? = some (dT t, .object Cn)) (hnm : "[" ++ (FieldType.object Cn).toString = nm) (hM : va_Mi nm mi s) (q1 : Cond.methodLink own index gcN ∈ lw_all) (q2 : Cond.declares gcN ∈ lw_tbl) (q3 : Cond.selects nm gcN gcN ∈ lw_all) (q4 : Cond.instanceMethod gcN ∈ lw_all) (q5 : Cond.native gcN ∈ lw_all) (hframes : 1 ≤ R.frames) (hlocals : (rest.map fun v => v.category).sum + 14 ≤ R.locals) (hdg : decode cc pc = .ok (.invokevirtual index, 3))
    (kk : W p l e R s m args below meth c H locs cells slots Q (F0 m (pc + 3) ls (.ref mi :: rest))) : W p l e R s m args below meth c H locs cells slots Q (F0 m pc ls (.ref a :: rest)) := by
  obtain ⟨q0, h1, -⟩ := sg_find he
  have hcell := hw.1.1 q0 _ h1
  refine va_getC hf.1 hf.2.1 (hf.2.2.1.trans hl.symm) hf.2.2.2.1 (hf.2.2.2.2 _ q1) (va_Nw.use rfl (hK.nw q2 rfl)) (hf.2.2.2.2 _ q3) (hf.2.2.2.2 _ q4) (hf.2.2.2.2 _ q5) hM ⟨_, hcell, rfl, ?_⟩ hframes hlocals hdg kk
  exact va_nmO (hK.k.2 t _ ht).2 hnm
theorem sel_gc {C : String} {args : Array Value} {s : State} (h1 : (Cond.selects C gcN gcN).before args s = true) (h2 : (Cond.interfaceMethod gcI.cls "java/lang/Object" gcI.name gcI.desc).before args s = true) : (Cond.selects C gcI gcN).before args s = true := by
  obtain ⟨c, k, r, -, -, -, e1, e2⟩ := Cond.interfaceMethod_spec h2
  obtain ⟨c2, r2, m2, -, e3, e4, -⟩ := Cond.selects_spec h1
  have e5 : s.methodNamed? gcN = some r := e2
  have e6 : s.methodFound? gcN.cls gcN.name gcN.desc = some r := State.methodFound?_of_named e5 (by decide)
  have e : s.methodFound? gcI.cls gcI.name gcI.desc = s.methodFound? gcN.cls gcN.name gcN.desc := by rw [e1, e6]
  rw [← h1]
  simp only [Cond.before, Cond.holds, Cond.value, e]
theorem xr_getCI {count ci : Nat} {fs : List Value} {T : u_T} {N mi : Nat} (hf : CallFix p m c cc nL s args lw_all own) (hl : ls.size = nL) (hK : KK D dT g z0 s s.heap) (hw : Wd D A H0 H locs LL) (i j : Nat) (he : sg_at LL i j = some (a, .inr (ci, fs))) (hc : vwCl[ci]? = some (C, T, N)) (hG : va_Gc C s) (hM : va_Mi C mi s) (q1 : Cond.methodLink own index gcI ∈ lw_all) (q3 : Cond.selects C gcN gcN ∈ lw_all) (q4 : Cond.instanceMethod gcN ∈ lw_all) (q5 : Cond.native gcN ∈ lw_all) (hframes : 1 ≤ R.frames) (hlocals : (rest.map fun v => v.category).sum + 14 ≤ R.locals) (hdg : decode cc pc = .ok (.invokeinterface index count, 5))
    (kk : W p l e R s m args below meth c H locs cells slots Q (F0 m (pc + 5) ls (.ref mi :: rest))) : W p l e R s m args below meth c H locs cells slots Q (F0 m pc ls (.ref a :: rest)) := by
  obtain ⟨cell, g1, g2, g3⟩ := xr_rv hK hw i j he hc
  obtain ⟨c0, k0, h1, h2, h3⟩ := hM
  obtain ⟨w1, w2, w3, w4, w5⟩ := hG
  cases h1.symm.trans g3
  intro T hT X
  obtain ⟨vm', X', st⟩ := X.getClassOfI hf.1 (xi := gcI) hf.2.2.2.1 (hf.2.2.2.2 _ q1) (va_any rfl w1) (va_any rfl w2) (sel_gc (hf.2.2.2.2 _ q3) (va_any rfl w2)) (hf.2.2.2.2 _ q4) (va_any rfl w3) (va_any rfl w4) (va_any rfl w5) (hf.2.2.2.2 _ q5) (by decide) (by decide) rfl rfl h1 h2 ⟨cell, by rw [hT]; exact g1, rfl, g2⟩ h3 (g := F0 m pc ls (.ref a :: rest)) rfl (by show ls.size = _; rw [hl, hf.2.2.1]) rfl (by rw [hf.2.1]; exact hdg) hframes (by show 2 * 0 + _ + _ ≤ _; have hw : nativeFrameWords "java/lang/Object" "getClass" 1 = 3 := (by decide); omega)
  obtain ⟨t, a1, b1⟩ := kk (T.setVm vm') hT X'
  exact ⟨t, st t a1, b1⟩
/-! ## elements of lists: what they are -/
def okE (dT : Nat → Nat) (e : va_E) : Prop := match e with
  | .inr o => o.1 ∈ [1, 2, 7, 8, 9, 10, 11, 12, 13, 15]
  | .inl x => x.1 = dT 0 ∧ ∃ L : List Int32, x = (dT 0, L.length, .inl (fun i => L.getD i 0))
def elOK (dT : Nat → Nat) (EE : List va_W) (x : Nat) : Prop := ∃ e, (x, e) ∈ EE.flatten ∧ okE dT e
theorem castO : ∀ k ∈ [1, 2, 7, 8, 9, 10, 11, 12, 13, 15], ∃ (C : String) (T : u_T) (N : Nat), vwCl[k]? = some (C, T, N) ∧ Cond.castable C "java/lang/Object" ∈ lw_tbl := by
  intro k hk
  simp only [List.mem_cons, List.not_mem_nil, or_false] at hk
  rcases hk with rfl | rfl | rfl | rfl | rfl | rfl | rfl | rfl | rfl | rfl
  · exact ⟨_, _, _, rfl, q1678⟩
  · exact ⟨_, _, _, rfl, q1679⟩
  · exact ⟨_, _, _, rfl, q1683⟩
  · exact ⟨_, _, _, rfl, q1684⟩
  · exact ⟨_, _, _, rfl, q1688⟩
  · exact ⟨_, _, _, rfl, q1689⟩
  · exact ⟨_, _, _, rfl, q1690⟩
  · exact ⟨_, _, _, rfl, q1691⟩
  · exact ⟨_, _, _, rfl, q1692⟩
  · exact ⟨_, _, _, rfl, q1677⟩
theorem xr_anyE (hK : KK D dT g z0 s s.heap) (hw : Wd D A H0 H locs LL) {x : Nat} {e : va_E} (hm : (x, e) ∈ LL.flatten) (he : okE dT e) : va_Any "java/lang/Object" s H x := by
  have hat := wp_P.mp hw.1.1 _ hm
  cases e with
  | inr o =>
    obtain ⟨C, T, N, hc, hq⟩ := castO o.1 he
    obtain ⟨r, h1, cell, h2, h3, h4, -⟩ := hat
    cases hc.symm.trans h1
    have hcl := (hK.k.1 o.1 _ hc).2
    obtain ⟨kC, hkC, -⟩ := hcl.2
    refine ⟨cell, h2, by rw [h4]; rfl, ⟨kC, by rw [h3]; exact hkC⟩, fun comp h => ?_⟩
    obtain ⟨c3, c4, f1, f2, f3⟩ := Cond.castable_spec (va_Nw.use (A := #[]) rfl (hK.nw hq rfl))
    cases f1.symm.trans hcl.1
    cases f2.symm.trans h
    rw [h3]; exact f3
  | inl y =>
    obtain ⟨-, L, rfl⟩ := he
    have hcell : H[x]? = some (vp_cell (dT 0) (L.length, .inl (fun i => L.getD i 0))) := hat
    have hra := (hK.k.2 0 (dT 0, .int) rfl).2
    obtain ⟨c3, c4, f1, f2, f3⟩ := Cond.castable_spec (va_Nw.use (A := #[]) rfl (hK.nw q1699 rfl))
    have e0 : c3 = dT 0 := Option.some.inj (f1.symm.trans hra)
    subst e0
    obtain ⟨kC, hkC, -⟩ := Vm.findClass_spec f1
    refine ⟨_, hcell, rfl, ⟨kC, hkC⟩, fun comp h => ?_⟩
    cases f2.symm.trans h
    exact f3
theorem elOK.any (hK : KK D dT g z0 s s.heap) {L1 EE L2 : List va_W} (hw : Wd D A H0 H locs (L1 ++ EE ++ L2)) {x : Nat} (h : elOK dT EE x) : va_Any "java/lang/Object" s H x := by
  obtain ⟨e, h1, h2⟩ := h
  refine xr_anyE hK hw ?_ h2
  rw [List.flatten_append, List.flatten_append]
  exact List.mem_append_left _ (List.mem_append_right _ h1)
theorem Wd.rot {x : va_W} (h : Wd D A H0 H locs (LL ++ [x])) : Wd D A H0 H locs (x :: LL) := h.perm (by
  have : (LL ++ [x]).Perm (x :: LL) := List.perm_append_comm
  exact this.flatten)
/-! ## copies -/
theorem xr_copyR {n0 n1 : Nat} {f f' : Nat → Option Nat} (hf : CallFix p m c cc nL s args lw_all own) (hl : ls.size = nL) (hK : KK D dT g z0 s s.heap) (hw : Wd D A H0 H locs LL) (i j i' j' : Nat) {a0 : Nat} (he0 : sg_at LL i j = some (a0, aR dT 1 n0 f)) (he1 : sg_at LL i' j' = some (a, aR dT 1 n1 f')) {sp dp n : Int32} (sN dN nN : Nat) (h1 : ¬ sp < 0) (h2 : ¬ dp < 0) (h3 : ¬ n < 0) (e1 : sp.toNatClampNeg = sN) (e2 : dp.toNatClampNeg = dN) (e3 : n.toNatClampNeg = nN) (h4 : sN + nN ≤ n0) (h5 : dN + nN ≤ n1) (hel : ∀ i : Nat, i < nN → ∀ y : Nat, f (sN + i) = some y → va_Any "java/lang/Object" s H y) (q1 : Cond.methodLink own index arraycopyName ∈ lw_all) (q2 : Cond.native arraycopyName ∈ lw_all) (q3 : Cond.static arraycopyName ∈ lw_all) (q4 : Cond.initialized "java/lang/System" ∈ lw_all) (hframes : 1 ≤ R.frames) (hlocals : (rest.map fun v => v.category).sum + (nativeFrameWords "java/lang/System" "arraycopy" 5 + 11) ≤ R.locals) {f2 : Nat → Option Nat} (hf2 : va_cpy f f' sN dN nN = f2) (hs : sg_set LL i' j' (a, aR dT 1 n1 f2) = LL') (hdg : decode cc pc = .ok (.invokestatic index, 3))
    (kk : ∀ (H1 : Heap) (locs1 : List Loc), Wd D A H0 H1 locs1 LL' → W p l e R s m args below meth c H1 locs1 cells slots Q (F0 m (pc + 3) ls rest)) : W p l e R s m args below meth c H locs cells slots Q (F0 m pc ls (.int n :: .int dp :: .ref a :: .int sp :: .ref a0 :: rest)) := by
  obtain ⟨q0, g1, -⟩ := sg_find he0
  obtain ⟨q0', g2, g3⟩ := sg_find he1
  subst hs; subst e1; subst e2; subst e3; subst hf2
  refine va_copyM hf.1 hf.2.1 (hf.2.2.1.trans hl.symm) hf.2.2.2.1 (hf.2.2.2.2 _ q1) (hf.2.2.2.2 _ q2) (hf.2.2.2.2 _ q3) (hf.2.2.2.2 _ q4) hK.k hw.1.1 hw.1.2 hw.2 q0 q0' 1 1 g1 g2 rfl rfl h1 h2 h3 h4 h5 hel hframes hlocals hdg fun H1 locs1 a1 a2 a3 => kk H1 locs1 ⟨⟨?_, ?_⟩, a3⟩
  · rw [← g3]; exact a1
  · rw [← g3]; exact a2
theorem cpy3 {u0 u1 u2 x0 x1 x2 : Int32} : va_cpy (fun i => [u0, u1, u2].getD i 0) (fun i => [x0, x1, x2].getD i 0) 0 0 3 = fun i => [u0, u1, u2].getD i 0 := by
  funext i
  match i with
  | 0 => rfl
  | 1 => rfl
  | 2 => rfl
  | i + 3 => simp [va_cpy]
theorem xr_copy3 {u0 u1 u2 x0 x1 x2 : Int32} (hf : CallFix p m c cc nL s args lw_all own) (hl : ls.size = nL) (hK : KK D dT g z0 s s.heap) (hw : Wd D A H0 H locs LL) (i j i' j' : Nat) {a0 : Nat} (he0 : sg_at LL i j = some (a0, aI dT [u0, u1, u2])) (he1 : sg_at LL i' j' = some (a, aI dT [x0, x1, x2])) (q1 : Cond.methodLink own index arraycopyName ∈ lw_all) (q2 : Cond.native arraycopyName ∈ lw_all) (q3 : Cond.static arraycopyName ∈ lw_all) (q4 : Cond.initialized "java/lang/System" ∈ lw_all) (hframes : 1 ≤ R.frames) (hlocals : (rest.map fun v => v.category).sum + (nativeFrameWords "java/lang/System" "arraycopy" 5 + 11) ≤ R.locals) (hs : sg_set LL i' j' (a, aI dT [u0, u1, u2]) = LL') (hdg : decode cc pc = .ok (.invokestatic index, 3))
    (kk : ∀ (H1 : Heap) (locs1 : List Loc), Wd D A H0 H1 locs1 LL' → W p l e R s m args below meth c H1 locs1 cells slots Q (F0 m (pc + 3) ls rest)) : W p l e R s m args below meth c H locs cells slots Q (F0 m pc ls (.int 3 :: .int 0 :: .ref a :: .int 0 :: .ref a0 :: rest)) := by
  obtain ⟨q0, g1, -⟩ := sg_find he0
  obtain ⟨q0', g2, g3⟩ := sg_find he1
  subst hs
  have hu : (Sum.inl (dT 0, 3, Sum.inl (va_cpy (fun i => [u0, u1, u2].getD i 0) (fun i => [x0, x1, x2].getD i 0) (0 : Int32).toNatClampNeg (0 : Int32).toNatClampNeg (3 : Int32).toNatClampNeg)) : va_E) = aI dT [u0, u1, u2] := by
    rw [show (0 : Int32).toNatClampNeg = 0 by decide, show (3 : Int32).toNatClampNeg = 3 by decide, cpy3]; rfl
  refine va_copyi hf.1 hf.2.1 (hf.2.2.1.trans hl.symm) hf.2.2.2.1 (hf.2.2.2.2 _ q1) (hf.2.2.2.2 _ q2) (hf.2.2.2.2 _ q3) (hf.2.2.2.2 _ q4) hK.k hw.1.1 hw.1.2 hw.2 q0 q0' 0 0 g1 g2 rfl rfl rfl (by decide) (by decide) (by decide) (by show _ ≤ 3; decide) (by show _ ≤ 3; decide) (fun _ _ => rfl) hframes hlocals hdg fun H1 locs1 a1 a2 a3 => kk H1 locs1 ⟨⟨?_, ?_⟩, a3⟩
  · rw [← g3, ← hu]; exact a1
  · rw [← g3, ← hu]; exact a2
end XR
