/-! ROWS over worlds by segments -/
set_option maxRecDepth 100000
abbrev aI (dT : Nat → Nat) (l : List Int32) : va_E := .inl (dT 0, l.length, .inl (fun i => l.getD i 0))
abbrev aL (dT : Nat → Nat) (l : List Int64) : va_E := .inl (dT 2, l.length, .inr (.inl (fun i => l.getD i 0)))
abbrev aR (dT : Nat → Nat) (t n : Nat) (f : Nat → Option Nat) : va_E := .inl (dT t, n, .inr (.inr (.inr (.inr f))))
abbrev ob (a ci : Nat) (fs : List Value) : Nat × va_E := (a, .inr (ci, fs))
theorem ai_upd {l : List Int32} {k : Nat} {x : Int32} (h : k < l.length) : upd (fun i => l.getD i 0) k x = fun i => (l.set k x).getD i 0 := by
  funext i
  by_cases hi : i = k
  · subst hi; simp [upd, h]
  · have hi' : ¬ k = i := fun e => hi e.symm
    simp [upd, hi, hi', List.getD, List.getElem?_set]
theorem al_upd {l : List Int64} {k : Nat} {x : Int64} (h : k < l.length) : vp_updL (fun i => l.getD i 0) k x = fun i => (l.set k x).getD i 0 := by
  funext i
  by_cases hi : i = k
  · subst hi; simp [vp_updL, h]
  · have hi' : ¬ k = i := fun e => hi e.symm
    simp [vp_updL, hi, hi', List.getD, List.getElem?_set]
theorem vpin {i : Int32} {k n : Nat} (h0 : ¬ i < 0) (hk : i.toNatClampNeg = k) (hl : k < n) : vp_in i n := by
  intro h
  rcases h with h | h
  · exact h0 h
  · rw [hk] at h; omega
theorem vx_ofWF {l : Launch} {y : MethodName} {ws ws' : List Cond} {rm : Room} {Pc : Array Value → State → Prop} {Qc : Array Value → State → Outcome → State → Prop} {XC : String → State → State → Prop} {mc ms : Nat} {free : Addr → Prop} {cc : ByteArray} {maxL : Nat} {ret : Option FieldType}
    (hy : plainFor y = true) (hw : ws = Cond.code y cc maxL ret :: ws')
    (body : ∀ p e s m args below meth c s₁, BodyLoose p l y (headSpec ws rm) cc maxL ret e s m args below meth c s₁ → c.maxLocals = maxL → (∀ x ∈ c.exceptionTable.toList, False) → Pc args s →
      W p l e (headSpec ws rm).room s m args below meth c s.heap [] 0 0 (vx_MQ below Qc XC args s mc ms free) (entryFrame m args maxL)) : vx_Met l y ws rm Pc Qc XC mc ms free := by
  refine MetFree.of_bodySF (code := cc) (maxLocals := maxL) (ret := ret) hy ?_ ?_
  · intro args s m h hn
    obtain ⟨meth, c, h1, h2, h3, h4, h5, h6, -, -⟩ := Cond.code_spec hn (atoms_spec (ws := ws) h _ (by rw [hw]; exact List.mem_cons_self))
    exact ⟨meth, c, h1, h2, h3, h4, h5, h6⟩
  · intro p e s m args below meth c s₁ B hml hP _
    have hh0 : s₁.heap = s.heap := by rw [B.state]; rfl
    have ht : ∀ x ∈ c.exceptionTable.toList, False := by
      obtain ⟨meth9, c9, h1, h2, -, -, -, -, h7, -⟩ := Cond.code_spec B.named (atoms_spec (ws := ws) B.pre _ (by rw [hw]; exact List.mem_cons_self))
      cases Option.some.inj (h1.symm.trans B.method)
      cases Option.some.inj (h2.symm.trans (Stand.of_body B).code)
      intro x hx
      rw [Array.isEmpty_iff.mp h7] at hx
      cases hx
    obtain ⟨t, a1, o, b1, b2, b3⟩ := body p e s m args below meth c s₁ B hml ht hP s₁ hh0 (Stand.of_body B)
    exact ⟨t, o, a1, b1, b2, b3⟩
section XR
variable {p : Program} {l : Launch} {e : Env} {R : Room} {s : State} {m : MethodId} {args : Array Value} {below : List Frame} {meth : Method} {c : Code} {H : Heap} {locs : List Loc} {cells slots : Nat} {Q : State → Prop}
variable {cc : ByteArray} {nL pc : Nat} {ls : Array Slot} {rest st0 : List Value} {D : va_G} {dT g : Nat → Nat} {z0 : Nat} {A : Nat → Prop} {LL LL' : List va_W} {H0 : Heap} {own : String} {a : Nat}
theorem Con.of {y : MethodName} {ws' : List Cond} {rm : Room} {av : List Value} {pre : List va_W} {post : Option Value → List va_W → Prop} {px : String → List va_W → Prop} {mc ms maxL : Nat} {ret : Option FieldType} (hy : plainFor y = true) (hlen : (lg_sl av).length ≤ maxL)
    (body : ∀ (p : Program) (e : Env) (s : State) (m : MethodId) (args : Array Value) (below : List Frame) (meth : Method) (c : Code) (A : Nat → Prop) (ls : Array Slot), CallFix p m c cc maxL s args ws' y.cls → meth.sig.returnType = ret → meth.locks = false → meth.name = y.name → (∀ x ∈ c.exceptionTable.toList, False) → KK D dT g z0 s s.heap → (∀ q, s.heap.size ≤ q → A q) → (∀ q, A q → zA z0 q) → Wd D A s.heap s.heap [] pre → lv_has ls maxL (lv_args 0 av) → l.stackTraces = false →
      W p l e rm s m args below meth c s.heap [] 0 0 (vx_MQ below (cQ D A post) (cX D A px) args s mc ms A) (F0 m 0 ls [])) : Con l D dT g z0 y (Cond.code y cc maxL ret :: ws') rm av pre post px mc ms := by
  intro hst sz
  refine vx_ofWF (cc := cc) (maxL := maxL) (ret := ret) hy rfl ?_
  intro p e s m args below meth c s₁ B hml hno hv
  obtain ⟨rfl, hsz, hP, hD, hK⟩ := hv
  subst hsz
  have hts := atoms_spec (ws := Cond.code y cc maxL ret :: ws') B.pre
  have hl := lv_entry av (n := maxL) hlen
  rw [lg_entry_eq]
  refine body p e s m _ below meth c _ _ ⟨B.exec, B.bytes, hml, findClass_of_methodNamed B.named, fun w h => hts w (List.mem_cons_of_mem _ h)⟩ B.returns B.notSynchronized (name_of_methodNamed B.named B.method).1 hno hK (fun q h => Or.inr h) ?_ ⟨⟨hP, hD.self⟩, va_S.rf⟩ hl hst
  intro q hq
  rcases hq with ⟨k, e, hk⟩ | hq
  · exact hD.2 k (q, e) hk
  · exact Nat.le_trans hK.2.2.2.2.1 hq
/-! ## ends -/
section ENDS
variable {post : Option Value → List va_W → Prop} {XC : String → State → State → Prop} {mc ms : Nat}
theorem xr_iret {v : Int32} (hf : CallFix p m c cc nL s args lw_all own) (hr : meth.sig.returnType = some .int) (hlocks : meth.locks = false) (hw : Wd D A s.heap H locs LL) (hc : cells ≤ mc) (hs : slots ≤ ms) (hp : post (some (.int v)) LL) (d : decode cc pc = .ok (.ireturn, 1)) : W p l e R s m args below meth c H locs cells slots (vx_MQ below (cQ D A post) XC args s mc ms A) (F0 m pc ls [.int v]) :=
  W.widen hc hs (vx_ret (W.iret hf.1 hf.2.1 hr (fun t ht hW => ⟨⟨_, LL, rfl, hp, by rw [ht]; exact hw.1⟩, hw.2.F ht⟩) hw.2.2.2 d hlocks))
theorem xr_zret {v : Int32} (hf : CallFix p m c cc nL s args lw_all own) (hr : meth.sig.returnType = some .boolean) (hlocks : meth.locks = false) (hw : Wd D A s.heap H locs LL) (hc : cells ≤ mc) (hs : slots ≤ ms) (hn : narrow .boolean (.int v) = .int v) (hp : post (some (.int v)) LL) (d : decode cc pc = .ok (.ireturn, 1)) : W p l e R s m args below meth c H locs cells slots (vx_MQ below (cQ D A post) XC args s mc ms A) (F0 m pc ls [.int v]) :=
  W.widen hc hs (vx_ret (W.zret hf.1 hf.2.1 hr hn (fun t ht hW => ⟨⟨_, LL, rfl, hp, by rw [ht]; exact hw.1⟩, hw.2.F ht⟩) hw.2.2.2 d hlocks))
theorem xr_lret {v : Int64} (hf : CallFix p m c cc nL s args lw_all own) (hr : meth.sig.returnType = some .long) (hlocks : meth.locks = false) (hw : Wd D A s.heap H locs LL) (hc : cells ≤ mc) (hs : slots ≤ ms) (hp : post (some (.long v)) LL) (d : decode cc pc = .ok (.lreturn, 1)) : W p l e R s m args below meth c H locs cells slots (vx_MQ below (cQ D A post) XC args s mc ms A) (F0 m pc ls [.long v]) :=
  W.widen hc hs (vx_ret (W.lret hf.1 hf.2.1 hr (fun t ht hW => ⟨⟨_, LL, rfl, hp, by rw [ht]; exact hw.1⟩, hw.2.F ht⟩) hw.2.2.2 d hlocks))
theorem xr_dret {v : UInt64} (hf : CallFix p m c cc nL s args lw_all own) (hr : meth.sig.returnType = some .double) (hlocks : meth.locks = false) (hw : Wd D A s.heap H locs LL) (hc : cells ≤ mc) (hs : slots ≤ ms) (hp : post (some (.double v)) LL) (d : decode cc pc = .ok (.dreturn, 1)) : W p l e R s m args below meth c H locs cells slots (vx_MQ below (cQ D A post) XC args s mc ms A) (F0 m pc ls [.double v]) :=
  W.widen hc hs (vx_ret (W.dret hf.1 hf.2.1 hr (fun t ht hW => ⟨⟨_, LL, rfl, hp, by rw [ht]; exact hw.1⟩, hw.2.F ht⟩) hw.2.2.2 d hlocks))
theorem xr_vret (hf : CallFix p m c cc nL s args lw_all own) (hr : meth.sig.returnType = none) (hlocks : meth.locks = false) (hw : Wd D A s.heap H locs LL) (hc : cells ≤ mc) (hs : slots ≤ ms) (hp : post none LL) (d : decode cc pc = .ok (.return_, 1)) : W p l e R s m args below meth c H locs cells slots (vx_MQ below (cQ D A post) XC args s mc ms A) (F0 m pc ls []) :=
  W.widen hc hs (vx_ret (W.vret hf.1 hf.2.1 hr (fun t ht hW => ⟨⟨_, LL, rfl, hp, by rw [ht]; exact hw.1⟩, hw.2.F ht⟩) hw.2.2.2 d hlocks))
theorem xr_aret {v : Value} {rt : FieldType} (hf : CallFix p m c cc nL s args lw_all own) (hr : meth.sig.returnType = some rt) (hrt : (∃ n, rt = .object n) ∨ ∃ t, rt = .array t) (hv : v = .null ∨ ∃ a, v = .ref a) (hlocks : meth.locks = false) (hw : Wd D A s.heap H locs LL) (hc : cells ≤ mc) (hs : slots ≤ ms) (hp : post (some v) LL) (d : decode cc pc = .ok (.areturn, 1)) : W p l e R s m args below meth c H locs cells slots (vx_MQ below (cQ D A post) XC args s mc ms A) (F0 m pc ls [v]) :=
  W.widen hc hs (vx_ret (W.aret hf.1 hf.2.1 hr hrt hv (fun t ht hW => ⟨⟨_, LL, rfl, hp, by rw [ht]; exact hw.1⟩, hw.2.F ht⟩) hw.2.2.2 d hlocks))
end ENDS
/-! ## fields -/
theorem xr_get (hf : CallFix p m c cc nL s args lw_all own) (hK : KK D dT g z0 s s.heap) (hw : Wd D A H0 H locs LL) (i j : Nat) {ci : Nat} {fs : List Value} (he : sg_at LL i j = some (a, .inr (ci, fs))) {C ref : String} {T : u_T} {N index : Nat} (hc : vwCl[ci]? = some (C, T, N)) (hin : ∀ w ∈ u_ws C T N, w ∈ lw_all) (k : Nat) (hk : k < N) (hq : Cond.fieldLink own index ref (T k).2.1 (T k).2.2.1 ∈ lw_all) (hsame : ∀ x, s.fieldFound? (T k).1 (T k).2.1 (T k).2.2.1 = some x → s.fieldFound? ref (T k).2.1 (T k).2.2.1 = some x) {v : Value} (hv : fs[k]? = some v) (hdg : decode cc pc = .ok (.getfield index, 3))
    (kk : W p l e R s m args below meth c H locs cells slots Q (F0 m (pc + 3) ls (v :: rest))) : W p l e R s m args below meth c H locs cells slots Q (F0 m pc ls (.ref a :: rest)) := by
  obtain ⟨q0, h1, -⟩ := sg_find he
  exact va_get hf.1 hf.2.1 hf.2.2.2.2 hin hf.2.2.2.1 hK.k hw.1.1 q0 h1 hc k hk (hf.2.2.2.2 _ hq) hsame hv hdg kk
theorem xr_getN (hf : CallFix p m c cc nL s args lw_all own) (hK : KK D dT g z0 s s.heap) (hw : Wd D A H0 H locs LL) (i j : Nat) {ci : Nat} {fs : List Value} (he : sg_at LL i j = some (a, .inr (ci, fs))) {C ref host : String} {T : u_T} {N index : Nat} (hc : vwCl[ci]? = some (C, T, N)) (hin : ∀ w ∈ u_ws C T N, w ∈ lw_all) (k : Nat) (hk : k < N) (hq : Cond.fieldLinkNest own index ref (T k).2.1 (T k).2.2.1 host ∈ lw_tbl) (hsame : ∀ x, s.fieldFound? (T k).1 (T k).2.1 (T k).2.2.1 = some x → s.fieldFound? ref (T k).2.1 (T k).2.2.1 = some x) {v : Value} (hv : fs[k]? = some v) (hdg : decode cc pc = .ok (.getfield index, 3))
    (kk : W p l e R s m args below meth c H locs cells slots Q (F0 m (pc + 3) ls (v :: rest))) : W p l e R s m args below meth c H locs cells slots Q (F0 m pc ls (.ref a :: rest)) := by
  obtain ⟨q0, h1, -⟩ := sg_find he
  exact va_getN hf.1 hf.2.1 hf.2.2.2.2 hin hf.2.2.2.1 hK.k hw.1.1 q0 h1 hc k hk (va_Nw.use rfl (hK.nw hq rfl)) hsame hv hdg kk
theorem xr_put (hf : CallFix p m c cc nL s args lw_all own) (hK : KK D dT g z0 s s.heap) (hw : Wd D A H0 H locs LL) (i j : Nat) {ci : Nat} {fs : List Value} (he : sg_at LL i j = some (a, .inr (ci, fs))) {C ref : String} {T : u_T} {N index : Nat} (hc : vwCl[ci]? = some (C, T, N)) (hin : ∀ w ∈ u_ws C T N, w ∈ lw_all) {ty0 : Nat → FieldType} (hty : ∀ k, k < N → parseFieldDescriptor (T k).2.2.1 = some (ty0 k)) (hnm : ∀ a, a < N → ∀ b, b < N → a ≠ b → (T a).2.1 ≠ (T b).2.1) (k : Nat) (hk : k < N) (hq : Cond.fieldLink own index ref (T k).2.1 (T k).2.2.1 ∈ lw_all) (hsame : ∀ x, s.fieldFound? (T k).1 (T k).2.1 (T k).2.2.1 = some x → s.fieldFound? ref (T k).2.1 (T k).2.2.1 = some x) (hfin : (T k).2.2.2 = false) {v : Value} (hn : narrow (ty0 k) v = v) (hfit : fits (ty0 k) v = true) (hl : k < fs.length) (hs : sg_set LL i j (a, .inr (ci, fs.set k v)) = LL') (hdg : decode cc pc = .ok (.putfield index, 3))
    (kk : ∀ (H1 : Heap) (locs1 : List Loc), Wd D A H0 H1 locs1 LL' → W p l e R s m args below meth c H1 locs1 cells slots Q (F0 m (pc + 3) ls rest)) : W p l e R s m args below meth c H locs cells slots Q (F0 m pc ls (v :: .ref a :: rest)) := by
  obtain ⟨q0, h1, h2⟩ := sg_find he
  subst hs
  refine va_put hf.1 hf.2.1 hf.2.2.2.2 hin ty0 hty hnm hf.2.2.2.1 hK.k hw.1.1 hw.1.2 hw.2 q0 h1 hc k hk (hf.2.2.2.2 _ hq) hsame hfin (hty k hk) hn hfit hl hdg fun H1 locs1 a1 a2 a3 => kk H1 locs1 ⟨⟨?_, ?_⟩, a3⟩
  · rw [← h2]; exact a1
  · rw [← h2]; exact a2
theorem xr_putN (hf : CallFix p m c cc nL s args lw_all own) (hK : KK D dT g z0 s s.heap) (hw : Wd D A H0 H locs LL) (i j : Nat) {ci : Nat} {fs : List Value} (he : sg_at LL i j = some (a, .inr (ci, fs))) {C ref host : String} {T : u_T} {N index : Nat} (hc : vwCl[ci]? = some (C, T, N)) (hin : ∀ w ∈ u_ws C T N, w ∈ lw_all) {ty0 : Nat → FieldType} (hty : ∀ k, k < N → parseFieldDescriptor (T k).2.2.1 = some (ty0 k)) (hnm : ∀ a, a < N → ∀ b, b < N → a ≠ b → (T a).2.1 ≠ (T b).2.1) (k : Nat) (hk : k < N) (hq : Cond.fieldLinkNest own index ref (T k).2.1 (T k).2.2.1 host ∈ lw_tbl) (hsame : ∀ x, s.fieldFound? (T k).1 (T k).2.1 (T k).2.2.1 = some x → s.fieldFound? ref (T k).2.1 (T k).2.2.1 = some x) (hfin : (T k).2.2.2 = false) {v : Value} (hn : narrow (ty0 k) v = v) (hfit : fits (ty0 k) v = true) (hl : k < fs.length) (hs : sg_set LL i j (a, .inr (ci, fs.set k v)) = LL') (hdg : decode cc pc = .ok (.putfield index, 3))
    (kk : ∀ (H1 : Heap) (locs1 : List Loc), Wd D A H0 H1 locs1 LL' → W p l e R s m args below meth c H1 locs1 cells slots Q (F0 m (pc + 3) ls rest)) : W p l e R s m args below meth c H locs cells slots Q (F0 m pc ls (v :: .ref a :: rest)) := by
  obtain ⟨q0, h1, h2⟩ := sg_find he
  subst hs
  refine va_putN hf.1 hf.2.1 hf.2.2.2.2 hin ty0 hty hnm hf.2.2.2.1 hK.k hw.1.1 hw.1.2 hw.2 q0 h1 hc k hk (va_Nw.use rfl (hK.nw hq rfl)) hsame hfin (hty k hk) hn hfit hl hdg fun H1 locs1 a1 a2 a3 => kk H1 locs1 ⟨⟨?_, ?_⟩, a3⟩
  · rw [← h2]; exact a1
  · rw [← h2]; exact a2
theorem xr_putF (hf : CallFix p m c cc nL s args lw_all own) (hK : KK D dT g z0 s s.heap) (hw : Wd D A H0 H locs LL) (i j : Nat) {ci : Nat} {fs : List Value} (he : sg_at LL i j = some (a, .inr (ci, fs))) {C ref : String} {T : u_T} {N index : Nat} (hc : vwCl[ci]? = some (C, T, N)) (hin : ∀ w ∈ u_ws C T N, w ∈ lw_all) {ty0 : Nat → FieldType} (hty : ∀ k, k < N → parseFieldDescriptor (T k).2.2.1 = some (ty0 k)) (hnm : ∀ a, a < N → ∀ b, b < N → a ≠ b → (T a).2.1 ≠ (T b).2.1) (k : Nat) (hk : k < N) (hq : Cond.fieldLink own index ref (T k).2.1 (T k).2.2.1 ∈ lw_all) (hsame : ∀ x, s.fieldFound? (T k).1 (T k).2.1 (T k).2.2.1 = some x → s.fieldFound? ref (T k).2.1 (T k).2.2.1 = some x) (hfin : (T k).2.2.2 = true) (hin2 : meth.name = "<init>") (hdecl : (T k).1 = own) {v : Value} (hn : narrow (ty0 k) v = v) (hfit : fits (ty0 k) v = true) (hl : k < fs.length) (hs : sg_set LL i j (a, .inr (ci, fs.set k v)) = LL') (hdg : decode cc pc = .ok (.putfield index, 3))
    (kk : ∀ (H1 : Heap) (locs1 : List Loc), Wd D A H0 H1 locs1 LL' → W p l e R s m args below meth c H1 locs1 cells slots Q (F0 m (pc + 3) ls rest)) : W p l e R s m args below meth c H locs cells slots Q (F0 m pc ls (v :: .ref a :: rest)) := by
  obtain ⟨q0, h1, h2⟩ := sg_find he
  subst hs
  refine va_putF hf.1 hf.2.1 hf.2.2.2.2 hin ty0 hty hnm hf.2.2.2.1 hK.k hw.1.1 hw.1.2 hw.2 q0 h1 hc k hk (hf.2.2.2.2 _ hq) hsame hfin hin2 hdecl (hty k hk) hn hfit hl hdg fun H1 locs1 a1 a2 a3 => kk H1 locs1 ⟨⟨?_, ?_⟩, a3⟩
  · rw [← h2]; exact a1
  · rw [← h2]; exact a2
/-! ## arrays -/
theorem xr_iald (hf : CallFix p m c cc nL s args lw_all own) (hK : KK D dT g z0 s s.heap) (hw : Wd D A H0 H locs LL) (i j : Nat) {L : List Int32} (he : sg_at LL i j = some (a, aI dT L)) (k : Nat) {x v : Int32} (h0 : ¬ x < 0) (hk : x.toNatClampNeg = k) (hl : k < L.length) (hv : L.getD k 0 = v) (hdg : decode cc pc = .ok (.iaload, 1))
    (kk : W p l e R s m args below meth c H locs cells slots Q (F0 m (pc + 1) ls (.int v :: rest))) : W p l e R s m args below meth c H locs cells slots Q (F0 m pc ls (.int x :: .ref a :: rest)) := by
  obtain ⟨q0, h1, -⟩ := sg_find he
  refine va_iald hf.1 hf.2.1 hK.k hw.1.1 q0 0 h1 rfl (vpin h0 hk hl) hdg ?_
  rw [hk, hv]; exact kk
theorem xr_iast (hf : CallFix p m c cc nL s args lw_all own) (hK : KK D dT g z0 s s.heap) (hw : Wd D A H0 H locs LL) (i j : Nat) {L : List Int32} (he : sg_at LL i j = some (a, aI dT L)) (k : Nat) {x v : Int32} (h0 : ¬ x < 0) (hk : x.toNatClampNeg = k) (hl : k < L.length) (hs : sg_set LL i j (a, aI dT (L.set k v)) = LL') (hdg : decode cc pc = .ok (.iastore, 1))
    (kk : ∀ (H1 : Heap) (locs1 : List Loc), Wd D A H0 H1 locs1 LL' → W p l e R s m args below meth c H1 locs1 cells slots Q (F0 m (pc + 1) ls rest)) : W p l e R s m args below meth c H locs cells slots Q (F0 m pc ls (.int v :: .int x :: .ref a :: rest)) := by
  obtain ⟨q0, h1, h2⟩ := sg_find he
  subst hs
  have hu : (Sum.inl (dT 0, L.length, Sum.inl (upd (fun i => L.getD i 0) x.toNatClampNeg v)) : va_E) = aI dT (L.set k v) := by
    rw [hk, ai_upd hl, aI, List.length_set]
  refine va_iast hf.1 hf.2.1 hK.k hw.1.1 hw.1.2 hw.2 q0 0 h1 rfl (vpin h0 hk hl) hdg fun H1 locs1 a1 a2 a3 => kk H1 locs1 ⟨⟨?_, ?_⟩, a3⟩
  · rw [← h2, ← hu]; exact a1
  · rw [← h2, ← hu]; exact a2
theorem xr_lald (hf : CallFix p m c cc nL s args lw_all own) (hK : KK D dT g z0 s s.heap) (hw : Wd D A H0 H locs LL) (i j : Nat) {L : List Int64} (he : sg_at LL i j = some (a, aL dT L)) (k : Nat) {x : Int32} {v : Int64} (h0 : ¬ x < 0) (hk : x.toNatClampNeg = k) (hl : k < L.length) (hv : L.getD k 0 = v) (hdg : decode cc pc = .ok (.laload, 1))
    (kk : W p l e R s m args below meth c H locs cells slots Q (F0 m (pc + 1) ls (.long v :: rest))) : W p l e R s m args below meth c H locs cells slots Q (F0 m pc ls (.int x :: .ref a :: rest)) := by
  obtain ⟨q0, h1, -⟩ := sg_find he
  refine va_lald hf.1 hf.2.1 hK.k hw.1.1 q0 2 h1 rfl (vpin h0 hk hl) hdg ?_
  rw [hk, hv]; exact kk
theorem xr_last (hf : CallFix p m c cc nL s args lw_all own) (hK : KK D dT g z0 s s.heap) (hw : Wd D A H0 H locs LL) (i j : Nat) {L : List Int64} (he : sg_at LL i j = some (a, aL dT L)) (k : Nat) {x : Int32} {v : Int64} (h0 : ¬ x < 0) (hk : x.toNatClampNeg = k) (hl : k < L.length) (hs : sg_set LL i j (a, aL dT (L.set k v)) = LL') (hdg : decode cc pc = .ok (.lastore, 1))
    (kk : ∀ (H1 : Heap) (locs1 : List Loc), Wd D A H0 H1 locs1 LL' → W p l e R s m args below meth c H1 locs1 cells slots Q (F0 m (pc + 1) ls rest)) : W p l e R s m args below meth c H locs cells slots Q (F0 m pc ls (.long v :: .int x :: .ref a :: rest)) := by
  obtain ⟨q0, h1, h2⟩ := sg_find he
  subst hs
  have hu : (Sum.inl (dT 2, L.length, Sum.inr (Sum.inl (vp_updL (fun i => L.getD i 0) x.toNatClampNeg v))) : va_E) = aL dT (L.set k v) := by
    rw [hk, al_upd hl, aL, List.length_set]
  refine va_last hf.1 hf.2.1 hK.k hw.1.1 hw.1.2 hw.2 q0 2 h1 rfl (vpin h0 hk hl) hdg fun H1 locs1 a1 a2 a3 => kk H1 locs1 ⟨⟨?_, ?_⟩, a3⟩
  · rw [← h2, ← hu]; exact a1
  · rw [← h2, ← hu]; exact a2
theorem xr_ilen (hf : CallFix p m c cc nL s args lw_all own) (hK : KK D dT g z0 s s.heap) (hw : Wd D A H0 H locs LL) (i j : Nat) {L : List Int32} (he : sg_at LL i j = some (a, aI dT L)) {v : Int32} (hv : Int32.ofNat L.length = v) (hdg : decode cc pc = .ok (.arraylength, 1))
    (kk : W p l e R s m args below meth c H locs cells slots Q (F0 m (pc + 1) ls (.int v :: rest))) : W p l e R s m args below meth c H locs cells slots Q (F0 m pc ls (.ref a :: rest)) := by
  obtain ⟨q0, h1, -⟩ := sg_find he
  exact va_alen hf.1 hf.2.1 hK.k hw.1.1 q0 0 h1 rfl hv hdg kk
theorem xr_rlen (hf : CallFix p m c cc nL s args lw_all own) (hK : KK D dT g z0 s s.heap) (hw : Wd D A H0 H locs LL) (i j : Nat) {t n : Nat} {f : Nat → Option Nat} (he : sg_at LL i j = some (a, aR dT t n f)) {ty : FieldType} (ht : (tysG dT)[t]? = some (dT t, ty)) {v : Int32} (hv : Int32.ofNat n = v) (hdg : decode cc pc = .ok (.arraylength, 1))
    (kk : W p l e R s m args below meth c H locs cells slots Q (F0 m (pc + 1) ls (.int v :: rest))) : W p l e R s m args below meth c H locs cells slots Q (F0 m pc ls (.ref a :: rest)) := by
  obtain ⟨q0, h1, -⟩ := sg_find he
  exact va_alen hf.1 hf.2.1 hK.k hw.1.1 q0 t h1 ht hv hdg kk
theorem xr_aald (hf : CallFix p m c cc nL s args lw_all own) (hK : KK D dT g z0 s s.heap) (hw : Wd D A H0 H locs LL) (i j : Nat) {t n : Nat} {f : Nat → Option Nat} (he : sg_at LL i j = some (a, aR dT t n f)) {C : String} (ht : (tysG dT)[t]? = some (dT t, .object C)) (k : Nat) {x : Int32} {r : Option Nat} (h0 : ¬ x < 0) (hk : x.toNatClampNeg = k) (hl : k < n) (hv : f k = r) (hdg : decode cc pc = .ok (.aaload, 1))
    (kk : W p l e R s m args below meth c H locs cells slots Q (F0 m (pc + 1) ls (va_rf r :: rest))) : W p l e R s m args below meth c H locs cells slots Q (F0 m pc ls (.int x :: .ref a :: rest)) := by
  obtain ⟨q0, h1, -⟩ := sg_find he
  refine va_aldq hf.1 hf.2.1 hK.k hw.1.1 q0 t h1 ht (vpin h0 hk hl) hdg ?_
  rw [hk, hv]; exact kk
/-- what an object of the world is, for an array of references or a cast: its class -/
theorem xr_any (hK : KK D dT g z0 s s.heap) (hw : Wd D A H0 H locs LL) (i j : Nat) {ci : Nat} {fs : List Value} (he : sg_at LL i j = some (a, .inr (ci, fs))) {C E : String} {T : u_T} {N : Nat} (hc : vwCl[ci]? = some (C, T, N)) (hq : Cond.castable C E ∈ lw_tbl) : va_Any E s H a := by
  obtain ⟨q0, h1, -⟩ := sg_find he
  refine va_rAny hK.k hw.1.1 h1 hc ?_
  intro comp c0 e1 e2
  obtain ⟨c3, c4, f1, f2, f3⟩ := Cond.castable_spec (va_Nw.use (A := #[]) rfl (hK.nw hq rfl))
  cases f1.symm.trans e2
  cases f2.symm.trans e1
  exact f3
theorem xr_aast (hf : CallFix p m c cc nL s args lw_all own) (hK : KK D dT g z0 s s.heap) (hw : Wd D A H0 H locs LL) (i j : Nat) {t n : Nat} {f : Nat → Option Nat} (he : sg_at LL i j = some (a, aR dT t n f)) {E : String} (ht : (tysG dT)[t]? = some (dT t, .object E)) (k : Nat) {x : Int32} {v : Nat} (h0 : ¬ x < 0) (hk : x.toNatClampNeg = k) (hl : k < n) (hr : va_Any E s H v) (hs : sg_set LL i j (a, aR dT t n (va_up f k (some v))) = LL') (hdg : decode cc pc = .ok (.aastore, 1))
    (kk : ∀ (H1 : Heap) (locs1 : List Loc), Wd D A H0 H1 locs1 LL' → W p l e R s m args below meth c H1 locs1 cells slots Q (F0 m (pc + 1) ls rest)) : W p l e R s m args below meth c H locs cells slots Q (F0 m pc ls (.ref v :: .int x :: .ref a :: rest)) := by
  obtain ⟨q0, h1, h2⟩ := sg_find he
  subst hs; subst hk
  refine va_astqM hf.1 hf.2.1 hK.k hw.1.1 hw.1.2 hw.2 q0 t h1 ht hr (vpin h0 rfl hl) hdg fun H1 locs1 a1 a2 a3 => kk H1 locs1 ⟨⟨?_, ?_⟩, a3⟩
  · rw [← h2]; exact a1
  · rw [← h2]; exact a2
theorem xr_aastN (hf : CallFix p m c cc nL s args lw_all own) (hK : KK D dT g z0 s s.heap) (hw : Wd D A H0 H locs LL) (i j : Nat) {t n : Nat} {f : Nat → Option Nat} (he : sg_at LL i j = some (a, aR dT t n f)) {E : String} (ht : (tysG dT)[t]? = some (dT t, .object E)) (k : Nat) {x : Int32} (h0 : ¬ x < 0) (hk : x.toNatClampNeg = k) (hl : k < n) (hs : sg_set LL i j (a, aR dT t n (va_up f k none)) = LL') (hdg : decode cc pc = .ok (.aastore, 1))
    (kk : ∀ (H1 : Heap) (locs1 : List Loc), Wd D A H0 H1 locs1 LL' → W p l e R s m args below meth c H1 locs1 cells slots Q (F0 m (pc + 1) ls rest)) : W p l e R s m args below meth c H locs cells slots Q (F0 m pc ls (.null :: .int x :: .ref a :: rest)) := by
  obtain ⟨q0, h1, h2⟩ := sg_find he
  subst hs; subst hk
  refine va_astqN hf.1 hf.2.1 hK.k hw.1.1 hw.1.2 hw.2 q0 t h1 ht (vpin h0 rfl hl) hdg fun H1 locs1 a1 a2 a3 => kk H1 locs1 ⟨⟨?_, ?_⟩, a3⟩
  · rw [← h2]; exact a1
  · rw [← h2]; exact a2
theorem xr_snoc {LL : List va_W} {x : Nat × va_E} : (LL ++ [[x]]).flatten = LL.flatten ++ [x] := by simp
theorem xr_new (hf : CallFix p m c cc nL s args lw_all own) (hK : KK D dT g z0 s s.heap) (hw : Wd D A H0 H locs LL) (hA : ∀ q, H0.size ≤ q → A q) (ci : Nat) {C : String} {T : u_T} {N index : Nat} (hc : vwCl[ci]? = some (C, T, N)) (hin : ∀ w ∈ u_ws C T N, w ∈ lw_all) {ty0 : Nat → FieldType} (hty : ∀ k, k < N → parseFieldDescriptor (T k).2.2.1 = some (ty0 k)) (q1 : Cond.classLink own index C ∈ lw_all) (q2 : Cond.instantiable C N ∈ lw_all) (q3 : Cond.initialized C ∈ lw_all) {fs : List Value} (hfs : (List.range N).map (fun k => defaultValue (ty0 k)) = fs) (hcells : cells + 1 ≤ R.cells) (hslots : slots + N ≤ R.slots) (hs : ∀ q, LL ++ [[(q, .inr (ci, fs))]] = LL' ++ [[(q, .inr (ci, fs))]]) (hdg : decode cc pc = .ok (.new index, 3))
    (kk : ∀ (q : Nat) (H1 : Heap), Wd D A H0 H1 locs (LL' ++ [[(q, .inr (ci, fs))]]) → W p l e R s m args below meth c H1 locs (cells + 1) (slots + N) Q (F0 m (pc + 3) ls (.ref q :: rest))) : W p l e R s m args below meth c H locs cells slots Q (F0 m pc ls rest) := by
  refine va_new hf.1 hf.2.1 hf.2.2.2.2 hin ty0 hty hf.2.2.2.1 (hf.2.2.2.2 _ q1) (hf.2.2.2.2 _ q2) (hf.2.2.2.2 _ q3) hK.k hw.1.1 hw.1.2 hw.2 hA hc (fs := fs) ?_ hcells hslots hdg fun q H1 a1 a2 a3 => kk q H1 ?_
  · intro j hj
    subst hfs
    simp [vp_V, hj]
  · rw [← hs q]
    exact ⟨by rw [xr_snoc]; exact ⟨a1, a2⟩, a3⟩
theorem xr_newi (hf : CallFix p m c cc nL s args lw_all own) (hK : KK D dT g z0 s s.heap) (hw : Wd D A H0 H locs LL) (hA : ∀ q, H0.size ≤ q → A q) (q1 : Cond.arrayClass .int ∈ lw_all) {n : Int32} {N : Nat} (hn : ¬ n < 0) (hN : n.toNatClampNeg = N) (hbytes : N * 4 ≤ 536870912) (hcells : cells + 1 ≤ R.cells) (hslots : slots + N ≤ R.slots) (hdg : decode cc pc = .ok (.newarray .int, 2))
    (kk : ∀ (q : Nat) (H1 : Heap), Wd D A H0 H1 locs (LL ++ [[(q, aI dT (List.replicate N 0))]]) → W p l e R s m args below meth c H1 locs (cells + 1) (slots + N) Q (F0 m (pc + 2) ls (.ref q :: rest))) : W p l e R s m args below meth c H locs cells slots Q (F0 m pc ls (.int n :: rest)) := by
  refine va_newa (atype := .int) (ty := .int) (a0 := (N, .inl (fun i => (List.replicate N (0 : Int32)).getD i 0))) hf.1 hf.2.1 (hf.2.2.2.2 _ q1) rfl hK.k hw.1.1 hw.1.2 hw.2 hA ?_ hn hN hbytes hcells hslots hdg fun q cA H1 a0 a1 a2 a3 => kk q H1 ?_
  · intro cA
    have e : (fun i => (List.replicate N (0 : Int32)).getD i 0) = fun _ => (0 : Int32) := by
      funext i
      simp only [List.getD, List.getElem?_replicate]
      split <;> rfl
    rw [e]; rfl
  · have h1 := (a0.2 8 (cA, .int) rfl).2
    have h2 := (a0.2 0 (dT 0, .int) rfl).2
    have e : cA = dT 0 := Option.some.inj (h1.symm.trans h2)
    subst e
    have el : aI dT (List.replicate N 0) = .inl (dT 0, N, .inl (fun i => (List.replicate N (0 : Int32)).getD i 0)) := by rw [aI, List.length_replicate]
    exact ⟨by rw [xr_snoc, el]; exact ⟨a1, a2⟩, a3⟩
theorem xr_newl (hf : CallFix p m c cc nL s args lw_all own) (hK : KK D dT g z0 s s.heap) (hw : Wd D A H0 H locs LL) (hA : ∀ q, H0.size ≤ q → A q) (q1 : Cond.arrayClass .long ∈ lw_all) {n : Int32} {N : Nat} (hn : ¬ n < 0) (hN : n.toNatClampNeg = N) (hbytes : N * 8 ≤ 536870912) (hcells : cells + 1 ≤ R.cells) (hslots : slots + N ≤ R.slots) (hdg : decode cc pc = .ok (.newarray .long, 2))
    (kk : ∀ (q : Nat) (H1 : Heap), Wd D A H0 H1 locs (LL ++ [[(q, aL dT (List.replicate N 0))]]) → W p l e R s m args below meth c H1 locs (cells + 1) (slots + N) Q (F0 m (pc + 2) ls (.ref q :: rest))) : W p l e R s m args below meth c H locs cells slots Q (F0 m pc ls (.int n :: rest)) := by
  refine va_newa (atype := .long) (ty := .long) (a0 := (N, .inr (.inl (fun i => (List.replicate N (0 : Int64)).getD i 0)))) hf.1 hf.2.1 (hf.2.2.2.2 _ q1) rfl hK.k hw.1.1 hw.1.2 hw.2 hA ?_ hn hN hbytes hcells hslots hdg fun q cA H1 a0 a1 a2 a3 => kk q H1 ?_
  · intro cA
    have e : (fun i => (List.replicate N (0 : Int64)).getD i 0) = fun _ => (0 : Int64) := by
      funext i
      simp only [List.getD, List.getElem?_replicate]
      split <;> rfl
    rw [e]; rfl
  · have h1 := (a0.2 8 (cA, .long) rfl).2
    have h2 := (a0.2 2 (dT 2, .long) rfl).2
    have e : cA = dT 2 := Option.some.inj (h1.symm.trans h2)
    subst e
    have el : aL dT (List.replicate N 0) = .inl (dT 2, N, .inr (.inl (fun i => (List.replicate N (0 : Int64)).getD i 0))) := by rw [aL, List.length_replicate]
    exact ⟨by rw [xr_snoc, el]; exact ⟨a1, a2⟩, a3⟩
theorem xr_newr (hf : CallFix p m c cc nL s args lw_all own) (hK : KK D dT g z0 s s.heap) (hw : Wd D A H0 H locs LL) (hA : ∀ q, H0.size ≤ q → A q) {C : String} {index : Nat} (q1 : Cond.classLink own index C ∈ lw_all) (hC : C ∈ aoG) (t : Nat) (ht : (tysG dT)[t]? = some (dT t, .object C)) {n : Int32} {N : Nat} (hn : ¬ n < 0) (hN : n.toNatClampNeg = N) (hbytes : N * 4 ≤ 536870912) (hcells : cells + 1 ≤ R.cells) (hslots : slots + N ≤ R.slots) (hdg : decode cc pc = .ok (.anewarray index, 3))
    (kk : ∀ (q : Nat) (H1 : Heap), Wd D A H0 H1 locs (LL ++ [[(q, aR dT t N (fun _ => none))]]) → W p l e R s m args below meth c H1 locs (cells + 1) (slots + N) Q (F0 m (pc + 3) ls (.ref q :: rest))) : W p l e R s m args below meth c H locs cells slots Q (F0 m pc ls (.int n :: rest)) := by
  refine va_newq hf.1 hf.2.1 hf.2.2.2.1 (hf.2.2.2.2 _ q1) (hK.2.2.2.1 C hC) hK.k hw.1.1 hw.1.2 hw.2 hA hn hN hbytes hcells hslots hdg fun q cA H1 a0 a1 a2 a3 => kk q H1 ?_
  have h1 := (a0.2 8 (cA, .object C) rfl).2
  have h2 := (hK.k.2 t _ ht).2
  obtain ⟨_, _, _, _, _, f1⟩ := h1
  obtain ⟨_, _, _, _, _, f2⟩ := h2
  have e : cA = dT t := Option.some.inj (f1.symm.trans f2)
  subst e
  exact ⟨by rw [xr_snoc]; exact ⟨a1, a2⟩, a3⟩
theorem xr_cast (hf : CallFix p m c cc nL s args lw_all own) (hK : KK D dT g z0 s s.heap) (hw : Wd D A H0 H locs LL) (i j : Nat) {ci : Nat} {fs : List Value} (he : sg_at LL i j = some (a, .inr (ci, fs))) {C nm : String} {T : u_T} {N index : Nat} (hc : vwCl[ci]? = some (C, T, N)) (q1 : Cond.classLink own index nm ∈ lw_all) (hq : Cond.castable C nm ∈ lw_tbl) (hdg : decode cc pc = .ok (.checkcast index, 3))
    (kk : W p l e R s m args below meth c H locs cells slots Q (F0 m (pc + 3) ls (.ref a :: rest))) : W p l e R s m args below meth c H locs cells slots Q (F0 m pc ls (.ref a :: rest)) := by
  obtain ⟨q0, h1, -⟩ := sg_find he
  exact va_castY hf.1 hf.2.1 hf.2.2.2.1 (hf.2.2.2.2 _ q1) (hK.nw hq rfl) (va_recv hK.k hw.1.1 hc h1) hdg kk
theorem xr_castS (hf : CallFix p m c cc nL s args lw_all own) (hK : KK D dT g z0 s s.heap) (hw : Wd D A H0 H locs LL) (i j : Nat) {ci : Nat} {fs : List Value} (he : sg_at LL i j = some (a, .inr (ci, fs))) {C : String} {T : u_T} {N index : Nat} (hc : vwCl[ci]? = some (C, T, N)) (q1 : Cond.classLink own index C ∈ lw_all) (hdg : decode cc pc = .ok (.checkcast index, 3))
    (kk : W p l e R s m args below meth c H locs cells slots Q (F0 m (pc + 3) ls (.ref a :: rest))) : W p l e R s m args below meth c H locs cells slots Q (F0 m pc ls (.ref a :: rest)) := by
  obtain ⟨q0, h1, -⟩ := sg_find he
  obtain ⟨r, g1, cell, g2, g3, g4, -⟩ := hw.1.1 q0 _ h1
  exact va_castS (cC := D.1 ci) hf.1 hf.2.1 hf.2.2.2.1 (hf.2.2.2.2 _ q1) (hK.k.1 ci _ hc).2 ⟨cell, g2, by rw [g4]; rfl, by rw [g3]; exact (hK.k.1 ci _ hc).2.1⟩ hdg kk
/-! ## calls -/
section CALLS
variable {y : MethodName} {bytes : ByteArray} {maxL mc ms n index : Nat} {ret : Option FieldType} {wl : List Cond} {rm : Room} {av As : List Value} {pre rst : List va_W} {post : Option Value → List va_W → Prop} {px : String → List va_W → Prop} {C : String} {b : Nat}
theorem xr_call (hr : vx_Run p l e R s m args below meth c H locs cells slots mc ms (F0 m pc ls st0) rest (cQ D (va_A pre.flatten H.size) post av.toArray) (cX D (va_A pre.flatten H.size) px) (va_A pre.flatten H.size)) (hw : Wd D A s.heap H locs (pre ++ rst)) (hA : ∀ q, s.heap.size ≤ q → A q)
    (kx : ∀ (E : String) (LL1 : List va_W) (H1 : Heap) (locs1 : List Loc) (q9 : Nat) (ce : Cell), px E LL1 → Wd D A s.heap H1 locs1 (LL1 ++ rst) → H1[q9]? = some ce → ce.vm = .none → s.vm.findClass E = some ce.cls → vx_W p l e R s m args below meth c H1 locs1 (cells + mc) (slots + ms) Q (F0 m pc ls rest) q9)
    (kk : ∀ (v : Option Value) (LL1 : List va_W) (H1 : Heap) (locs1 : List Loc), post v LL1 → Wd D A s.heap H1 locs1 (LL1 ++ rst) → W p l e R s m args below meth c H1 locs1 (cells + mc) (slots + ms) Q (F0 m (pc + 3) ls (v.toList ++ rest))) : W p l e R s m args below meth c H locs cells slots Q (F0 m pc ls st0) := by
  intro T hT X
  have hA2 : ∀ q, H.size ≤ q → A q := fun q h => hA q (Nat.le_trans hw.2.1 h)
  have hw1 := hw.1
  rw [List.flatten_append] at hw1
  have hf : ∀ q, va_A pre.flatten H.size q → A q := by
    intro q hq
    rcases hq with ⟨k, e, hk⟩ | hq
    · exact (wp_D.mp hw1.2).2 (q, e) (List.mem_append_left _ (List.mem_of_getElem? hk))
    · exact hA2 q hq
  rcases hr T hT X with ⟨v, st₀, t, T', L, h0, X', hL, e1, e2, ⟨⟨v', LL1, hv, hp, hPD⟩, hF⟩, st⟩ | ⟨q, st₀, t, T', L, E, ce, h0, X', hL, e1, e2, ⟨⟨LL1, hp, hPD⟩, hF⟩, hce, hcv, hcl, st⟩
  · cases hv
    obtain ⟨k1, k2, k3⟩ := vx_keep h0 e1 hw.2 (fun q _ h => hf q h) hf hL hF
    obtain ⟨t2, a1, b1⟩ := kk v LL1 T'.heap (locs ++ L) hp ⟨by rw [List.flatten_append]; exact wp_frame hw1 hA2 k2 (by rw [e1]; exact hPD), k3⟩ T' rfl X'
    exact ⟨t2, st t2 a1, b1⟩
  · obtain ⟨k1, k2, k3⟩ := vx_keep h0 e1 hw.2 (fun q _ h => hf q h) hf hL hF
    obtain ⟨t2, a1, b1⟩ := kx E LL1 T'.heap (locs ++ L) q ce hp ⟨by rw [List.flatten_append]; exact wp_frame hw1 hA2 k2 (by rw [e1]; exact hPD), k3⟩ (by rw [e1]; exact hce) hcv hcl T' rfl X'
    exact ⟨t2, st.trans a1, b1⟩
theorem xr_pc (hK : KK D dT g z0 s s.heap) (hAz : ∀ q, A q → zA z0 q) (hw : Wd D A s.heap H locs (pre ++ rst)) : ∀ U : State, U.heap = H → s.WarmedH U.vm → va_Pc av (cP D dT g z0 pre H.size) av.toArray U := by
  intro U hU hW
  have hw1 := hw.1
  rw [List.flatten_append] at hw1
  have h2 := wp_left hw1
  refine ⟨rfl, by rw [hU], by rw [hU]; exact h2.1, h2.2.weaken fun _ _ _ h => hAz _ h, ?_⟩
  rw [hU]
  refine KK.warm hW (KK.kept hw.2.1 (fun q h1 h3 => hw.2.2.1 q h1 fun z => h3 (hAz q z)) hK)
theorem xr_rv (hK : KK D dT g z0 s s.heap) {A' : Nat → Prop} {H0' : Heap} {locs' : List Loc} (hw : Wd D A' H0' H locs' LL) (i j : Nat) {ci : Nat} {fs : List Value} (he : sg_at LL i j = some (a, .inr (ci, fs))) {C : String} {T : u_T} {N : Nat} (hc : vwCl[ci]? = some (C, T, N)) : ∃ cell : Cell, H[a]? = some cell ∧ cell.vm.isStatics = false ∧ s.vm.findClass C = some cell.cls := by
  obtain ⟨q0, h1, -⟩ := sg_find he
  exact va_recv hK.k hw.1.1 hc h1
/-- an exception that no handler here takes -/
theorem xr_out {post : Option Value → List va_W → Prop} {px' : String → List va_W → Prop} {mc' ms' : Nat} {E : String} {ce : Cell} {q9 : Nat} (hno : ∀ x ∈ c.exceptionTable.toList, False) (hlocks : meth.locks = false) (hw : Wd D A s.heap H locs LL) (hp : px' E LL) (h1 : H[q9]? = some ce) (h2 : ce.vm = .none) (h3 : s.vm.findClass E = some ce.cls) (hc : cells ≤ mc') (hs : slots ≤ ms') : vx_W p l e R s m args below meth c H locs cells slots (vx_MQ below (cQ D A post) (cX D A px') args s mc' ms' A) (F0 m pc ls rest) q9 :=
  vx_out (fun x hx => (hno x hx).elim) hlocks h1 h2 h3 (fun t ht _ => ⟨⟨LL, hp, by rw [ht]; exact hw.1⟩, hw.2.F ht⟩) hw.2.2.2 hc hs
end CALLS
end XR
