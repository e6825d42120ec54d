/-! THE ROW of an array of three dimensions -/
set_option maxRecDepth 100000
section MU3
variable {p : Program} {l : Launch} {e : Env} {R : Room} {s : State} {m : MethodId} {args : Array Value} {below : List Frame} {meth : Method} {c : Code} {H : Heap} {locs : List Loc} {cells slots : Nat} {Q : State → Prop}
set_option maxHeartbeats 4000000 in
theorem W.mu3 {cc : ByteArray} (hexec : p.tables.exec = Jvm.exec) (hb : c.code = cc) {own : String} {index : Nat} (hown : s.vm.findClass own = some m.cls) (hclink : (Cond.classLink own index "[[[I").before args s = true) {dT : Nat → Nat} (h3 : va_G3 dT s)
    {g : JFrame} (hg : g.method = m) (hdg : decode cc g.pc = .ok (.multianewarray index 3, 4)) {rest : List Value} (hstack : g.stack = .int 6 :: .int 7 :: .int 3 :: rest) (hcells : cells + 25 ≤ R.cells) (hslots : slots + 150 ≤ R.slots)
    (kk : ∀ (H1 : Heap) (L : List Loc), H1.size = H.size + 25 → (∀ q : Nat, q < H.size → H1[q]? = H[q]?) → H1[H.size]? = some (mu_out (dT 7) 3 H.size 8 3) →
      (∀ k : Nat, k < 3 → H1[H.size + 1 + 8 * k]? = some (Jvm.Free.Multi.outerC (dT 6) 7 (H.size + 1 + 8 * k) 7) ∧ ∀ j : Nat, j < 7 → H1[H.size + 1 + 8 * k + 1 + j]? = some (Jvm.Free.Multi.innerC (dT 0) 6 (.int 0))) → (∀ q ∈ L, H.size ≤ q.base) →
      W p l e R s m args below meth c H1 (locs ++ L) (cells + 25) (slots + 150) Q { g with pc := g.pc + 4, stack := .ref H.size :: rest }) : W p l e R s m args below meth c H locs cells slots Q g := by
  intro T hT X
  subst hT; subst hb; subst hg
  have hpl : e.platform.magicAccessors = ({} : Platform).magicAccessors := by rw [X.admits.platform]
  obtain ⟨k0, k6, k7, cc, e0, kd0, e6, kd6, e7, kd7, n7, n6, n0⟩ := h3
  obtain ⟨c9, hfc, hcl⟩ := Cond.classLink_spec hown hclink e.platform hpl
  cases n7.symm.trans hfc
  obtain ⟨hg₁, hwarm₁, hready₁⟩ := State.classEntry (e := e) X.warmed hcl
  generalize T.vm.noted g.method.cls index (.cls (dT 7)) = vm₁ at hg₁ hwarm₁ hready₁
  have hal : s.vm.Alike vm₁ := hwarm₁.alike
  obtain ⟨k7', e7', h7'⟩ := hal.2.2 _ _ e7
  obtain ⟨k6', e6', h6'⟩ := hal.2.2 _ _ e6
  obtain ⟨k0', e0', h0'⟩ := hal.2.2 _ _ e0
  have kd7' : k7'.kind = .array (dT 6) (.array (.array .int)) := by rw [h7']; exact kd7
  have kd6' : k6'.kind = .array (dT 0) (.array .int) := by rw [h6']; exact kd6
  have kd0' : k0'.kind = .array cc .int := by rw [h0']; exact kd0
  have X₁ := X.noted hwarm₁
  obtain ⟨hr1, hr2⟩ := X.roomAbove (a := 25) (b := 150) hcells hslots
  obtain ⟨L, XF, hL⟩ := mu_stand X₁ (dT 7) (dT 6) (dT 0) 3 7 6 (.int 0) 3
  obtain ⟨f1, f2, f3, f4⟩ := mu_state (T.setVm vm₁) (dT 7) (dT 6) (dT 0) 3 7 6 (.int 0) 3
  have ec : cells + 1 + 3 * (1 + 7) = cells + 25 := by omega
  have es : slots + 3 + 3 * (7 + 7 * 6) = slots + 150 := by omega
  rw [ec, es] at XF
  obtain ⟨t, a1, b1⟩ := kk (mu_fill (T.setVm vm₁) (dT 7) (dT 6) (dT 0) 3 7 6 (.int 0) 3).heap L f1 (fun q hq => mu_old (T.setVm vm₁) (dT 7) (dT 6) (dT 0) 3 7 6 (.int 0) hq 3) f2 (fun k hk => mu_mid (T.setVm vm₁) (dT 7) (dT 6) (dT 0) 3 7 6 (.int 0) 3 k hk) hL _ rfl XF
  refine ⟨t, ?_, b1⟩
  have hl1 : ¬ (3 : Int32).toNatClampNeg > e.platform.arrayLengthLimit := by rw [Launch.admits_arrayLengthLimit X.admits]; decide
  have hl2 : ¬ (7 : Int32).toNatClampNeg > e.platform.arrayLengthLimit := by rw [Launch.admits_arrayLengthLimit X.admits]; decide
  have hl3 : ¬ (6 : Int32).toNatClampNeg > e.platform.arrayLengthLimit := by rw [Launch.admits_arrayLengthLimit X.admits]; decide
  have hh1 : ¬ (3 : Int32).toNatClampNeg * componentBytes (.array (.array .int)) > e.platform.maxHeapBytes := by rw [Launch.admits_maxHeapBytes X.admits]; decide
  have hh2 : ¬ (7 : Int32).toNatClampNeg * componentBytes (.array .int) > e.platform.maxHeapBytes := by rw [Launch.admits_maxHeapBytes X.admits]; decide
  have hh3 : ¬ (6 : Int32).toNatClampNeg * componentBytes .int > e.platform.maxHeapBytes := by rw [Launch.admits_maxHeapBytes X.admits]; decide
  jvm_step X.here [hexec, hdg]
  simp only [Op.multianewarray.sem, wp_bind', W.resolveClassAt_links (State.method?_setTop g X.here.top) hg₁]
  rw [Jvm.W.popN, if_neg (by decide)]
  refine ⟨g, State.topJava?_setTop' (s := T.setVm vm₁) g X.here.top, [.int 3, .int 7, .int 6], rest, rfl, hstack, ?_⟩
  simp only [List.mapM_cons, List.mapM_nil, wp_bind', wp_pure']
  refine mu_make (t7 := .array (.array .int)) (t6 := .array .int) (type := .int) (n := 3) (m := 7) (k := 6) e7' kd7' rfl e6' kd6' rfl e0' kd0' (by decide) (by decide) (by decide) hl1 hh1 hl2 hh2 hl3 hh3 rfl rfl (by show T.heap.size + 1 + 3 * (1 + 7) ≤ _; omega) (by show T.slotsUsed + 3 + 3 * (7 + 7 * 6) ≤ _; omega) (fun d' acts' => ?_)
  have eS : ((T.setTop g).setVm vm₁).setTop { g with stack := rest } = (T.setVm vm₁).setTop { g with stack := rest } := by
    show ((T.setVm vm₁).setTop g).setTop _ = _
    rw [State.setTop_setTop]
  rw [eS, mu_setTop]
  have XG : Stand p l e R s g.method args below meth c (mu_fill (T.setVm vm₁) (dT 7) (dT 6) (dT 0) (Int32.toNatClampNeg 3) (Int32.toNatClampNeg 7) (Int32.toNatClampNeg 6) (defaultValue FieldType.int) (Int32.toNatClampNeg 3)) (locs ++ L) (cells + 25) (slots + 150) := XF
  simp only [wp_bind', W.mark, W.pushRef, State.topJava?_setTop' _ XG.here.top, Option.some.injEq, exists_eq_left', State.setTop_setTop, State.heap_setTop]
  intro acts
  simp [jvm, XG.here.top]
  exact a1
end MU3
theorem cell_arr {x : Cell} {cA : ClassId} {n : Nat} {f : Nat → Value} (h1 : x.cls = cA) (h2 : x.vm = .none) (h5 : x.monitor = {}) (h6 : x.hash = none) (h3 : x.slots.size = n) (h4 : ∀ j, j < n → x.slots[j]? = some (f j)) : x = arrV cA n f := by
  cases x
  dsimp only at h1 h2 h3 h4 h5 h6
  subst h1; subst h2; subst h5; subst h6
  unfold arrV
  congr 1
  refine Array.ext_getElem? fun j => ?_
  by_cases hj : j < n
  · rw [h4 j hj, Array.getElem?_ofFn, dif_pos hj]
  · rw [Array.getElem?_eq_none (by omega), Array.getElem?_eq_none (by simp; omega)]
/-- the new table -/
def t2z (h : Nat) : T2T := [(h + 1, [h + 2, h + 3, h + 4, h + 5, h + 6, h + 7, h + 8]), (h + 9, [h + 10, h + 11, h + 12, h + 13, h + 14, h + 15, h + 16]), (h + 17, [h + 18, h + 19, h + 20, h + 21, h + 22, h + 23, h + 24])]
def zf : Nat → Nat := fun _ => 0
def t3z (h : Nat) : T3T := [(h + 2, zf), (h + 3, zf), (h + 4, zf), (h + 5, zf), (h + 6, zf), (h + 7, zf), (h + 8, zf), (h + 10, zf), (h + 11, zf), (h + 12, zf), (h + 13, zf), (h + 14, zf), (h + 15, zf), (h + 16, zf), (h + 18, zf), (h + 19, zf), (h + 20, zf), (h + 21, zf), (h + 22, zf), (h + 23, zf), (h + 24, zf)]
theorem tabz (h : Nat) : tabOK (t2z h) (ads (t3z h)) := by
  refine ⟨rfl, rfl, fun k s9 hk hs => ?_⟩
  have hk3 : k = 0 ∨ k = 1 ∨ k = 2 := by omega
  have hs7 : s9 = 0 ∨ s9 = 1 ∨ s9 = 2 ∨ s9 = 3 ∨ s9 = 4 ∨ s9 = 5 ∨ s9 = 6 := by omega
  rcases hk3 with rfl | rfl | rfl <;> rcases hs7 with rfl | rfl | rfl | rfl | rfl | rfl | rfl <;> exact ⟨_, _, rfl, rfl, rfl⟩
def mu_ws (dT : Nat → Nat) (h : Nat) : va_W := (h, aR dT 7 3 (fun i => (ads (t2z h))[i]?)) :: ((t2z h).flatMap (m2E dT) ++ (t3z h).flatMap (m3E dT))
theorem mu_ads (dT : Nat → Nat) (h : Nat) : (mu_ws dT h).map (fun q => q.1) = [0, 1, 9, 17, 2, 3, 4, 5, 6, 7, 8, 10, 11, 12, 13, 14, 15, 16, 18, 19, 20, 21, 22, 23, 24].map (fun x => h + x) := rfl
theorem mu_apart {A : Nat → Prop} (dT : Nat → Nat) (h : Nat) (hA : ∀ q, h ≤ q → A q) : va_D A (mu_ws dT h) := by
  have key : ∀ (k : Nat) (q : Nat × va_E), (mu_ws dT h)[k]? = some q → ∃ x, ([0, 1, 9, 17, 2, 3, 4, 5, 6, 7, 8, 10, 11, 12, 13, 14, 15, 16, 18, 19, 20, 21, 22, 23, 24] : List Nat)[k]? = some x ∧ q.1 = h + x := by
    intro k q hk
    have h1 : ((mu_ws dT h).map (fun q => q.1))[k]? = some q.1 := by rw [List.getElem?_map, hk]; rfl
    rw [mu_ads, List.getElem?_map] at h1
    obtain ⟨x, h2, h3⟩ := Option.map_eq_some_iff.mp h1
    exact ⟨x, h2, h3.symm⟩
  refine ⟨fun i j p q hi hj e => ?_, fun k q hk => ?_⟩
  · obtain ⟨x, h1, h2⟩ := key i p hi
    obtain ⟨y, h3, h4⟩ := key j q hj
    have e2 : x = y := by omega
    subst e2
    have hnd : ([0, 1, 9, 17, 2, 3, 4, 5, 6, 7, 8, 10, 11, 12, 13, 14, 15, 16, 18, 19, 20, 21, 22, 23, 24] : List Nat).Nodup := by decide
    obtain ⟨g1, g2⟩ := List.getElem?_eq_some_iff.mp h1
    obtain ⟨g3, g4⟩ := List.getElem?_eq_some_iff.mp h3
    exact (List.getElem?_inj g1 hnd).mp (h1.trans h3.symm)
  · obtain ⟨x, h1, h2⟩ := key k q hk
    rw [h2]
    exact hA _ (Nat.le_add_right _ _)
theorem mu_mon (c : ClassId) (N h0 st : Nat) : ∀ i, (mu_out c N h0 st i).monitor = {} ∧ (mu_out c N h0 st i).hash = none
  | 0 => ⟨rfl, rfl⟩
  | i + 1 => mu_mon c N h0 st i
theorem outer_mon (c : ClassId) (M h0 : Nat) : ∀ i, (Jvm.Free.Multi.outerC c M h0 i).monitor = {} ∧ (Jvm.Free.Multi.outerC c M h0 i).hash = none
  | 0 => ⟨rfl, rfl⟩
  | i + 1 => outer_mon c M h0 i
theorem inner_eq (c0 : ClassId) : Jvm.Free.Multi.innerC c0 6 (.int 0) = vp_cell c0 (6, .inl (fun i => ([nI (zf 0), nI (zf 1), nI (zf 2), nI (zf 3), nI (zf 4), nI (zf 5)] : List Int32).getD i 0)) := by
  show _ = arrV c0 6 (fun j => .int (([nI (zf 0), nI (zf 1), nI (zf 2), nI (zf 3), nI (zf 4), nI (zf 5)] : List Int32).getD j 0))
  refine cell_arr (x := Jvm.Free.Multi.innerC c0 6 (.int 0)) (cA := c0) (n := 6) rfl rfl rfl rfl (by simp [Jvm.Free.Multi.innerC]) fun j hj => ?_
  have h1 : (Jvm.Free.Multi.innerC c0 6 (.int 0)).slots[j]? = some (.int 0) := by simp [Jvm.Free.Multi.innerC, hj]
  rw [h1]
  rcases a_cases hj with rfl | rfl | rfl | rfl | rfl | rfl <;> rfl
theorem mu_here {D : va_G} {dT : Nat → Nat} {H1 : Heap} {h : Nat} (h1 : H1[h]? = some (mu_out (dT 7) 3 h 8 3))
    (h2 : ∀ k : Nat, k < 3 → H1[h + 1 + 8 * k]? = some (Jvm.Free.Multi.outerC (dT 6) 7 (h + 1 + 8 * k) 7) ∧ ∀ j : Nat, j < 7 → H1[h + 1 + 8 * k + 1 + j]? = some (Jvm.Free.Multi.innerC (dT 0) 6 (.int 0))) : va_P D vwCl (mu_ws dT h) H1 := by
  have hin : ∀ k j, k < 3 → j < 7 → H1[h + 1 + 8 * k + 1 + j]? = some (vp_cell (dT 0) (6, .inl (fun i => ([nI (zf 0), nI (zf 1), nI (zf 2), nI (zf 3), nI (zf 4), nI (zf 5)] : List Int32).getD i 0))) := fun k j hk hj => by rw [(h2 k hk).2 j hj, inner_eq]
  have hrow : ∀ k, k < 3 → ∀ xs : List Nat, xs = (List.range 7).map (fun j => h + 1 + 8 * k + 1 + j) → H1[h + 1 + 8 * k]? = some (vp_cell (dT 6) (7, .inr (.inr (.inr (.inr (fun i => xs[i]?)))))) := by
    intro k hk xs hxs
    rw [(h2 k hk).1]
    congr 1
    obtain ⟨o1, o2, o3⟩ := Jvm.Free.Multi.outerC_facts (dT 6) 7 (h + 1 + 8 * k) 7
    obtain ⟨o4, o5⟩ := outer_mon (dT 6) 7 (h + 1 + 8 * k) 7
    show _ = arrV (dT 6) 7 (fun j => va_rf (xs[j]?))
    refine cell_arr o1 o2 o4 o5 o3 fun j hj => ?_
    rw [Jvm.Free.Multi.outerC_slot _ _ _ _ _ hj, if_pos hj, hxs, List.getElem?_map, List.getElem?_range hj]
    rfl
  have htop : H1[h]? = some (vp_cell (dT 7) (3, .inr (.inr (.inr (.inr (fun i => (ads (t2z h))[i]?)))))) := by
    rw [h1]
    congr 1
  intro k q hk
  have hm := List.mem_of_getElem? hk
  rcases List.mem_cons.mp hm with rfl | hm
  · exact htop
  · rcases List.mem_append.mp hm with hm | hm
    · obtain ⟨g9, hg9, hm⟩ := List.mem_flatMap.mp hm
      cases List.mem_singleton.mp hm
      simp only [t2z, List.mem_cons, List.not_mem_nil, or_false] at hg9
      rcases hg9 with rfl | rfl | rfl
      · exact hrow 0 (by decide) _ rfl
      · exact hrow 1 (by decide) _ rfl
      · exact hrow 2 (by decide) _ rfl
    · obtain ⟨g9, hg9, hm⟩ := List.mem_flatMap.mp hm
      cases List.mem_singleton.mp hm
      simp only [t3z, List.mem_cons, List.not_mem_nil, or_false] at hg9
      rcases hg9 with rfl | rfl | rfl | rfl | rfl | rfl | rfl | rfl | rfl | rfl | rfl | rfl | rfl | rfl | rfl | rfl | rfl | rfl | rfl | rfl | rfl
      · exact hin 0 0 (by decide) (by decide)
      · exact hin 0 1 (by decide) (by decide)
      · exact hin 0 2 (by decide) (by decide)
      · exact hin 0 3 (by decide) (by decide)
      · exact hin 0 4 (by decide) (by decide)
      · exact hin 0 5 (by decide) (by decide)
      · exact hin 0 6 (by decide) (by decide)
      · exact hin 1 0 (by decide) (by decide)
      · exact hin 1 1 (by decide) (by decide)
      · exact hin 1 2 (by decide) (by decide)
      · exact hin 1 3 (by decide) (by decide)
      · exact hin 1 4 (by decide) (by decide)
      · exact hin 1 5 (by decide) (by decide)
      · exact hin 1 6 (by decide) (by decide)
      · exact hin 2 0 (by decide) (by decide)
      · exact hin 2 1 (by decide) (by decide)
      · exact hin 2 2 (by decide) (by decide)
      · exact hin 2 3 (by decide) (by decide)
      · exact hin 2 4 (by decide) (by decide)
      · exact hin 2 5 (by decide) (by decide)
      · exact hin 2 6 (by decide) (by decide)
section MUR
variable {p : Program} {l : Launch} {e : Env} {R : Room} {s : State} {m : MethodId} {args : Array Value} {below : List Frame} {meth : Method} {c : Code} {H0 H : Heap} {locs : List Loc} {cells slots : Nat} {Q : State → Prop} {A : Nat → Prop} {D : va_G} {dT g : Nat → Nat} {z0 nL pc : Nat} {cc : ByteArray} {own : String} {LL : List va_W} {ls : Array Slot} {rest : List Value}
theorem xr_multi (hf : CallFix p m c cc nL s args lw_all own) (hK : KK D dT g z0 s s.heap) (hw : Wd D A H0 H locs LL) (hA : ∀ q, H0.size ≤ q → A q) {index : Nat} (q1 : Cond.classLink own index "[[[I" ∈ lw_all) (hcells : cells + 25 ≤ R.cells) (hslots : slots + 150 ≤ R.slots) (hdg : decode cc pc = .ok (.multianewarray index 3, 4))
    (kk : ∀ (q : Nat) (t2 : T2T) (t3 : T3T) (H1 : Heap) (locs : List Loc), tabOK t2 (ads t3) → Wd D A H0 H1 locs (LL ++ [[(q, aR dT 7 3 (fun i => (ads t2)[i]?))], t2.flatMap (m2E dT), t3.flatMap (m3E dT)]) → W p l e R s m args below meth c H1 locs (cells + 25) (slots + 150) Q (F0 m (pc + 4) ls (.ref q :: rest))) : W p l e R s m args below meth c H locs cells slots Q (F0 m pc ls (.int 6 :: .int 7 :: .int 3 :: rest)) := by
  refine W.mu3 hf.1 hf.2.1 hf.2.2.2.1 (hf.2.2.2.2 _ q1) hK.2.2.2.2.2.2.2.2.2.2.2 rfl hdg rfl hcells hslots fun H1 L z1 o1 e1 e2 hL => ?_
  refine kk H.size (t2z H.size) (t3z H.size) H1 (locs ++ L) (tabz _) ?_
  obtain ⟨⟨hP, hD⟩, hS⟩ := hw
  have hlt : ∀ (k : Nat) (x : Nat × va_E), LL.flatten[k]? = some x → x.1 < H.size := fun k x hx => (hP k x hx).lt
  have hA2 : ∀ q, H.size ≤ q → A q := fun q hq => hA q (Nat.le_trans hS.1 hq)
  have hP1 := hP.kept (H1 := H1) fun k x hx => o1 x.1 (hlt k x hx)
  have hfl : (LL ++ [[(H.size, aR dT 7 3 (fun i => (ads (t2z H.size))[i]?))], (t2z H.size).flatMap (m2E dT), (t3z H.size).flatMap (m3E dT)]).flatten = LL.flatten ++ mu_ws dT H.size := by
    rw [List.flatten_append]
    congr 1
  refine ⟨?_, ⟨Nat.le_trans hS.1 (by omega), fun x h1 h2 => (o1 x (Nat.lt_of_lt_of_le h1 hS.1)).trans (hS.2.1 x h1 h2), fun q hq => ?_⟩⟩
  · rw [hfl]
    refine ⟨hP1.app (mu_here e1 e2), hD.app (mu_apart dT H.size hA2) fun i j p9 q9 hi hj e9 => ?_⟩
    have h1 := hlt i p9 hi
    have h2 : H.size ≤ q9.1 := (mu_apart (A := fun a => H.size ≤ a) dT H.size (fun _ z => z)).2 j q9 hj
    omega
  · rcases List.mem_append.mp hq with h1 | h1
    · exact hS.2.2 q h1
    · exact hA2 _ (hL q h1)
end MUR
