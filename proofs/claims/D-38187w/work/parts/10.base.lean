/-! BASE: worlds by segments, one contract for every method (returns or throws), rows over it -/
set_option maxRecDepth 100000
/-- the classes of objects, by number -/
abbrev vwCl : List vw_C := [(RX1, TX1, 13), (RX2, TX2, 3), (RX3, TX3, 11), (RX4, TX4, 14), (RX5, TX5, 1), (RX6, TX6, 3), (RX7, TX7, 11), (RX8, TX8, 3), (RX9, TX9, 3), (RX10, TX10, 7), (RX11, TX11, 7), (RX12, TX12, 6), (RX13, TX13, 3), (RX14, TX14, 6), (RX15, TX15, 2), (RJ2, TJ2, 3), (RJ11, TJ11, 4)]
/-- the array classes, by number -/
abbrev tysG (dT : Nat → ClassId) : List (ClassId × FieldType) := [(dT 0, .int), (dT 1, .object "java/lang/Object"), (dT 2, .long), (dT 3, .object "SilkRowModel$Line"), (dT 4, .object "SilkRowModel$Tray"), (dT 5, .object "SilkRowModel$Basin"), (dT 6, .array .int), (dT 7, .array (.array .int))]
/-! ## lists of segments -/
def sg_sel : List Nat → List va_W → List va_W
  | [], _ => []
  | i :: is, LL => LL.getD i [] :: sg_sel is (LL.eraseIdx i)
def sg_rest : List Nat → List va_W → List va_W
  | [], LL => LL
  | i :: is, LL => sg_rest is (LL.eraseIdx i)
def sg_ok : List Nat → List va_W → Bool
  | [], _ => true
  | i :: is, LL => (LL[i]?).isSome && sg_ok is (LL.eraseIdx i)
def sg_at (LL : List va_W) (i j : Nat) : Option (Nat × va_E) := (LL.getD i [])[j]?
def sg_set (LL : List va_W) (i j : Nat) (q : Nat × va_E) : List va_W := LL.set i ((LL.getD i []).set j q)
theorem sg_erase {α : Type} : ∀ (L : List α) (i : Nat) (d : α), i < L.length → L.Perm (L.getD i d :: L.eraseIdx i)
  | [], i, d, h => absurd h (Nat.not_lt_zero i)
  | a :: L, 0, d, h => List.Perm.refl _
  | a :: L, i + 1, d, h => by
    have ih := sg_erase L i d (Nat.lt_of_succ_lt_succ h)
    show (a :: L).Perm (L.getD i d :: a :: L.eraseIdx i)
    exact (ih.cons a).trans (List.Perm.swap _ _ _)
theorem sg_perm : ∀ (is : List Nat) (LL : List va_W), sg_ok is LL = true → LL.flatten.Perm (sg_sel is LL ++ sg_rest is LL).flatten
  | [], LL, _ => List.Perm.refl _
  | i :: is, LL, h => by
    have h1 : i < LL.length := by
      have h1 := (Bool.and_eq_true_iff.mp h).1
      obtain ⟨x, hx⟩ := Option.isSome_iff_exists.mp h1
      exact (List.getElem?_eq_some_iff.mp hx).1
    have h2 : sg_ok is (LL.eraseIdx i) = true := (Bool.and_eq_true_iff.mp h).2
    have ih := sg_perm is (LL.eraseIdx i) h2
    have p1 := (sg_erase LL i [] h1).flatten
    refine p1.trans ?_
    show (LL.getD i [] ++ (LL.eraseIdx i).flatten).Perm (LL.getD i [] ++ (sg_sel is (LL.eraseIdx i) ++ sg_rest is (LL.eraseIdx i)).flatten)
    exact List.Perm.append_left _ ih
theorem sg_find : ∀ {LL : List va_W} {i j : Nat} {q : Nat × va_E}, sg_at LL i j = some q → ∃ k, LL.flatten[k]? = some q ∧ ∀ q', LL.flatten.set k q' = (sg_set LL i j q').flatten
  | [], i, j, q, h => by cases i <;> cases h
  | S :: LL, 0, j, q, h => by
    have hj : j < S.length := (List.getElem?_eq_some_iff.mp (show S[j]? = some q from h)).1
    refine ⟨j, ?_, fun q' => ?_⟩
    · show (S ++ LL.flatten)[j]? = some q
      rw [List.getElem?_append_left hj]; exact h
    · show (S ++ LL.flatten).set j q' = S.set j q' ++ LL.flatten
      rw [List.set_append_left _ _ hj]
  | S :: LL, i + 1, j, q, h => by
    obtain ⟨k, h1, h2⟩ := sg_find (LL := LL) (i := i) (j := j) (q := q) h
    refine ⟨S.length + k, ?_, fun q' => ?_⟩
    · show (S ++ LL.flatten)[S.length + k]? = some q
      rw [List.getElem?_append_right (Nat.le_add_right _ _), Nat.add_sub_cancel_left]; exact h1
    · show (S ++ LL.flatten).set (S.length + k) q' = S ++ (sg_set LL i j q').flatten
      rw [List.set_append_right _ _ (Nat.le_add_right _ _), Nat.add_sub_cancel_left, h2]
/-! ## what holds of a list of cells, by its members -/
theorem wp_P {D : va_G} {cl : List vw_C} {ws : va_W} {H : Heap} : va_P D cl ws H ↔ ∀ q ∈ ws, va_at D cl q H := by
  constructor
  · intro h q hq
    obtain ⟨k, hk⟩ := List.getElem?_of_mem hq
    exact h k q hk
  · intro h k q hk
    exact h q (List.mem_of_getElem? hk)
theorem wp_D {A : Nat → Prop} {ws : va_W} : va_D A ws ↔ (ws.map (·.1)).Nodup ∧ ∀ q ∈ ws, A q.1 := by
  constructor
  · intro h
    refine ⟨?_, fun q hq => ?_⟩
    · rw [List.nodup_iff_pairwise_ne, List.pairwise_iff_getElem]
      intro i j hi hj hij e
      have hi' : i < ws.length := by simpa using hi
      have hj' : j < ws.length := by simpa using hj
      have := h.1 i j ws[i] ws[j] (List.getElem?_eq_getElem hi') (List.getElem?_eq_getElem hj') (by simpa using e)
      omega
    · obtain ⟨k, hk⟩ := List.getElem?_of_mem hq
      exact h.2 k q hk
  · intro h
    refine ⟨fun i j p q hi hj e => ?_, fun k q hk => h.2 q (List.mem_of_getElem? hk)⟩
    obtain ⟨hi1, hi2⟩ := List.getElem?_eq_some_iff.mp hi
    obtain ⟨hj1, hj2⟩ := List.getElem?_eq_some_iff.mp hj
    have hp := (List.pairwise_iff_getElem.mp (List.nodup_iff_pairwise_ne.mp h.1))
    rcases Nat.lt_trichotomy i j with hlt | heq | hgt
    · exact absurd (by rw [List.getElem_map, List.getElem_map, hi2, hj2]; exact e) (hp i j (by simpa using hi1) (by simpa using hj1) hlt)
    · exact heq
    · exact absurd (by rw [List.getElem_map, List.getElem_map, hi2, hj2]; exact e.symm) (hp j i (by simpa using hj1) (by simpa using hi1) hgt)
theorem wp_perm {A : Nat → Prop} {D : va_G} {cl : List vw_C} {w1 w2 : va_W} {H : Heap} (p : w1.Perm w2) (h : va_P D cl w1 H ∧ va_D A w1) : va_P D cl w2 H ∧ va_D A w2 :=
  ⟨wp_P.mpr fun q hq => wp_P.mp h.1 q (p.mem_iff.mpr hq), wp_D.mpr ⟨((p.map (·.1)).nodup_iff).mp (wp_D.mp h.2).1, fun q hq => (wp_D.mp h.2).2 q (p.mem_iff.mpr hq)⟩⟩
theorem wp_left {A : Nat → Prop} {D : va_G} {cl : List vw_C} {w1 w2 : va_W} {H : Heap} (h : va_P D cl (w1 ++ w2) H ∧ va_D A (w1 ++ w2)) : va_P D cl w1 H ∧ va_D A w1 := by
  refine ⟨wp_P.mpr fun q hq => wp_P.mp h.1 q (List.mem_append_left _ hq), wp_D.mpr ⟨?_, fun q hq => (wp_D.mp h.2).2 q (List.mem_append_left _ hq)⟩⟩
  have := (wp_D.mp h.2).1
  rw [List.map_append] at this
  exact (List.nodup_append.mp this).1
/-- the frame rule: what the callee left beside what it never had -/
theorem wp_frame {A : Nat → Prop} {D : va_G} {cl : List vw_C} {wc wr w1 : va_W} {H H1 : Heap} (h : va_P D cl (wc ++ wr) H ∧ va_D A (wc ++ wr)) (hA : ∀ q, H.size ≤ q → A q) (hk : ∀ q : Nat, q < H.size → ¬ va_A wc H.size q → H1[q]? = H[q]?) (h1 : va_P D cl w1 H1 ∧ va_D (va_A wc H.size) w1) : va_P D cl (w1 ++ wr) H1 ∧ va_D A (w1 ++ wr) := by
  have hD := wp_D.mp h.2
  have hDn := hD.1
  rw [List.map_append] at hDn
  have hnd := List.nodup_append.mp hDn
  have h1D := wp_D.mp h1.2
  have hA1 : ∀ q, va_A wc H.size q → A q := by
    intro q hq
    rcases hq with ⟨k, e, hk⟩ | hq
    · exact hD.2 (q, e) (List.mem_append_left _ (List.mem_of_getElem? hk))
    · exact hA q hq
  have apart : ∀ q ∈ wr, q.1 < H.size ∧ ¬ va_A wc H.size q.1 := by
    intro q hq
    have hl : q.1 < H.size := (wp_P.mp h.1 q (List.mem_append_right _ hq)).lt
    refine ⟨hl, fun z => ?_⟩
    rcases z with ⟨k, e, hk⟩ | z
    · exact hnd.2.2 q.1 (List.mem_map.mpr ⟨(q.1, e), List.mem_of_getElem? hk, rfl⟩) q.1 (List.mem_map.mpr ⟨q, hq, rfl⟩) rfl
    · omega
  refine ⟨wp_P.mpr fun q hq => ?_, wp_D.mpr ⟨?_, fun q hq => ?_⟩⟩
  · rcases List.mem_append.mp hq with h2 | h2
    · exact wp_P.mp h1.1 q h2
    · exact (wp_P.mp h.1 q (List.mem_append_right _ h2)).kept (hk q.1 (apart q h2).1 (apart q h2).2)
  · rw [List.map_append]
    refine List.nodup_append.mpr ⟨h1D.1, hnd.2.1, ?_⟩
    intro a ha b hb e
    obtain ⟨x, hx, rfl⟩ := List.mem_map.mp ha
    obtain ⟨y, hy, rfl⟩ := List.mem_map.mp hb
    exact (apart y hy).2 (by rw [← e]; exact h1D.2 x hx)
  · rcases List.mem_append.mp hq with h2 | h2
    · exact hA1 _ (h1D.2 q h2)
    · exact hD.2 q (List.mem_append_right _ h2)
/-! ## what holds of the tables and the statics all through -/
def nwK (w : Cond) : Bool := match w with
  | .fieldLinkNest .. => true
  | .methodLinkNest .. => true
  | .castable .. => true
  | .declares .. => true
  | _ => false
theorem nwK_tabs {w : Cond} (h : nwK w = true) : w.onTables = true := by cases w <;> first | rfl | cases h
theorem nwK_warm {w : Cond} (h : nwK w = true) {s U : State} (hW : s.WarmedH U.vm) (hZ : va_Nw w s) : va_Nw w U := by
  cases w <;> first | exact va_Nw.warmF hW hZ | exact va_Nw.warmM hW hZ | exact va_Nw.warmC hW hZ | exact va_Nw.warmD hW hZ | cases h
def zA (z0 : Nat) : Nat → Prop := fun q => z0 ≤ q
/-- interface calls: the receiver's class, the interface's method, the method that runs -/
abbrev fwG : List (String × MethodName × MethodName) := [("java/util/ArrayList", ⟨"java/util/Collection", "toArray", "()[Ljava/lang/Object;"⟩, ⟨"java/util/ArrayList", "toArray", "()[Ljava/lang/Object;"⟩),
  ("java/util/ArrayList", ⟨"java/util/List", "size", "()I"⟩, ⟨"java/util/ArrayList", "size", "()I"⟩),
  ("java/util/ArrayList", ⟨"java/util/List", "get", "(I)Ljava/lang/Object;"⟩, ⟨"java/util/ArrayList", "get", "(I)Ljava/lang/Object;"⟩),
  ("java/util/ArrayList", ⟨"java/util/List", "iterator", "()Ljava/util/Iterator;"⟩, ⟨"java/util/ArrayList", "iterator", "()Ljava/util/Iterator;"⟩),
  ("java/util/ArrayList", ⟨"java/util/List", "add", "(Ljava/lang/Object;)Z"⟩, ⟨"java/util/ArrayList", "add", "(Ljava/lang/Object;)Z"⟩),
  ("java/util/ArrayList", ⟨"java/util/List", "isEmpty", "()Z"⟩, ⟨"java/util/ArrayList", "isEmpty", "()Z"⟩),
  ("java/util/ArrayList", ⟨"java/util/List", "remove", "(Ljava/lang/Object;)Z"⟩, ⟨"java/util/ArrayList", "remove", "(Ljava/lang/Object;)Z"⟩),
  ("java/util/ArrayList$Itr", ⟨"java/util/Iterator", "hasNext", "()Z"⟩, ⟨"java/util/ArrayList$Itr", "hasNext", "()Z"⟩),
  ("java/util/ArrayList$Itr", ⟨"java/util/Iterator", "next", "()Ljava/lang/Object;"⟩, ⟨"java/util/ArrayList$Itr", "next", "()Ljava/lang/Object;"⟩)]
/-- getClass through an interface: the receiver's class, the interface's method -/
abbrev gcN : MethodName := ⟨"java/lang/Object", "getClass", "()Ljava/lang/Class;"⟩
abbrev gcI : MethodName := ⟨"java/util/Collection", "getClass", "()Ljava/lang/Class;"⟩
def va_Gc (C : String) (U : State) : Prop := (Cond.declares gcN).before #[] U = true ∧ (Cond.interfaceMethod gcI.cls "java/lang/Object" gcI.name gcI.desc).before #[] U = true ∧ (Cond.publicMethod gcN).before #[] U = true ∧ (Cond.unhidden C gcI.name gcI.desc).before #[] U = true ∧ (Cond.castable C gcI.cls).before #[] U = true
theorem va_Gc.moved {C : String} {u U : State} (hvm : u.vm.Alike U.vm) (h : va_Gc C u) : va_Gc C U := by
  obtain ⟨h1, h2, h3, h4, h5⟩ := h
  have tr : ∀ {c : Cond}, c.onTables = true → c.before #[] (u.setVm U.vm) = true → c.before #[] U = true := by
    intro c hc h
    have e := Cond.onTables_vm (A := #[]) (A' := #[]) (U := u) (U' := U) U.vm c hc
    have hU : U.setVm U.vm = U := rfl
    rw [hU] at e
    rw [← e]
    exact h
  have hf : (u.setVm U.vm).methodFound? gcI.cls gcI.name gcI.desc = u.methodFound? gcI.cls gcI.name gcI.desc := State.methodFound?_setVm hvm _ _ _
  have h2' : (Cond.interfaceMethod gcI.cls "java/lang/Object" gcI.name gcI.desc).before #[] (u.setVm U.vm) = true := by
    rw [← h2]
    simp only [Cond.before, Cond.holds, Cond.value, State.vm_setVm, hvm.findClass, hf, State.methodNamed?_setVm hvm, arm_isInterface_setVm hvm]
  exact ⟨tr rfl (by rw [Cond.declares_setVm hvm]; exact h1), tr rfl h2', tr rfl (by rw [Cond.publicMethod_setVm hvm]; exact h3), tr rfl (by rw [Cond.unhidden_setVm hvm]; exact h4), tr rfl (by rw [Cond.castable_setVm hvm]; exact h5)⟩
/-- the classes of int[], int[][] and int[][][] -/
def va_G3 (dT : Nat → Nat) (U : State) : Prop := ∃ k0 k6 k7 : Class, ∃ cc : ClassId, U.vm.classes[dT 0]? = some k0 ∧ k0.kind = .array cc .int ∧ U.vm.classes[dT 6]? = some k6 ∧ k6.kind = .array (dT 0) (.array .int) ∧ U.vm.classes[dT 7]? = some k7 ∧ k7.kind = .array (dT 6) (.array (.array .int)) ∧ U.vm.findClass "[[[I" = some (dT 7) ∧ U.vm.findClass "[[I" = some (dT 6) ∧ U.vm.findClass "[I" = some (dT 0)
theorem va_G3.moved {dT : Nat → Nat} {u U : State} (hvm : u.vm.Alike U.vm) (h : va_G3 dT u) : va_G3 dT U := by
  obtain ⟨k0, k6, k7, cc, a1, a2, a3, a4, a5, a6, a7, a8, a9⟩ := h
  obtain ⟨n0, b1, b2⟩ := hvm.2.2 _ _ a1
  obtain ⟨n6, b3, b4⟩ := hvm.2.2 _ _ a3
  obtain ⟨n7, b5, b6⟩ := hvm.2.2 _ _ a5
  exact ⟨n0, n6, n7, cc, b1, by rw [b2]; exact a2, b3, by rw [b4]; exact a4, b5, by rw [b6]; exact a6, by rw [hvm.findClass]; exact a7, by rw [hvm.findClass]; exact a8, by rw [hvm.findClass]; exact a9⟩
abbrev aoG : List String := ["java/lang/Object", "SilkRowModel$Line", "SilkRowModel$Tray", "SilkRowModel$Basin"]
def ofGood (j : Nat) : Int32 := match j with
  | 0 => 1
  | 1 => 0
  | 2 => 0
  | 3 => -1
  | _ => -2
/-- g: the two empty arrays of ArrayList's, OF_GOOD, the Class objects of ArrayList -/
def KK (D : va_G) (dT g : Nat → Nat) (z0 : Nat) (U : State) (H : Heap) : Prop :=
  va_K D vwCl (tysG dT) U ∧ (∀ w ∈ lw_tbl, nwK w = true → va_Nw w U) ∧ (∀ f ∈ fwG, va_Fw f.1 f.2.1 f.2.2 U) ∧ (∀ C ∈ aoG, va_AO C U) ∧ z0 ≤ H.size ∧
  (va_Z "java/util/ArrayList" "DEFAULTCAPACITY_EMPTY_ELEMENTDATA" "[Ljava/lang/Object;" (.ref (g 0)) (zA z0) U H ∧ va_T (.object "java/lang/Object") (g 0) 0 (fun _ => .null) (zA z0) U H ∧
   va_Z "java/util/ArrayList" "EMPTY_ELEMENTDATA" "[Ljava/lang/Object;" (.ref (g 1)) (zA z0) U H ∧ va_T (.object "java/lang/Object") (g 1) 0 (fun _ => .null) (zA z0) U H ∧ g 0 ≠ g 1) ∧
  (va_Z "SilkRowModel" "OF_GOOD" "[I" (.ref (g 2)) (zA z0) U H ∧ va_T .int (g 2) 5 (fun j => .int (ofGood j)) (zA z0) U H) ∧
  (vx_Zq Bundle.tN "UNASSIGNED_STACK" Bundle.steD (zA z0) U H ∧ vx_Zq Bundle.tN "SUPPRESSED_SENTINEL" Bundle.listD (zA z0) U H) ∧
  (va_Mi "java/util/ArrayList" (g 3) U ∧ va_Mi "[Ljava/lang/Object;" (g 4) U ∧ va_Gc "java/util/ArrayList" U ∧ va_G3 dT U)
theorem KK.move {D : va_G} {dT g : Nat → Nat} {z0 : Nat} {u U : State} {H : Heap} (hvm : u.vm.Alike U.vm) (hnw : ∀ w, nwK w = true → va_Nw w u → va_Nw w U) (h : KK D dT g z0 u H) : KK D dT g z0 U H := by
  obtain ⟨h1, h2, h3, h4, h5, ⟨h6, h7, h8, h9, h10⟩, ⟨h11, h12⟩, ⟨h13, h14⟩, h15, h16, h17, h18⟩ := h
  refine ⟨h1.moved hvm, fun w hw hk => hnw w hk (h2 w hw hk), fun f hf => ?_, fun C hC => (h4 C hC).moved hvm, h5, ⟨h6.moved hvm, h7.moved hvm, h8.moved hvm, h9.moved hvm, h10⟩, ⟨h11.moved hvm, h12.moved hvm⟩, ⟨vx_Zq.moved hvm h13, vx_Zq.moved hvm h14⟩, h15.moved hvm, h16.moved hvm, h17.moved hvm, h18.moved hvm⟩
  refine va_Fw.moved ?_ hvm (h3 f hf)
  have hall : ∀ f ∈ fwG, f.2.1.cls ≠ "java/lang/invoke/MethodHandle" ∧ f.2.1.cls ≠ "java/lang/invoke/VarHandle" := by decide +kernel
  exact hall f hf
theorem KK.warm {D : va_G} {dT g : Nat → Nat} {z0 : Nat} {u U : State} {H : Heap} (hW : u.WarmedH U.vm) (h : KK D dT g z0 u H) : KK D dT g z0 U H := h.move hW.alike fun w hk hz => nwK_warm hk hW hz
theorem KK.same {D : va_G} {dT g : Nat → Nat} {z0 : Nat} {u U : State} {H : Heap} (hvm : u.vm = U.vm) (h : KK D dT g z0 u H) : KK D dT g z0 U H := h.move (by rw [hvm]; exact Vm.Alike.refl _) fun w hk hz => va_Nw.same (nwK_tabs hk) hvm hz
theorem KK.kept {D : va_G} {dT g : Nat → Nat} {z0 : Nat} {U : State} {H H1 : Heap} (hz : H.size ≤ H1.size) (hq : ∀ a : Nat, a < H.size → ¬ zA z0 a → H1[a]? = H[a]?) (h : KK D dT g z0 U H) : KK D dT g z0 U H1 := by
  obtain ⟨h1, h2, h3, h4, h5, ⟨h6, h7, h8, h9, h10⟩, ⟨h11, h12⟩, ⟨h13, h14⟩, h15⟩ := h
  exact ⟨h1, h2, h3, h4, Nat.le_trans h5 hz, ⟨h6.kept hq, h7.kept hq, h8.kept hq, h9.kept hq, h10⟩, ⟨h11.kept hq, h12.kept hq⟩, ⟨h13.kept hq, h14.kept hq⟩, h15⟩
theorem KK.k {D : va_G} {dT g : Nat → Nat} {z0 : Nat} {U : State} {H : Heap} (h : KK D dT g z0 U H) : va_K D vwCl (tysG dT) U := h.1
theorem KK.nw {D : va_G} {dT g : Nat → Nat} {z0 : Nat} {U : State} {H : Heap} (h : KK D dT g z0 U H) {w : Cond} (hw : w ∈ lw_tbl) (hk : nwK w = true) : va_Nw w U := h.2.1 w hw hk
theorem KK.fw {D : va_G} {dT g : Nat → Nat} {z0 : Nat} {U : State} {H : Heap} (h : KK D dT g z0 U H) (i : Nat) {f : String × MethodName × MethodName} (hf : fwG[i]? = some f) : va_Fw f.1 f.2.1 f.2.2 U := h.2.2.1 f (List.mem_of_getElem? hf)
/-! ## the contract -/
def cQ (D : va_G) (A : Nat → Prop) (post : Option Value → List va_W → Prop) : Array Value → State → Outcome → State → Prop := fun _ st oc t => (∃ (v : Option Value) (LL : List va_W), oc = .returned v ∧ post v LL ∧ va_P D vwCl LL.flatten t.heap ∧ va_D A LL.flatten) ∧ va_F A st t
def cX (D : va_G) (A : Nat → Prop) (px : String → List va_W → Prop) : String → State → State → Prop := fun E st t => (∃ LL : List va_W, px E LL ∧ va_P D vwCl LL.flatten t.heap ∧ va_D A LL.flatten) ∧ va_F A st t
def cP (D : va_G) (dT g : Nat → Nat) (z0 : Nat) (pre : List va_W) (sz : Nat) (U : State) : Prop := U.heap.size = sz ∧ va_P D vwCl pre.flatten U.heap ∧ va_D (zA z0) pre.flatten ∧ KK D dT g z0 U U.heap
def Con (l : Launch) (D : va_G) (dT g : Nat → Nat) (z0 : Nat) (y : MethodName) (ws : List Cond) (rm : Room) (av : List Value) (pre : List va_W) (post : Option Value → List va_W → Prop) (px : String → List va_W → Prop) (mc ms : Nat) : Prop :=
  l.stackTraces = false → ∀ sz : Nat, vx_Met l y ws rm (va_Pc av (cP D dT g z0 pre sz)) (cQ D (va_A pre.flatten sz) post) (cX D (va_A pre.flatten sz) px) mc ms (va_A pre.flatten sz)
abbrev noX : String → List va_W → Prop := fun _ _ => False
theorem cP_blind {D : va_G} {dT g : Nat → Nat} {z0 : Nat} {pre : List va_W} {sz : Nat} {av : List Value} : FrameBlind (va_Pc av (cP D dT g z0 pre sz)) := by
  intro a U fr mk q
  obtain ⟨q0, q1, q2, q3, q4⟩ := q
  exact ⟨q0, q1, q2, q3, KK.same (u := U) (U := U.calling fr mk a) rfl q4⟩
/-- the world of a walk -/
def Wd (D : va_G) (A : Nat → Prop) (H0 H : Heap) (locs : List Loc) (LL : List va_W) : Prop := (va_P D vwCl LL.flatten H ∧ va_D A LL.flatten) ∧ va_S A H0 H locs
theorem Wd.perm {D : va_G} {A : Nat → Prop} {H0 H : Heap} {locs : List Loc} {L1 L2 : List va_W} (h : Wd D A H0 H locs L1) (p : L1.flatten.Perm L2.flatten) : Wd D A H0 H locs L2 := ⟨wp_perm p h.1, h.2⟩
theorem Wd.eq {D : va_G} {A : Nat → Prop} {H0 H : Heap} {locs : List Loc} {L1 L2 : List va_W} (h : Wd D A H0 H locs L1) (p : L1.flatten = L2.flatten) : Wd D A H0 H locs L2 := h.perm (by rw [p])
theorem Wd.pick {D : va_G} {A : Nat → Prop} {H0 H : Heap} {locs : List Loc} {L1 L2 L3 : List va_W} (h : Wd D A H0 H locs L1) (is : List Nat) (hn : sg_ok is L1 = true) (h2 : sg_sel is L1 = L2) (h3 : sg_rest is L1 = L3) : Wd D A H0 H locs (L2 ++ L3) := by
  subst h2; subst h3
  exact h.perm (sg_perm is L1 hn)
theorem Wd.drop {D : va_G} {A : Nat → Prop} {H0 H : Heap} {locs : List Loc} {L1 L2 L3 : List va_W} (h : Wd D A H0 H locs L1) (is : List Nat) (hn : sg_ok is L1 = true) (h3 : sg_rest is L1 = L3) : Wd D A H0 H locs L3 := by
  subst h3
  have h2 := (h.perm (sg_perm is L1 hn)).1
  rw [List.flatten_append] at h2
  exact ⟨wp_left (wp_perm List.perm_append_comm h2), h.2⟩
theorem Wd.tl {D : va_G} {A : Nat → Prop} {H0 H : Heap} {locs : List Loc} {S : va_W} {L1 : List va_W} (h : Wd D A H0 H locs (S :: L1)) : Wd D A H0 H locs L1 := by
  have h2 : va_P D vwCl (S ++ L1.flatten) H ∧ va_D A (S ++ L1.flatten) := h.1
  exact ⟨wp_left (wp_perm List.perm_append_comm h2), h.2⟩
