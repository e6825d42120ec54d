/-! AN ARRAY OF THREE DIMENSIONS -/
set_option maxRecDepth 100000
/-- the outer array with its first i places set: each step on -/
def mu_out (c : ClassId) (N h0 st : Nat) : Nat → Cell
  | 0 => { cls := c, slots := Array.replicate N .null, vm := .none }
  | i + 1 => (mu_out c N h0 st i).setSlot i (.ref (h0 + 1 + st * i))
def mu_fill (s : State) (c7 c6 c0 : ClassId) (N M K : Nat) (dv : Value) : Nat → State
  | 0 => s.pushCell (mu_out c7 N s.heap.size (1 + M) 0)
  | i + 1 => (Jvm.Free.Multi.fill (mu_fill s c7 c6 c0 N M K dv i) c6 c0 M K dv M).setCell s.heap.size (mu_out c7 N s.heap.size (1 + M) (i + 1))
theorem mu_facts (c : ClassId) (N h0 st : Nat) : ∀ i, (mu_out c N h0 st i).cls = c ∧ (mu_out c N h0 st i).vm = .none ∧ (mu_out c N h0 st i).slots.size = N
  | 0 => ⟨rfl, rfl, by simp [mu_out]⟩
  | i + 1 => by
    obtain ⟨a, b, d⟩ := mu_facts c N h0 st i
    exact ⟨by simp [mu_out, Cell.setSlot, a], by simp [mu_out, Cell.setSlot, b], by simp [mu_out, Cell.setSlot, d]⟩
theorem mu_slot (c : ClassId) (N h0 st : Nat) : ∀ i j, j < N → (mu_out c N h0 st i).slots[j]? = some (if j < i then .ref (h0 + 1 + st * j) else .null)
  | 0, j, h => by simp [mu_out, h]
  | i + 1, j, h => by
    have ih := mu_slot c N h0 st i j h
    have hs := (mu_facts c N h0 st i).2.2
    show ((mu_out c N h0 st i).setSlot i (.ref (h0 + 1 + st * i))).slots[j]? = _
    simp only [Cell.setSlot, Array.getElem?_setIfInBounds]
    by_cases e : i = j
    · subst e; simp [hs, h]
    · rw [if_neg e, ih]
      by_cases hj : j < i
      · rw [if_pos hj, if_pos (by omega)]
      · rw [if_neg hj, if_neg (by omega)]
theorem mu_state (s : State) (c7 c6 c0 : ClassId) (N M K : Nat) (dv : Value) : ∀ i, (mu_fill s c7 c6 c0 N M K dv i).heap.size = s.heap.size + 1 + i * (1 + M) ∧ (mu_fill s c7 c6 c0 N M K dv i).heap[s.heap.size]? = some (mu_out c7 N s.heap.size (1 + M) i) ∧ (mu_fill s c7 c6 c0 N M K dv i).vm = s.vm ∧ (mu_fill s c7 c6 c0 N M K dv i).slotsUsed = s.slotsUsed + N + i * (M + M * K)
  | 0 => ⟨by simp [mu_fill], by simp [mu_fill], rfl, by simp [mu_fill, mu_out]⟩
  | i + 1 => by
    obtain ⟨a, b, d, u⟩ := mu_state s c7 c6 c0 N M K dv i
    obtain ⟨f1, f2, f3, f4⟩ := Jvm.Free.Multi.fill_facts (mu_fill s c7 c6 c0 N M K dv i) c6 c0 M K dv M
    have hlt : s.heap.size < (mu_fill s c7 c6 c0 N M K dv i).heap.size := by rw [a]; omega
    have hb' := (Jvm.Free.Multi.fill_old (mu_fill s c7 c6 c0 N M K dv i) c6 c0 M K dv hlt M).trans b
    refine ⟨?_, State.heap_setCell_self hb', ?_, ?_⟩
    · show ((Jvm.Free.Multi.fill _ c6 c0 M K dv M).setCell s.heap.size _).heap.size = _
      have e : ∀ (t : State) (q : Addr) (x : Cell), (t.setCell q x).heap.size = t.heap.size := fun t q x => by simp [State.setCell]
      rw [e, f1, a, Nat.succ_mul]; omega
    · show ((Jvm.Free.Multi.fill _ c6 c0 M K dv M).setCell s.heap.size _).vm = _
      have e : ∀ (t : State) (q : Addr) (x : Cell), (t.setCell q x).vm = t.vm := fun t q x => by simp
      rw [e, f3, d]
    · show ((Jvm.Free.Multi.fill _ c6 c0 M K dv M).setCell s.heap.size _).slotsUsed = _
      have e : ∀ (t : State) (q : Addr) (x : Cell), (t.setCell q x).slotsUsed = t.slotsUsed := fun t q x => by simp
      rw [e, f4, u, Nat.succ_mul]; omega
theorem mu_setTop (s : State) (f : JFrame) (c7 c6 c0 : ClassId) (N M K : Nat) (dv : Value) : ∀ i, mu_fill (s.setTop f) c7 c6 c0 N M K dv i = (mu_fill s c7 c6 c0 N M K dv i).setTop f
  | 0 => rfl
  | i + 1 => by simp only [mu_fill, mu_setTop s f c7 c6 c0 N M K dv i, State.heap_setTop, Jvm.Free.Multi.fill_setTop, State.setCell_setTop]
theorem mu_old (s : State) (c7 c6 c0 : ClassId) (N M K : Nat) (dv : Value) {a : Addr} (ha : a < s.heap.size) : ∀ i, (mu_fill s c7 c6 c0 N M K dv i).heap[a]? = s.heap[a]?
  | 0 => State.heap_pushCell_of_lt _ _ ha
  | i + 1 => by
    have f1 := (mu_state s c7 c6 c0 N M K dv i).1
    have hlt : a < (mu_fill s c7 c6 c0 N M K dv i).heap.size := by rw [f1]; exact Nat.lt_of_lt_of_le ha (by omega)
    show ((Jvm.Free.Multi.fill _ c6 c0 M K dv M).setCell s.heap.size _).heap[a]? = _
    rw [State.heap_setCell_other (Nat.ne_of_gt ha), Jvm.Free.Multi.fill_old _ _ _ _ _ _ hlt]
    exact mu_old s c7 c6 c0 N M K dv ha i
/-- the arrays in the middle and within, behind i steps -/
theorem mu_mid (s : State) (c7 c6 c0 : ClassId) (N M K : Nat) (dv : Value) : ∀ i k, k < i → (mu_fill s c7 c6 c0 N M K dv i).heap[s.heap.size + 1 + (1 + M) * k]? = some (Jvm.Free.Multi.outerC c6 M (s.heap.size + 1 + (1 + M) * k) M) ∧ ∀ j, j < M → (mu_fill s c7 c6 c0 N M K dv i).heap[s.heap.size + 1 + (1 + M) * k + 1 + j]? = some (Jvm.Free.Multi.innerC c0 K dv)
  | 0, _, h => absurd h (Nat.not_lt_zero _)
  | i + 1, k, h => by
    have f1 := (mu_state s c7 c6 c0 N M K dv i).1
    have e0 : (mu_fill s c7 c6 c0 N M K dv i).heap.size = s.heap.size + 1 + (1 + M) * i := by rw [f1, Nat.mul_comm]
    have hne : ∀ x, s.heap.size < x → s.heap.size ≠ x := fun x hx => Nat.ne_of_lt hx
    rcases Nat.lt_or_ge k i with hk | hk
    · obtain ⟨ih1, ih2⟩ := mu_mid s c7 c6 c0 N M K dv i k hk
      have hm : (1 + M) * k + (1 + M) ≤ (1 + M) * i := by
        have := Nat.mul_le_mul_left (1 + M) (show k + 1 ≤ i from hk)
        rw [Nat.mul_succ] at this; exact this
      refine ⟨?_, fun j hj => ?_⟩
      · show ((Jvm.Free.Multi.fill _ c6 c0 M K dv M).setCell s.heap.size _).heap[_]? = _
        rw [State.heap_setCell_other (hne _ (by omega)), Jvm.Free.Multi.fill_old _ _ _ _ _ _ (by rw [e0]; exact (by omega : (s.heap.size + 1 + (1 + M) * k : Nat) < s.heap.size + 1 + (1 + M) * i))]
        exact ih1
      · show ((Jvm.Free.Multi.fill _ c6 c0 M K dv M).setCell s.heap.size _).heap[_]? = _
        rw [State.heap_setCell_other (hne _ (by omega)), Jvm.Free.Multi.fill_old _ _ _ _ _ _ (by rw [e0]; exact (by omega : (s.heap.size + 1 + (1 + M) * k + 1 + j : Nat) < s.heap.size + 1 + (1 + M) * i))]
        exact ih2 j hj
    · have e : k = i := by omega
      subst e
      refine ⟨?_, fun j hj => ?_⟩
      · show ((Jvm.Free.Multi.fill _ c6 c0 M K dv M).setCell s.heap.size _).heap[_]? = _
        rw [State.heap_setCell_other (hne _ (by omega)), ← e0]
        exact (Jvm.Free.Multi.fill_facts _ c6 c0 M K dv M).2.1
      · show ((Jvm.Free.Multi.fill _ c6 c0 M K dv M).setCell s.heap.size _).heap[_]? = _
        rw [State.heap_setCell_other (hne _ (by omega)), ← e0]
        exact Jvm.Free.Multi.fill_inner _ c6 c0 M K dv M j hj
section MU
variable {E : CtlPost} {e : Env} {d : Bool} {acts : List Action} {s : State}
/-- the model's 'make c [n, m, k]' -/
theorem mu_make {c7 c6 c0 cc : ClassId} {k7 k6 k0 : Class} {t7 t6 type : FieldType} {n m k : Int32} (h7 : s.vm.classes[c7]? = some k7) (hk7 : k7.kind = .array c6 t7) (hr7 : t7.isReference = true)
    (h6 : s.vm.classes[c6]? = some k6) (hk6 : k6.kind = .array c0 t6) (hr6 : t6.isReference = true) (h0 : s.vm.classes[c0]? = some k0) (hk0 : k0.kind = .array cc type) (hn : ¬ n < 0) (hm : ¬ m < 0) (hk : ¬ k < 0)
    (hl1 : ¬ n.toNatClampNeg > e.platform.arrayLengthLimit) (hh1 : ¬ n.toNatClampNeg * componentBytes t7 > e.platform.maxHeapBytes)
    (hl2 : ¬ m.toNatClampNeg > e.platform.arrayLengthLimit) (hh2 : ¬ m.toNatClampNeg * componentBytes t6 > e.platform.maxHeapBytes)
    (hl3 : ¬ k.toNatClampNeg > e.platform.arrayLengthLimit) (hh3 : ¬ k.toNatClampNeg * componentBytes type > e.platform.maxHeapBytes)
    (hdf : fits type (defaultValue type) = true) (hdd : (defaultValue type).isDefault = true)
    (hc : s.heap.size + 1 + n.toNatClampNeg * (1 + m.toNatClampNeg) ≤ e.platform.maxCells) (hs : s.slotsUsed + n.toNatClampNeg + n.toNatClampNeg * (m.toNatClampNeg + m.toNatClampNeg * k.toNatClampNeg) ≤ e.platform.maxSlots)
    {Q : Addr → Pre} (hq : ∀ d' acts', Q s.heap.size d' acts' (mu_fill s c7 c6 c0 n.toNatClampNeg m.toNatClampNeg k.toNatClampNeg (defaultValue type) n.toNatClampNeg)) :
    wp (Op.multianewarray.make c7 [n, m, k]) Q E e d acts s := by
  have hfind : ([m, k].find? (· < 0)) = none := by simp [hm, hk]
  rw [Op.multianewarray.make]
  simp only [wp_bind', W.ite, hn, if_false, wp_pure', W.theClass, h7, hk7, Option.some.injEq, exists_eq_left']
  refine Jvm.Free.Multi.wp_newArray h7 hk7 hl1 hh1 (Jvm.Free.Multi.refFits hr7 _ (Or.inl rfl)) rfl (by omega) (by have := Nat.zero_le (n.toNatClampNeg * (m.toNatClampNeg + m.toNatClampNeg * k.toNatClampNeg)); omega) ?_
  simp only [hfind]
  rw [ite_self, wp_bind', Std.Legacy.Range.forIn_eq_forIn_range']
  have hsz : ([:n.toNatClampNeg] : Std.Legacy.Range).size = n.toNatClampNeg := by simp [Std.Legacy.Range.size]
  rw [hsz]
  show wp (forIn (List.range' 0 n.toNatClampNeg 1) PUnit.unit _) _ E e d acts _
  refine wp_forIn_inv (fun rest s' => ∃ i, i ≤ n.toNatClampNeg ∧ rest = List.range' i (n.toNatClampNeg - i) ∧ s' = mu_fill s c7 c6 c0 n.toNatClampNeg m.toNatClampNeg k.toNatClampNeg (defaultValue type) i) _ _ ⟨0, Nat.zero_le _, rfl, rfl⟩ ?_ ?_
  · rintro x rest s' d' acts' Q' ⟨i, hi, hl, rfl⟩ hnext
    have hlt : i < n.toNatClampNeg := by
      rcases Nat.lt_or_ge i n.toNatClampNeg with h | h
      · exact h
      · rw [show n.toNatClampNeg - i = 0 from by omega] at hl; simp at hl
    obtain ⟨rfl, hrest⟩ : x = i ∧ rest = List.range' (i + 1) (n.toNatClampNeg - (i + 1)) := by
      rw [show n.toNatClampNeg - i = (n.toNatClampNeg - (i + 1)) + 1 from by omega, List.range'_succ] at hl
      exact ⟨(List.cons.inj hl).1, (List.cons.inj hl).2⟩
    obtain ⟨f1, f2, f3, f4⟩ := mu_state s c7 c6 c0 n.toNatClampNeg m.toNatClampNeg k.toNatClampNeg (defaultValue type) x
    obtain ⟨o1, o2, o3⟩ := mu_facts c7 n.toNatClampNeg s.heap.size (1 + m.toNatClampNeg) x
    have hmul1 : x * (1 + m.toNatClampNeg) + (1 + m.toNatClampNeg) ≤ n.toNatClampNeg * (1 + m.toNatClampNeg) := by
      have := Nat.mul_le_mul_right (1 + m.toNatClampNeg) (show x + 1 ≤ n.toNatClampNeg from hlt)
      rw [Nat.succ_mul] at this; exact this
    have hmul2 : x * (m.toNatClampNeg + m.toNatClampNeg * k.toNatClampNeg) + (m.toNatClampNeg + m.toNatClampNeg * k.toNatClampNeg) ≤ n.toNatClampNeg * (m.toNatClampNeg + m.toNatClampNeg * k.toNatClampNeg) := by
      have := Nat.mul_le_mul_right (m.toNatClampNeg + m.toNatClampNeg * k.toNatClampNeg) (show x + 1 ≤ n.toNatClampNeg from hlt)
      rw [Nat.succ_mul] at this; exact this
    simp only [wp_bind']
    refine Jvm.Free.Multi.wp_make2 (by rw [f3]; exact h6) hk6 hr6 (by rw [f3]; exact h0) hk0 hm hk hl2 hh2 hl3 hh3 hdf hdd (by rw [f1]; omega) (by rw [f4]; omega) fun d2 acts2 => ?_
    have hlt0 : s.heap.size < (mu_fill s c7 c6 c0 n.toNatClampNeg m.toNatClampNeg k.toNatClampNeg (defaultValue type) x).heap.size := by rw [f1]; omega
    have hvm2 := (Jvm.Free.Multi.fill_facts (mu_fill s c7 c6 c0 n.toNatClampNeg m.toNatClampNeg k.toNatClampNeg (defaultValue type) x) c6 c0 m.toNatClampNeg k.toNatClampNeg (defaultValue type) m.toNatClampNeg).2.2.1
    simp only [wp_bind', W.writeLoc, wp_pure']
    refine ⟨mu_out c7 n.toNatClampNeg s.heap.size (1 + m.toNatClampNeg) x, by rw [Jvm.Free.Multi.fill_old _ _ _ _ _ _ hlt0]; exact f2, by rw [o2]; simp, by rw [o3]; exact hlt, ?_, hnext _ _ _ ⟨x + 1, hlt, hrest, ?_⟩⟩
    · rw [o1, o2]
      simp [State.fitsSlot, State.slotType?, hvm2, f3, h7, hk7, Jvm.Free.Multi.refFits hr7 _ (Or.inr ⟨_, rfl⟩)]
    · rw [f1, Nat.mul_comm]; rfl
  · rintro s' d' acts' ⟨i, hi, hl, rfl⟩
    have hiN : i = n.toNatClampNeg := by
      rcases Nat.lt_or_ge i n.toNatClampNeg with h | h
      · rw [show n.toNatClampNeg - i = (n.toNatClampNeg - (i + 1)) + 1 from by omega, List.range'_succ] at hl; cases hl
      · omega
    subst hiN
    simp only [wp_pure']
    exact hq _ _
end MU
section MUS
variable {p : Program} {l : Launch} {e : Env} {R : Room} {s : State} {m : MethodId} {args : Array Value} {below : List Frame} {meth : Method} {c : Code} {T : State} {locs : List Loc} {cells slots : Nat}
theorem mu_stand (X : Stand p l e R s m args below meth c T locs cells slots) (c7 c6 c0 : ClassId) (N M K : Nat) (dv : Value) :
    ∀ i, ∃ L : List Loc, Stand p l e R s m args below meth c (mu_fill T c7 c6 c0 N M K dv i) (locs ++ L) (cells + 1 + i * (1 + M)) (slots + N + i * (M + M * K)) ∧ ∀ q ∈ L, T.heap.size ≤ q.base
  | 0 => by
    have h := X.pushed (mu_out c7 N T.heap.size (1 + M) 0)
    rw [(mu_facts c7 N T.heap.size (1 + M) 0).2.2] at h
    exact ⟨[], by simpa [mu_fill] using h, fun q hq => absurd hq List.not_mem_nil⟩
  | i + 1 => by
    obtain ⟨L, Xi, hL⟩ := mu_stand X c7 c6 c0 N M K dv i
    obtain ⟨f1, f2, f3, f4⟩ := mu_state T c7 c6 c0 N M K dv i
    have hlt0 : T.heap.size < (mu_fill T c7 c6 c0 N M K dv i).heap.size := by rw [f1]; omega
    have XF := Xi.filled c6 c0 M K dv M
    have hcell := (Jvm.Free.Multi.fill_old (mu_fill T c7 c6 c0 N M K dv i) c6 c0 M K dv hlt0 M).trans f2
    have h := XF.stored hcell i (.ref (T.heap.size + 1 + (1 + M) * i))
    refine ⟨L ++ ((List.range M).map fun j => (⟨(mu_fill T c7 c6 c0 N M K dv i).heap.size, j⟩ : Loc)) ++ [⟨T.heap.size, i⟩], ?_, ?_⟩
    · have e3 : cells + 1 + (i + 1) * (1 + M) = cells + 1 + i * (1 + M) + 1 + M := by rw [Nat.succ_mul]; omega
      have e4 : slots + N + (i + 1) * (M + M * K) = slots + N + i * (M + M * K) + M + M * K := by rw [Nat.succ_mul]; omega
      rw [e3, e4]
      simpa [mu_fill, mu_out, List.append_assoc] using h
    · intro q hq
      rcases List.mem_append.mp hq with h1 | h1
      · rcases List.mem_append.mp h1 with h2 | h2
        · exact hL q h2
        · obtain ⟨j, -, rfl⟩ := List.mem_map.mp h2
          exact Nat.le_of_lt hlt0
      · cases List.mem_singleton.mp h1
        exact Nat.le_refl _
end MUS
section AL9
variable {p : Program} {l : Launch} {e : Env} {R : Room} {s : State} {m : MethodId} {args : Array Value} {below : List Frame} {meth : Method} {c : Code} {H : Heap} {locs : List Loc} {cells slots : Nat} {Q : State → Prop}
variable {cc : ByteArray} {nL pc : Nat} {ls : Array Slot} {rest : List Value} {own : String} {D : va_G} {dT g : Nat → Nat} {z0 : Nat} {A : Nat → Prop} {LL : List va_W} {H0 : Heap} {a : Nat}
/-- an array out of an array of arrays -/
theorem xr_aaldA (hf : CallFix p m c cc nL s args lw_all own) (hK : KK D dT g z0 s s.heap) (hw : Wd D A H0 H locs LL) (i j : Nat) {t n : Nat} {f : Nat → Option Nat} (he : sg_at LL i j = some (a, aR dT t n f)) {T : FieldType} (ht : (tysG dT)[t]? = some (dT t, .array T)) (k : Nat) {x : Int32} {r : Option Nat} (h0 : ¬ x < 0) (hk : x.toNatClampNeg = k) (hl : k < n) (hv : f k = r) (hdg : decode cc pc = .ok (.aaload, 1))
    (kk : W p l e R s m args below meth c H locs cells slots Q (F0 m (pc + 1) ls (va_rf r :: rest))) : W p l e R s m args below meth c H locs cells slots Q (F0 m pc ls (.int x :: .ref a :: rest)) := by
  obtain ⟨q0, h1, -⟩ := sg_find he
  have hlt : x.toNatClampNeg < n := by rw [hk]; exact hl
  have hin := vpin h0 hk hl
  refine W.aald (v := va_rf (f x.toNatClampNeg)) (ty := .array T) hf.1 hf.2.1 (hw.1.1 q0 _ h1) ((hK.k.2 t _ ht).1 n (fun j => va_rf (f j))) rfl (fun q => by cases q) (by show ¬ (x < 0 ∨ (arrV _ _ _).slots.size ≤ _); rw [arrV_size]; exact hin) (by show (arrV _ _ _).slots[_]? = _; rw [arrV_read _ _ hlt]) rfl rfl hdg ?_
  rw [hk, hv]; exact kk
end AL9
