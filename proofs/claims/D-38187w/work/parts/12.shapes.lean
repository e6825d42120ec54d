/-! SHAPES: what an object's cells look like, by a row of ints -/
set_option maxRecDepth 100000
def bz (x : Int32) : Int32 := if x = 0 then 0 else 1
theorem nbz (x : Int32) : narrow .boolean (.int (bz x)) = .int (bz x) := by unfold bz; split <;> rfl
theorem fbz (x : Int32) : fits .boolean (.int (bz x)) = true := by unfold bz; split <;> rfl
theorem bz_eq0 (x : Int32) : bz x = 0 ↔ x = 0 := by
  unfold bz
  by_cases h : x = 0
  · simp [h]
  · simp [h]
abbrev vec (l : List Int32) : Nat → Int32 := fun i => l.getD i 0
def imax (x y : Int32) : Int32 := if x < y then y else x
def imin (x y : Int32) : Int32 := if y < x then y else x
abbrev trS (a : Nat) (v : Nat → Int32) : va_W := [ob a 2 [.int (v 0), .int (v 1), .int (v 2), .int (v 3), .int (v 4), .int (v 5), .int (v 6), .int (v 7), .int (v 8), .int (v 9), .int (bz (v 10))]]
abbrev mtS (a : Nat) (v : Nat → Int32) : va_W := [ob a 6 [.int (v 0), .int (v 1), .int (v 2), .int (v 3), .int (v 4), .int (v 5), .int (v 6), .int (v 7), .int (v 8), .int (v 9), .int (bz (v 10))]]
abbrev lnS (a : Nat) (v : Nat → Int32) : va_W := [ob a 1 [.int (v 0), .int (v 1), .int (v 2)]]
abbrev mlS (a : Nat) (v : Nat → Int32) : va_W := [ob a 5 [.int (v 0), .int (v 1), .int (v 2)]]
abbrev plS (dT : Nat → Nat) (a b : Nat) (v : Nat → Int32) : va_W := [ob a 7 [.int (v 0), .int (v 1), .ref b], (b, aI dT [v 2, v 3, v 4, v 5])]
abbrev mpS (dT : Nat → Nat) (a b : Nat) (v : Nat → Int32) : va_W := [ob a 8 [.int (v 0), .int (v 1), .ref b], (b, aI dT [v 2, v 3, v 4, v 5])]
abbrev loS (dT : Nat → Nat) (a b c : Nat) (v : Nat → Int32) : va_W := [ob a 9 [.int (v 0), .int (v 1), .int (v 2), .ref b, .ref c, .int (v 9), .int (v 10)], (b, aI dT [v 3, v 4, v 5]), (c, aI dT [v 6, v 7, v 8])]
abbrev moS (dT : Nat → Nat) (a b c : Nat) (v : Nat → Int32) : va_W := [ob a 10 [.int (v 0), .int (v 1), .int (v 2), .ref b, .ref c, .int (v 9), .int (v 10)], (b, aI dT [v 3, v 4, v 5]), (c, aI dT [v 6, v 7, v 8])]
abbrev skS (dT : Nat → Nat) (a b : Nat) (v : Nat → Int32) : va_W := [ob a 11 [.int (v 0), .int (v 1), .int (v 2), .int (v 3), .int (bz (v 4)), .ref b], (b, aI dT [v 5, v 6, v 7, v 8])]
abbrev msS (dT : Nat → Nat) (a b : Nat) (v : Nat → Int32) : va_W := [ob a 13 [.int (v 0), .int (v 1), .int (v 2), .int (v 3), .ref b, .int (bz (v 4))], (b, aI dT [v 5, v 6, v 7, v 8])]
abbrev iaS (dT : Nat → Nat) (a : Nat) (L : List Int32) : va_W := [(a, aI dT L)]
abbrev fiS (a b : Nat) (v : Nat → Int32) : va_W := [ob a 12 [.int (v 0), .ref b, .int (v 1)]]
theorem Wd.take {D : va_G} {A : Nat → Prop} {H0 H : Heap} {locs : List Loc} {L1 L2 : List va_W} (h : Wd D A H0 H locs L1) (is : List Nat) (hn : sg_ok is L1 = true) (h2 : sg_sel is L1 = L2) : Wd D A H0 H locs L2 := by
  subst h2
  have h2 := (h.perm (sg_perm is L1 hn)).1
  rw [List.flatten_append] at h2
  exact ⟨wp_left h2, h.2⟩
section LVAS
variable {p : Program} {l : Launch} {e : Env} {R : Room} {s : State} {m : MethodId} {args : Array Value} {below : List Frame} {meth : Method} {c : Code} {H : Heap} {locs : List Loc} {cells slots : Nat} {Q : State → Prop}
variable {pc : Nat} {ls : Array Slot} {rest : List Value}
theorem lv_as {x y : Int32} (h : x = y) (k : W p l e R s m args below meth c H locs cells slots Q (F0 m pc ls (.int y :: rest))) : W p l e R s m args below meth c H locs cells slots Q (F0 m pc ls (.int x :: rest)) := h ▸ k
theorem W.fresh {g : JFrame} {P : Heap → List Loc → Prop} (h : P H locs) (k : ∀ (H : Heap) (locs : List Loc), P H locs → W p l e R s m args below meth c H locs cells slots Q g) : W p l e R s m args below meth c H locs cells slots Q g := k H locs h
end LVAS
