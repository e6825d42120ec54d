/-! THE LAW's invariant: both sides' whole state between two calls -/
set_option maxRecDepth 100000
abbrev TG0 : Type := (Nat → Nat) × (Nat → Int32) × Int64 × Int32 × (Nat → Nat) × (Nat → Int32)
abbrev TG1 : Type := Int32 × Option (Nat × Nat) × PlT × Int32 × Option (Nat × Nat) × MpT
abbrev TG2 : Type := Int32 × Option (Nat × Nat) × TrT × MtT
abbrev TG3 : Type := Int32 × Option (Nat × Nat) × TrT × MtT
abbrev TG4 : Type := Int32 × Option (Nat × Nat) × LoT × Int32 × Option (Nat × Nat) × MoT
abbrev TG5 : Type := Int32 × Nat × Nat × Nat × Nat × Nat × Nat × Nat × Nat × List (Nat × List Int32)
abbrev TG6 : Type := Int32 × Option (Nat × Nat) × List (Nat × Nat × FvT) × Int32 × Option (Nat × Nat) × MfT
abbrev TG7 : Type := Int32 × Option (Nat × Nat) × List (Nat × Nat × FvT) × Int32 × Option (Nat × Nat) × MfT
abbrev TG8 : Type := Int32 × Option (Nat × Nat) × PlT × Int32 × Option (Nat × Nat) × MpT
def Sv : Type := TG0 × TG1 × TG2 × TG3 × TG4 × TG5 × TG6 × TG7 × TG8
abbrev Sv.g0 (v : Sv) : TG0 := v.1
abbrev Sv.L (v : Sv) : Nat → Nat := (v.1).1
abbrev Sv.sc (v : Sv) : Nat → Int32 := (v.1).2.1
abbrev Sv.o (v : Sv) : Int64 := (v.1).2.2.1
abbrev Sv.th (v : Sv) : Int32 := (v.1).2.2.2.1
abbrev Sv.M (v : Sv) : Nat → Nat := (v.1).2.2.2.2.1
abbrev Sv.scm (v : Sv) : Nat → Int32 := (v.1).2.2.2.2.2
abbrev Sv.g1 (v : Sv) : TG1 := v.2.1
abbrev Sv.u0 (v : Sv) : Int32 := (v.2.1).1
abbrev Sv.st0 (v : Sv) : Option (Nat × Nat) := (v.2.1).2.1
abbrev Sv.pl (v : Sv) : PlT := (v.2.1).2.2.1
abbrev Sv.up (v : Sv) : Int32 := (v.2.1).2.2.2.1
abbrev Sv.stp (v : Sv) : Option (Nat × Nat) := (v.2.1).2.2.2.2.1
abbrev Sv.mp (v : Sv) : MpT := (v.2.1).2.2.2.2.2
abbrev Sv.g2 (v : Sv) : TG2 := v.2.2.1
abbrev Sv.u1 (v : Sv) : Int32 := (v.2.2.1).1
abbrev Sv.st1 (v : Sv) : Option (Nat × Nat) := (v.2.2.1).2.1
abbrev Sv.ln (v : Sv) : TrT := (v.2.2.1).2.2.1
abbrev Sv.ml (v : Sv) : MtT := (v.2.2.1).2.2.2
abbrev Sv.g3 (v : Sv) : TG3 := v.2.2.2.1
abbrev Sv.u2 (v : Sv) : Int32 := (v.2.2.2.1).1
abbrev Sv.st2 (v : Sv) : Option (Nat × Nat) := (v.2.2.2.1).2.1
abbrev Sv.tr (v : Sv) : TrT := (v.2.2.2.1).2.2.1
abbrev Sv.mt (v : Sv) : MtT := (v.2.2.2.1).2.2.2
abbrev Sv.g4 (v : Sv) : TG4 := v.2.2.2.2.1
abbrev Sv.u3 (v : Sv) : Int32 := (v.2.2.2.2.1).1
abbrev Sv.st3 (v : Sv) : Option (Nat × Nat) := (v.2.2.2.2.1).2.1
abbrev Sv.lo (v : Sv) : LoT := (v.2.2.2.2.1).2.2.1
abbrev Sv.uo (v : Sv) : Int32 := (v.2.2.2.2.1).2.2.2.1
abbrev Sv.sto (v : Sv) : Option (Nat × Nat) := (v.2.2.2.2.1).2.2.2.2.1
abbrev Sv.mo (v : Sv) : MoT := (v.2.2.2.2.1).2.2.2.2.2
abbrev Sv.g5 (v : Sv) : TG5 := v.2.2.2.2.2.1
abbrev Sv.ub (v : Sv) : Int32 := (v.2.2.2.2.2.1).1
abbrev Sv.db (v : Sv) : Nat := (v.2.2.2.2.2.1).2.1
abbrev Sv.capb (v : Sv) : Nat := (v.2.2.2.2.2.1).2.2.1
abbrev Sv.aA (v : Sv) : Nat := (v.2.2.2.2.2.1).2.2.2.1
abbrev Sv.aB (v : Sv) : Nat := (v.2.2.2.2.2.1).2.2.2.2.1
abbrev Sv.bA (v : Sv) : Nat := (v.2.2.2.2.2.1).2.2.2.2.2.1
abbrev Sv.bB (v : Sv) : Nat := (v.2.2.2.2.2.1).2.2.2.2.2.2.1
abbrev Sv.gA (v : Sv) : Nat := (v.2.2.2.2.2.1).2.2.2.2.2.2.2.1
abbrev Sv.gB (v : Sv) : Nat := (v.2.2.2.2.2.1).2.2.2.2.2.2.2.2.1
abbrev Sv.pa (v : Sv) : List (Nat × List Int32) := (v.2.2.2.2.2.1).2.2.2.2.2.2.2.2.2
abbrev Sv.g6 (v : Sv) : TG6 := v.2.2.2.2.2.2.1
abbrev Sv.uA (v : Sv) : Int32 := (v.2.2.2.2.2.2.1).1
abbrev Sv.stA (v : Sv) : Option (Nat × Nat) := (v.2.2.2.2.2.2.1).2.1
abbrev Sv.fA (v : Sv) : List (Nat × Nat × FvT) := (v.2.2.2.2.2.2.1).2.2.1
abbrev Sv.umA (v : Sv) : Int32 := (v.2.2.2.2.2.2.1).2.2.2.1
abbrev Sv.smA (v : Sv) : Option (Nat × Nat) := (v.2.2.2.2.2.2.1).2.2.2.2.1
abbrev Sv.mA (v : Sv) : MfT := (v.2.2.2.2.2.2.1).2.2.2.2.2
abbrev Sv.g7 (v : Sv) : TG7 := v.2.2.2.2.2.2.2.1
abbrev Sv.uB (v : Sv) : Int32 := (v.2.2.2.2.2.2.2.1).1
abbrev Sv.stB (v : Sv) : Option (Nat × Nat) := (v.2.2.2.2.2.2.2.1).2.1
abbrev Sv.fB (v : Sv) : List (Nat × Nat × FvT) := (v.2.2.2.2.2.2.2.1).2.2.1
abbrev Sv.umB (v : Sv) : Int32 := (v.2.2.2.2.2.2.2.1).2.2.2.1
abbrev Sv.smB (v : Sv) : Option (Nat × Nat) := (v.2.2.2.2.2.2.2.1).2.2.2.2.1
abbrev Sv.mB (v : Sv) : MfT := (v.2.2.2.2.2.2.2.1).2.2.2.2.2
abbrev Sv.g8 (v : Sv) : TG8 := v.2.2.2.2.2.2.2.2
abbrev Sv.u5 (v : Sv) : Int32 := (v.2.2.2.2.2.2.2.2).1
abbrev Sv.st5 (v : Sv) : Option (Nat × Nat) := (v.2.2.2.2.2.2.2.2).2.1
abbrev Sv.sk (v : Sv) : PlT := (v.2.2.2.2.2.2.2.2).2.2.1
abbrev Sv.us (v : Sv) : Int32 := (v.2.2.2.2.2.2.2.2).2.2.2.1
abbrev Sv.sts (v : Sv) : Option (Nat × Nat) := (v.2.2.2.2.2.2.2.2).2.2.2.2.1
abbrev Sv.ms (v : Sv) : MpT := (v.2.2.2.2.2.2.2.2).2.2.2.2.2
abbrev mkSv (g0 : TG0) (g1 : TG1) (g2 : TG2) (g3 : TG3) (g4 : TG4) (g5 : TG5) (g6 : TG6) (g7 : TG7) (g8 : TG8) : Sv := (g0, g1, g2, g3, g4, g5, g6, g7, g8)
/-- how many calls of which kind there were -/
def Cn : Type := Nat × Nat × Nat × Nat × Nat × Nat × Nat
abbrev Cn.P (c : Cn) : Nat := c.1
abbrev Cn.F (c : Cn) : Nat := c.2.1
abbrev Cn.B (c : Cn) : Nat := c.2.2.1
abbrev Cn.M (c : Cn) : Nat := c.2.2.2.1
abbrev Cn.S (c : Cn) : Nat := c.2.2.2.2.1
abbrev Cn.O (c : Cn) : Nat := c.2.2.2.2.2.1
abbrev Cn.X (c : Cn) : Nat := c.2.2.2.2.2.2
def Cn.n (c : Cn) : Nat := c.P + c.F + c.B + c.M + c.S + c.O + c.X
abbrev kP (c : Cn) : Cn := (c.P + 1, c.F, c.B, c.M, c.S, c.O, c.X)
theorem kP_n (c : Cn) : (kP c).n = c.n + 1 := by
  show (c.P + 1) + c.F + c.B + c.M + c.S + c.O + c.X = c.P + c.F + c.B + c.M + c.S + c.O + c.X + 1
  omega
abbrev kF (c : Cn) : Cn := (c.P, c.F + 1, c.B, c.M, c.S, c.O, c.X)
theorem kF_n (c : Cn) : (kF c).n = c.n + 1 := by
  show c.P + (c.F + 1) + c.B + c.M + c.S + c.O + c.X = c.P + c.F + c.B + c.M + c.S + c.O + c.X + 1
  omega
abbrev kB (c : Cn) : Cn := (c.P, c.F, c.B + 1, c.M, c.S, c.O, c.X)
theorem kB_n (c : Cn) : (kB c).n = c.n + 1 := by
  show c.P + c.F + (c.B + 1) + c.M + c.S + c.O + c.X = c.P + c.F + c.B + c.M + c.S + c.O + c.X + 1
  omega
abbrev kM (c : Cn) : Cn := (c.P, c.F, c.B, c.M + 1, c.S, c.O, c.X)
theorem kM_n (c : Cn) : (kM c).n = c.n + 1 := by
  show c.P + c.F + c.B + (c.M + 1) + c.S + c.O + c.X = c.P + c.F + c.B + c.M + c.S + c.O + c.X + 1
  omega
abbrev kS (c : Cn) : Cn := (c.P, c.F, c.B, c.M, c.S + 1, c.O, c.X)
theorem kS_n (c : Cn) : (kS c).n = c.n + 1 := by
  show c.P + c.F + c.B + c.M + (c.S + 1) + c.O + c.X = c.P + c.F + c.B + c.M + c.S + c.O + c.X + 1
  omega
abbrev kO (c : Cn) : Cn := (c.P, c.F, c.B, c.M, c.S, c.O + 1, c.X)
theorem kO_n (c : Cn) : (kO c).n = c.n + 1 := by
  show c.P + c.F + c.B + c.M + c.S + (c.O + 1) + c.X = c.P + c.F + c.B + c.M + c.S + c.O + c.X + 1
  omega
abbrev kX (c : Cn) : Cn := (c.P, c.F, c.B, c.M, c.S, c.O, c.X + 1)
theorem kX_n (c : Cn) : (kX c).n = c.n + 1 := by
  show c.P + c.F + c.B + c.M + c.S + c.O + (c.X + 1) = c.P + c.F + c.B + c.M + c.S + c.O + c.X + 1
  omega
def wOf (dT g : Nat → Nat) (x xm ao : Nat) (v : Sv) : List va_W :=
  [[ob x 0 [.ref (v.L 0), .ref (v.L 1), .ref (v.L 2), .ref (v.L 3), .ref (v.L 4), .ref (v.L 5), .int (v.sc 0), .int (bz (v.sc 1)), .int (v.sc 2), .int (v.sc 3), .int (v.sc 4), .int (v.sc 5), .int (v.sc 6)]],
   ((ob (v.L 0) 15 [.int v.u0, .ref (al_d g v.st0), .int (nI (ads v.pl).length)]) :: (al_t dT v.st0 (ads v.pl))),
   (v.pl.flatMap (plE dT)),
   ((ob (v.L 1) 15 [.int v.u1, .ref (al_d g v.st1), .int (nI (ads v.ln).length)]) :: (al_t dT v.st1 (ads v.ln))),
   (v.ln.flatMap lnE),
   ((ob (v.L 2) 15 [.int v.u2, .ref (al_d g v.st2), .int (nI (ads v.tr).length)]) :: (al_t dT v.st2 (ads v.tr))),
   (v.tr.flatMap trE),
   ((ob (v.L 3) 15 [.int v.u3, .ref (al_d g v.st3), .int (nI (ads v.lo).length)]) :: (al_t dT v.st3 (ads v.lo))),
   (v.lo.flatMap (loE dT)),
   [ob (v.L 4) 15 [.int v.ub, .ref v.db, .int (nI [v.aA, v.aB].length)], (v.db, aR dT 1 v.capb (fun i => [v.aA, v.aB][i]?))],
   ((ob v.aA 15 [.int v.uA, .ref (al_d g v.stA), .int (nI (ads v.fA).length)]) :: (al_t dT v.stA (ads v.fA))),
   (v.fA.flatMap fiE),
   ((ob v.aB 15 [.int v.uB, .ref (al_d g v.stB), .int (nI (ads v.fB).length)]) :: (al_t dT v.stB (ads v.fB))),
   (v.fB.flatMap fiE),
   (v.pa.flatMap (paE dT)),
   ((ob (v.L 5) 15 [.int v.u5, .ref (al_d g v.st5), .int (nI (ads v.sk).length)]) :: (al_t dT v.st5 (ads v.sk))),
   (v.sk.flatMap (skE dT)),
   [(ao, aL dT [v.o])],
   [ob xm 3 [.int v.th, .ref (v.M 0), .ref (v.M 1), .ref (v.M 2), .ref (v.M 3), .ref (v.M 4), .ref (v.M 5), .int (v.scm 0), .int (bz (v.scm 1)), .int (v.scm 2), .int (v.scm 3), .int (v.scm 4), .int (v.scm 5), .int (v.scm 6)]],
   ((ob (v.M 0) 15 [.int v.up, .ref (al_d g v.stp), .int (nI (ads v.mp).length)]) :: (al_t dT v.stp (ads v.mp))),
   (v.mp.flatMap (mpE dT)),
   [((v.M 1), aR dT 3 4 (fun i => (ads v.ml)[i]?))],
   (v.ml.flatMap mlE),
   [((v.M 2), aR dT 4 6 (fun i => (ads v.mt)[i]?))],
   (v.mt.flatMap mtE),
   ((ob (v.M 3) 15 [.int v.uo, .ref (al_d g v.sto), .int (nI (ads v.mo).length)]) :: (al_t dT v.sto (ads v.mo))),
   (v.mo.flatMap (moE dT)),
   [((v.M 4), aR dT 5 2 (fun i => [v.bA, v.bB][i]?))],
   [ob v.bA 4 [.ref v.gA]],
   ((ob v.gA 15 [.int v.umA, .ref (al_d g v.smA), .int (nI (ads v.mA).length)]) :: (al_t dT v.smA (ads v.mA))),
   (v.mA.flatMap (mfE dT)),
   [ob v.bB 4 [.ref v.gB]],
   ((ob v.gB 15 [.int v.umB, .ref (al_d g v.smB), .int (nI (ads v.mB).length)]) :: (al_t dT v.smB (ads v.mB))),
   (v.mB.flatMap (mfE dT)),
   ((ob (v.M 5) 15 [.int v.us, .ref (al_d g v.sts), .int (nI (ads v.ms).length)]) :: (al_t dT v.sts (ads v.ms))),
   (v.ms.flatMap (msE dT))]
def OKs (v : Sv) : Prop := P0 v.st0 v.pl v.stp v.mp ∧ P1 v.st1 v.ln v.ml ∧ P2 v.st2 v.tr v.mt ∧ P3 v.st3 v.lo v.sto v.mo ∧ PB v.stA v.fA v.smA v.mA v.pa ∧ PB v.stB v.fB v.smB v.mB v.pa ∧ P5 v.st5 v.sk v.sts v.ms ∧ (2 ≤ v.capb ∧ v.capb < 4096) ∧ scS v.sc v.scm
def RMs (v : Sv) (c : Cn) : Prop := ∃ F, v.sc 2 = nI F ∧ RM F (rows v.tr) (row3 v.lo) c.P c.F c.B c.M c.S c.O
def bud (v : Sv) (c : Cn) : Nat := CB c.n c.P c.X c.O (sumB lSt (row3 v.lo)) (row3 v.lo).length
theorem RMs.mono {v : Sv} {c c' : Cn} (h : RMs v c) (h1 : c.P ≤ c'.P) (h2 : c.F ≤ c'.F) (h3 : c.B ≤ c'.B) (h4 : c.M ≤ c'.M) (h5 : c.S ≤ c'.S) (h6 : c.O ≤ c'.O) : RMs v c' := by
  obtain ⟨F, e, h⟩ := h
  exact ⟨F, e, h.mono h1 h2 h3 h4 h5 h6⟩
theorem bud_bd {v : Sv} {c : Cn} (h : RMs v c) (hn : c.n ≤ 64) : bud v c ≤ 601152 := by
  obtain ⟨F, e, h⟩ := h
  exact CB_bd h hn
/-- behind a call: a the cells that it took -/
theorem bud_s {v v' : Sv} {c c' : Cn} {a : Nat} (hn : c'.n = c.n + 1) (hP : c.P ≤ c'.P) (hX : c.X ≤ c'.X) (hO : c.O ≤ c'.O) (hL : sumB lSt (row3 v.lo) ≤ sumB lSt (row3 v'.lo)) (hK : (row3 v.lo).length ≤ (row3 v'.lo).length) (ha : a ≤ 30) : bud v c + a ≤ bud v' c' := by
  unfold bud
  have := CB_mono (Nat.le_refl c'.n) hP hX hO hL hK
  have h2 : CB c'.n c.P c.X c.O (sumB lSt (row3 v.lo)) (row3 v.lo).length = CB c.n c.P c.X c.O (sumB lSt (row3 v.lo)) (row3 v.lo).length + 30 := by rw [hn]; exact CB_n
  omega
theorem bud_P {v v' : Sv} {c c' : Cn} {a : Nat} (hn : c'.n = c.n + 1) (hP : c'.P = c.P + 1) (hX : c.X ≤ c'.X) (hO : c.O ≤ c'.O) (hL : sumB lSt (row3 v.lo) ≤ sumB lSt (row3 v'.lo)) (hK : (row3 v.lo).length ≤ (row3 v'.lo).length) (ha : a ≤ 500) : bud v c + a ≤ bud v' c' := by
  unfold bud
  have := CB_mono (Nat.le_refl c'.n) (Nat.le_refl c'.P) hX hO hL hK
  have h2 : CB c'.n c'.P c.X c.O (sumB lSt (row3 v.lo)) (row3 v.lo).length = CB c.n c.P c.X c.O (sumB lSt (row3 v.lo)) (row3 v.lo).length + 30 + 470 := by rw [hn, hP, CB_P, CB_n]
  omega
theorem bud_X {v v' : Sv} {c c' : Cn} {a : Nat} (hn : c'.n = c.n + 1) (hP : c.P ≤ c'.P) (hX : c'.X = c.X + 1) (hO : c.O ≤ c'.O) (hL : sumB lSt (row3 v.lo) ≤ sumB lSt (row3 v'.lo)) (hK : (row3 v.lo).length ≤ (row3 v'.lo).length) (ha : a ≤ 30 + DD c.O (sumB lSt (row3 v.lo)) (row3 v.lo).length) : bud v c + a ≤ bud v' c' := by
  unfold bud
  have := CB_mono (Nat.le_refl c'.n) hP (Nat.le_refl c'.X) hO hL hK
  have h2 : CB c'.n c.P c'.X c.O (sumB lSt (row3 v.lo)) (row3 v.lo).length = CB c.n c.P c.X c.O (sumB lSt (row3 v.lo)) (row3 v.lo).length + 30 + DD c.O (sumB lSt (row3 v.lo)) (row3 v.lo).length := by rw [hn, hX, CB_X, CB_n]
  omega
theorem DD_ge {f L K : Nat} : 2000 ≤ DD f L K := by
  unfold DD
  split <;> omega
/-! small facts for the calls -/
theorem fullN {α β : Type} {l : List (Nat × α)} {l' : List (Nat × β)} {n : Nat} (h : l.length = l'.length) (hl : l.length ≤ n) (hn : n < 2 ^ 20) : nI n ≤ nI (ads l).length ↔ nI (ads l').length = nI n := by
  rw [ads_len, ads_len, h]
  rw [h] at hl
  constructor
  · intro z
    rcases Nat.lt_or_ge l'.length n with h1 | h1
    · exact absurd z (nI_ge h1 (by omega))
    · rw [Nat.le_antisymm hl h1]
  · intro z
    rw [z]
    exact nI_le (Nat.le_refl _) (by omega)
theorem full3 {α β : Type} {l : List (Nat × α)} {l' : List (Nat × β)} (h : l.length = l'.length) (hl : l.length ≤ 3) : 3 ≤ nI (ads l).length ↔ nI (ads l').length = 3 := by
  have := fullN h hl (by decide)
  exact this
theorem full10 {α β : Type} {l : List (Nat × α)} {l' : List (Nat × β)} (h : l.length = l'.length) (hl : l.length ≤ 10) : 10 ≤ nI (ads l).length ↔ nI (ads l').length = 10 := by
  have := fullN h hl (by decide)
  exact this
theorem full12 {α β : Type} {l : List (Nat × α)} {l' : List (Nat × β)} (h : l.length = l'.length) (hl : l.length ≤ 12) : 12 ≤ nI (ads l).length ↔ nI (ads l').length = 12 := by
  have := fullN h hl (by decide)
  exact this
theorem ltN {α : Type} {l : List (Nat × α)} {n : Nat} (hl : l.length ≤ n) (hn : n < 2 ^ 20) (h : ¬ nI n ≤ nI (ads l).length) : l.length < n := by
  rcases Nat.lt_or_ge l.length n with h1 | h1
  · exact h1
  · exact absurd (by rw [ads_len]; exact nI_le h1 (by omega)) h
theorem lt_3 {α : Type} {l : List (Nat × α)} (hl : l.length ≤ 3) (h : ¬ 3 ≤ nI (ads l).length) : l.length < 3 := ltN hl (by decide) h
theorem lt_10 {α : Type} {l : List (Nat × α)} (hl : l.length ≤ 10) (h : ¬ 10 ≤ nI (ads l).length) : l.length < 10 := ltN hl (by decide) h
theorem lt_12 {α : Type} {l : List (Nat × α)} (hl : l.length ≤ 12) (h : ¬ 12 ≤ nI (ads l).length) : l.length < 12 := ltN hl (by decide) h
/-- the place of what was added -/
theorem lenS {α β : Type} {l : List (Nat × α)} {l' : List (Nat × β)} {q : Nat × α} {q' : Nat × β} (h : l.length = l'.length) : nI (ads (l ++ [q])).length - 1 = nI (ads (l' ++ [q'])).length - 1 := by
  rw [ads_len, ads_len, List.length_append, List.length_append, h]
  rfl
theorem al_grow2 {α : Type} {st : Option (Nat × Nat)} {l : List (Nat × α)} {d : Nat} {q : Nat × α} (hC : alC st) (hok : alOK st (ads l)) (hl : l.length < 40) : alOK (al_n st (ads l) d) (ads (l ++ [q])) ∧ alC (al_n st (ads l) d) := by
  obtain ⟨h1, h2, -⟩ := al_grow (d := d) (x := q.1) hC hok (by rw [ads_len]; exact hl)
  have e : ads (l ++ [q]) = ads l ++ [q.1] := by unfold ads; rw [List.map_append]; rfl
  rw [e]
  exact ⟨h2, h1⟩
theorem all_snoc {α : Type} {P : α → Prop} {l : List α} {x : α} (h : ∀ q ∈ l, P q) (hx : P x) : ∀ q ∈ l ++ [x], P q := by
  intro q hq
  rcases List.mem_append.mp hq with h1 | h1
  · exact h q h1
  · cases List.mem_singleton.mp h1; exact hx
theorem all_set {α : Type} {P : α → Prop} {l : List α} {k : Nat} {x : α} (h : ∀ q ∈ l, P q) (hx : P x) : ∀ q ∈ l.set k x, P q := by
  intro q hq
  rcases mem_set hq with h1 | rfl
  · exact h q h1
  · exact hx
theorem ads_setk {α : Type} {l : List (Nat × α)} {k : Nat} {q : Nat × α} {w : α} (h : l[k]? = some q) : ads (l.set k (q.1, w)) = ads l := by
  unfold ads
  rw [List.map_set]
  refine List.ext_getElem? fun j => ?_
  rw [List.getElem?_set]
  split
  · rename_i e
    subst e
    split
    · rw [List.getElem?_map, h]; rfl
    · rw [List.getElem?_map, h]; rename_i h3
      exact absurd (by rw [List.length_map]; exact get_lt h) h3
  · rfl
theorem fiOK.more {pa px : List (Nat × List Int32)} {q : Nat × Nat × FvT} (h : fiOK pa q) : fiOK (pa ++ px) q := by
  obtain ⟨h1, j, h2⟩ := h
  exact ⟨h1, j, by rw [List.getElem?_append_left (get_lt h2)]; exact h2⟩
theorem PB.more {stA : Option (Nat × Nat)} {fl : List (Nat × Nat × FvT)} {stm : Option (Nat × Nat)} {mf : MfT} {pa px : List (Nat × List Int32)} (h : PB stA fl stm mf pa) : PB stA fl stm mf (pa ++ px) := by
  obtain ⟨h1, h2, h3, h4, h5, h6, h7⟩ := h
  exact ⟨h1, h2, h3, h4, h5, h6, fun q hq => (h7 q hq).more⟩
theorem PB.ok {stA : Option (Nat × Nat)} {fl : List (Nat × Nat × FvT)} {stm : Option (Nat × Nat)} {mf : MfT} {pa : List (Nat × List Int32)} (h : PB stA fl stm mf pa) : (∀ f ∈ vals fl, okF f) ∧ (∀ q ∈ mf, okF q.2) ∧ mf.length = fl.length := by
  obtain ⟨h1, h2, h3, h4, h5, h6, h7⟩ := h
  have a : ∀ f ∈ vals fl, okF f := by
    intro f hf
    obtain ⟨q, hq, rfl⟩ := List.mem_map.mp hf
    exact (h7 q hq).1
  refine ⟨a, fun q hq => ?_, ?_⟩
  · refine a q.2 ?_
    rw [h5]
    exact List.mem_map.mpr ⟨q, hq, rfl⟩
  · have := congrArg List.length h5
    unfold vals valm at this
    rw [List.length_map, List.length_map] at this
    exact this.symm
