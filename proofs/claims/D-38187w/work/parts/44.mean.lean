/-! a quotient of ints is a number -/
set_option maxRecDepth 100000
theorem fq_tails : FP.Core.b64.tails = 4503599627370496 := rfl
theorem fq_exps : FP.Core.b64.exps = 2048 := rfl
theorem fq_qmin : FP.Core.b64.qmin = -1074 := by decide
theorem fq_qmax : FP.Core.b64.qmax = 971 := by decide
theorem fq_p : (2 : Nat) ^ FP.Core.b64.p = 9007199254740992 := rfl
theorem fq_asm {s : Bool} {e t : Nat} (h : (e ≤ 2046 ∧ t < 4503599627370496) ∨ (e = 2047 ∧ t = 0)) : FP.Core.assemble FP.Core.b64 s e t % 9223372036854775808 ≤ 9218868437227405312 := by
  unfold FP.Core.assemble
  rw [fq_tails, fq_exps]
  cases s
  · simp only [Bool.toNat_false]; omega
  · simp only [Bool.toNat_true]; omega
theorem fq_enc {s : Bool} {c : Nat} {q : Int} (hc : c < 9007199254740992) (hq : q ≤ 971) : FP.Core.encode FP.Core.b64 (.fin s c q) % 9223372036854775808 ≤ 9218868437227405312 := by
  unfold FP.Core.encode
  simp only [fq_tails, fq_qmin]
  split
  · exact fq_asm (Or.inl ⟨by omega, by omega⟩)
  · exact fq_asm (Or.inl ⟨by omega, by omega⟩)
theorem fq_inf {s : Bool} : FP.Core.encode FP.Core.b64 (.inf s) % 9223372036854775808 ≤ 9218868437227405312 := by
  unfold FP.Core.encode
  simp only [fq_exps]
  exact fq_asm (Or.inr ⟨rfl, rfl⟩)
theorem fq_round (s : Bool) (num den : Nat) (e : Int) : FP.Core.encode FP.Core.b64 (FP.Core.roundRatio FP.Core.b64 s num den e) % 9223372036854775808 ≤ 9218868437227405312 := by
  unfold FP.Core.roundRatio FP.Core.roundAt FP.Core.settle FP.Core.bound
  simp only [fq_p, fq_qmax, fq_tails, fq_qmin]
  split
  · exact fq_enc (by omega) (by omega)
  · split
    · split
      · exact fq_enc (by assumption) (by assumption)
      · exact fq_inf
    · split
      · exact fq_enc (by omega) (by assumption)
      · exact fq_inf
theorem fq_dec {s : Bool} {e t : Nat} (he : e ≤ 2046) (ht : t < 4503599627370496) : FP.Core.assemble FP.Core.b64 s e t < 18446744073709551616 ∧ ∃ s' c' q', FP.Core.decode FP.Core.b64 (FP.Core.assemble FP.Core.b64 s e t) = .fin s' c' q' ∧ (¬ (e = 0 ∧ t = 0) → ¬ c' = 0) := by
  have hn : ∃ b, b ≤ 1 ∧ FP.Core.assemble FP.Core.b64 s e t = (b * 2048 + e) * 4503599627370496 + t := by
    cases s
    · exact ⟨0, by decide, rfl⟩
    · exact ⟨1, by decide, rfl⟩
  obtain ⟨b, hb, hn⟩ := hn
  have hE : FP.Core.fieldE FP.Core.b64 (FP.Core.assemble FP.Core.b64 s e t) = e := by
    unfold FP.Core.fieldE; rw [hn, fq_tails, fq_exps]; omega
  have hT : FP.Core.fieldT FP.Core.b64 (FP.Core.assemble FP.Core.b64 s e t) = t := by
    unfold FP.Core.fieldT; rw [hn, fq_tails]; omega
  refine ⟨by rw [hn]; omega, ?_⟩
  unfold FP.Core.decode
  rw [hE, hT, fq_exps, if_neg (by omega)]
  by_cases h0 : e = 0
  · rw [if_pos h0]; exact ⟨_, _, _, rfl, fun h => by omega⟩
  · rw [if_neg h0, fq_tails]; exact ⟨_, _, _, rfl, fun h => by omega⟩
theorem fq_decenc {s : Bool} {c : Nat} {q : Int} (hc : c < 9007199254740992) (hq : q ≤ 971) : FP.Core.encode FP.Core.b64 (.fin s c q) < 18446744073709551616 ∧ ∃ s' c' q', FP.Core.decode FP.Core.b64 (FP.Core.encode FP.Core.b64 (.fin s c q)) = .fin s' c' q' ∧ (¬ c = 0 → ¬ c' = 0) := by
  unfold FP.Core.encode
  simp only [fq_tails, fq_qmin]
  split
  · obtain ⟨h1, s', c', q', h2, h3⟩ := fq_dec (s := s) (e := 0) (t := c) (by omega) (by omega)
    exact ⟨h1, s', c', q', h2, fun h => h3 (by omega)⟩
  · obtain ⟨h1, s', c', q', h2, h3⟩ := fq_dec (s := s) (e := (q - -1074).toNat + 1) (t := c - 4503599627370496) (by omega) (by omega)
    exact ⟨h1, s', c', q', h2, fun h => h3 (by omega)⟩
theorem fq_near1 (n : Nat) : FP.Core.nearest n 1 = n := by
  unfold FP.Core.nearest
  rw [if_pos (by omega), Nat.div_one]
theorem fq_lead {num : Nat} (h : num < 4294967296) (h0 : ¬ num = 0) : FP.Core.leading num 1 ≤ 31 := by
  have hl : num.log2 < 32 := (Nat.log2_lt h0).mpr h
  have h1 : Nat.log2 1 = 0 := by decide
  unfold FP.Core.leading
  simp only [h1]
  split <;> omega
theorem fq_int (s : Bool) {num : Nat} (h : num < 4294967296) : ∃ s' c q, FP.Core.roundRatio FP.Core.b64 s num 1 0 = .fin s' c q ∧ c < 9007199254740992 ∧ q ≤ 971 ∧ (¬ num = 0 → ¬ c = 0) := by
  unfold FP.Core.roundRatio
  by_cases h0 : num = 0
  · rw [if_pos h0]; exact ⟨_, _, _, rfl, by omega, by rw [fq_qmin]; omega, fun z => absurd h0 z⟩
  · rw [if_neg h0]
    have hl := fq_lead h h0
    have hq : FP.Core.quantum FP.Core.b64 num 1 0 ≤ 0 := by
      unfold FP.Core.quantum
      rw [fq_qmin, show ((FP.Core.b64.p : Nat) : Int) = 53 from rfl]
      omega
    generalize FP.Core.quantum FP.Core.b64 num 1 0 = q at hq
    have hd : FP.Core.unitsDen 1 0 q = 1 := by
      unfold FP.Core.unitsDen
      rw [show (q - 0).toNat = 0 by omega]
    have hu : ¬ FP.Core.unitsNum num 0 q = 0 := by
      unfold FP.Core.unitsNum
      exact Nat.mul_ne_zero h0 (Nat.ne_of_gt (Nat.two_pow_pos _))
    unfold FP.Core.roundAt
    rw [hd, fq_near1]
    generalize FP.Core.unitsNum num 0 q = c at hu
    unfold FP.Core.settle FP.Core.bound
    simp only [fq_p, fq_qmax, fq_tails]
    split
    · rw [if_pos (by omega)]; exact ⟨_, _, _, rfl, by assumption, by omega, fun _ => hu⟩
    · rw [if_pos (by omega)]; exact ⟨_, _, _, rfl, by omega, by omega, fun _ => by omega⟩
theorem fq_i2d (x : Int32) : ∃ s' c' q', FP.Core.decode FP.Core.b64 (FP.i2d x).toNat = .fin s' c' q' ∧ (¬ x = 0 → ¬ c' = 0) := by
  have h1 := x.toInt_lt
  have h2 := x.le_toInt
  obtain ⟨s1, c1, q1, e1, e2, e3, e4⟩ := fq_int (decide (x.toInt < 0)) (num := x.toInt.natAbs) (by omega)
  obtain ⟨f1, s2, c2, q2, f2, f3⟩ := fq_decenc (s := s1) e2 e3
  refine ⟨s2, c2, q2, ?_, fun h => f3 (e4 (fun z => h (Int32.toInt_inj.mp (by rw [Int32.toInt_zero]; omega))))⟩
  show FP.Core.decode FP.Core.b64 (UInt64.ofNat (FP.Core.encode FP.Core.b64 (FP.Core.round FP.Core.b64 (FP.Core.ofInt x.toInt)))).toNat = _
  have e5 : FP.Core.round FP.Core.b64 (FP.Core.ofInt x.toInt) = .fin s1 c1 q1 := e1
  rw [e5, UInt64.toNat_ofNat', Nat.mod_eq_of_lt f1, f2]
theorem dd_n64 (x : Int32) {y : Int32} (h : ¬ y = 0) : vf_n64 (FP.ddiv (FP.i2d x) (FP.i2d y)) := by
  obtain ⟨s1, c1, q1, e1, -⟩ := fq_i2d x
  obtain ⟨s2, c2, q2, f1, f2⟩ := fq_i2d y
  have hr := fq_round (s1 != s2) c1 c2 (q1 - q2)
  have hv : (FP.ddiv (FP.i2d x) (FP.i2d y)).toNat = FP.Core.encode FP.Core.b64 (FP.Core.roundRatio FP.Core.b64 (s1 != s2) c1 c2 (q1 - q2)) % 2 ^ 64 := by
    show (UInt64.ofNat (FP.Core.encode FP.Core.b64 (FP.Core.quotient FP.Core.b64 (FP.Core.decode FP.Core.b64 (FP.i2d x).toNat) (FP.Core.decode FP.Core.b64 (FP.i2d y).toNat)))).toNat = _
    rw [e1, f1]
    unfold FP.Core.quotient
    simp only [if_neg (f2 h)]
    rw [UInt64.toNat_ofNat']
  unfold vf_n64
  rw [UInt64.le_iff_toNat_le, UInt64.toNat_and, hv, show (0x7fffffffffffffff : UInt64).toNat = 2 ^ 63 - 1 by decide, Nat.and_two_pow_sub_one_eq_mod, show (0x7ff0000000000000 : UInt64).toNat = 9218868437227405312 by decide]
  omega
def mg_f (a : Int32 × Int32) (q : Nat × Nat × (Nat → Int32)) : (Int32 × Int32) × (Nat × Nat × (Nat → Int32)) := ((a.1 + (f_X12_grade q.2.2).1 * q.2.2 0, a.2 + q.2.2 0), q)
def mg_val (a : Int32 × Int32) : UInt64 := if a.2 = 0 then FP.dconst0 else FP.ddiv (FP.i2d a.1) (FP.i2d a.2)
theorem mg_same : ∀ (l : List (Nat × Nat × (Nat → Int32))) (a : Int32 × Int32), (mapA mg_f a l).2 = l
  | [], _ => rfl
  | x :: xs, a => by
    show x :: (mapA mg_f _ xs).2 = x :: xs
    rw [mg_same xs]
