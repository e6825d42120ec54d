/-! BOTH SIDES' STATE: what holds of it between the calls -/
set_option maxRecDepth 100000
def scS (a b : Row) : Prop := ∀ i, i < 7 → a i = b i
/-- a line -/
def lnI (v : Row) : Prop := ∃ sz T : Nat, v 0 = nI sz ∧ 2 ≤ sz ∧ sz ≤ 6 ∧ v 2 = nI T ∧ T ≤ 10
/-- a lot: its line, its size, its cocoons, what is left of them -/
def loI (v : Row) : Prop := ∃ (ln sz g d s : Nat) (lf : Lf), loN v ln sz lf ∧ v 3 = nI g ∧ v 4 = nI d ∧ v 5 = nI s ∧ lfLe lf (g, d, s) ∧ g + 2 * d + 2 * s ≤ 200
theorem loI.ok {v : Row} (h : loI v) : loOK v := by
  obtain ⟨ln, sz, g, d, s, lf, h1, -⟩ := h
  exact ⟨ln, sz, lf, h1⟩
def P0 (st0 : Option (Nat × Nat)) (pl : PlT) (stp : Option (Nat × Nat)) (mp : MpT) : Prop := alOK st0 (ads pl) ∧ alC st0 ∧ alOK stp (ads mp) ∧ alC stp ∧ row2 pl = row2 mp ∧ pl.length ≤ 3 ∧ ∀ q ∈ pl, plN q.2.2
def P1 (st1 : Option (Nat × Nat)) (ln : TrT) (ml : MtT) : Prop := alOK st1 (ads ln) ∧ ln.length = 4 ∧ rows ln = rows ml ∧ ∀ q ∈ ln, lnI q.2
def P2 (st2 : Option (Nat × Nat)) (tr : TrT) (mt : MtT) : Prop := alOK st2 (ads tr) ∧ tr.length = 6 ∧ rows tr = rows mt ∧ ∀ q ∈ tr, trI q.2
def P3 (st3 : Option (Nat × Nat)) (lo : LoT) (sto : Option (Nat × Nat)) (mo : MoT) : Prop := alOK st3 (ads lo) ∧ alC st3 ∧ alOK sto (ads mo) ∧ alC sto ∧ row3 lo = row3 mo ∧ lo.length ≤ 10 ∧ ∀ q ∈ lo, loI q.2.2.2
def PB (stA : Option (Nat × Nat)) (fl : List (Nat × Nat × FvT)) (stm : Option (Nat × Nat)) (mf : MfT) (pa : List (Nat × List Int32)) : Prop := alOK stA (ads fl) ∧ alC stA ∧ alOK stm (ads mf) ∧ alC stm ∧ vals fl = valm mf ∧ fl.length ≤ 40 ∧ ∀ q ∈ fl, fiOK pa q
def P5 (st5 : Option (Nat × Nat)) (sk : PlT) (sts : Option (Nat × Nat)) (ms : MpT) : Prop := alOK st5 (ads sk) ∧ alC st5 ∧ alOK sts (ads ms) ∧ alC sts ∧ row2 sk = row2 ms ∧ sk.length ≤ 12
def PR (sc scm : Row) (rt rl : List Row) (nP nF nB nM nS nO : Nat) : Prop := scS sc scm ∧ ∃ F, sc 2 = nI F ∧ RM F rt rl nP nF nB nM nS nO
/-! ## elements, on both sides -/
theorem map_get {α β γ : Type} {f : α → γ} {f' : β → γ} {l : List α} {l' : List β} (h : l.map f = l'.map f') {k : Nat} {q : α} (hq : l[k]? = some q) : ∃ q', l'[k]? = some q' ∧ f' q' = f q := by
  have e := congrArg (fun z => z[k]?) h
  rw [List.getElem?_map, List.getElem?_map, hq] at e
  cases h2 : l'[k]? with
  | none => rw [h2] at e; cases e
  | some q' => rw [h2] at e; exact ⟨q', rfl, (Option.some.inj e).symm⟩
theorem map_len {α β γ : Type} {f : α → γ} {f' : β → γ} {l : List α} {l' : List β} (h : l.map f = l'.map f') : l.length = l'.length := by
  have := congrArg List.length h
  rwa [List.length_map, List.length_map] at this
theorem map_same {α β γ : Type} {f : α → γ} {f' : β → γ} {l : List α} {l' : List β} (h : l.map f = l'.map f') {k k' : Nat} {q : α} {q' : β} (hk : k = k') (hq : l[k]? = some q) (hq' : l'[k']? = some q') : f q = f' q' := by
  subst hk
  obtain ⟨z, h1, h2⟩ := map_get h hq
  cases h1.symm.trans hq'
  exact h2.symm
theorem map_set {α β γ : Type} {f : α → γ} {f' : β → γ} {l : List α} {l' : List β} (h : l.map f = l'.map f') {k k' : Nat} {q : α} {q' : β} (hk : k = k') (hq : f q = f' q') : (l.set k q).map f = (l'.set k' q').map f' := by
  subst hk
  rw [List.map_set, List.map_set, h, hq]
theorem map_snoc {α β γ : Type} {f : α → γ} {f' : β → γ} {l : List α} {l' : List β} (h : l.map f = l'.map f') {q : α} {q' : β} (hq : f q = f' q') : (l ++ [q]).map f = (l' ++ [q']).map f' := by
  rw [List.map_append, List.map_append, h, List.map_cons, List.map_cons, List.map_nil, List.map_nil, hq]
theorem get_lt {α : Type} {l : List α} {k : Nat} {q : α} (h : l[k]? = some q) : k < l.length := (List.getElem?_eq_some_iff.mp h).1
theorem nI_inj {i : Int32} {k k' n : Nat} (h : i = nI k) (h' : i = nI k') (hk : k < n) (hk' : k' < n) (hn : n ≤ 4096) : k = k' := (nI_eq (by omega) (by omega)).mp (h.symm.trans h')
theorem ads_l {α : Type} {l : List (Nat × α)} : (ads l).length = l.length := ads_len l
theorem rng_eq {α β : Type} {l : List (Nat × α)} {l' : List (Nat × β)} {i : Int32} (h : l.length = l'.length) : (i < 0 ∨ ¬ i < nI (ads l).length) ↔ (i < 0 ∨ ¬ i < nI (ads l').length) := by rw [ads_len, ads_len, h]
theorem rng6 {α : Type} {l : List (Nat × α)} {i : Int32} (h : l.length = 6) : (i < 0 ∨ ¬ i < nI (ads l).length) ↔ (i < 0 ∨ 5 < i) := by
  rw [ads_len, h, rngM (by decide)]
  rfl
theorem rng4 {α : Type} {l : List (Nat × α)} {i : Int32} (h : l.length = 4) : (i < 0 ∨ ¬ i < nI (ads l).length) ↔ (i < 0 ∨ 3 < i) := by
  rw [ads_len, h, rngM (by decide)]
  rfl
theorem rngB {j : Int32} : (j < 0 ∨ ¬ j < 2) ↔ (j < 0 ∨ 1 < j) := by
  have := rngM (i := j) (n := 2) (by decide)
  exact this
/-- there is one with P, or there is one with P' on the other side -/
theorem exR {α β γ : Type} {f : α → γ} {f' : β → γ} {l : List α} {l' : List β} {i : Int32} {P P' : γ → Prop} (h : l.map f = l'.map f') (hP : ∀ q ∈ l, P (f q) ↔ P' (f q)) : (∃ k q, l[k]? = some q ∧ i = nI k ∧ P (f q)) ↔ (∃ k q, l'[k]? = some q ∧ i = nI k ∧ P' (f' q)) := by
  constructor
  · rintro ⟨k, q, h1, h2, h3⟩
    obtain ⟨q', g1, g2⟩ := map_get h h1
    exact ⟨k, q', g1, h2, by rw [g2]; exact (hP q (List.mem_of_getElem? h1)).mp h3⟩
  · rintro ⟨k, q', h1, h2, h3⟩
    obtain ⟨q, g1, g2⟩ := map_get h.symm h1
    exact ⟨k, q, g1, h2, (hP q (List.mem_of_getElem? g1)).mpr (by rw [g2]; exact h3)⟩
theorem noEx {α : Type} {l : List α} {i : Int32} {k0 : Nat} {q0 : α} {P : α → Prop} (hl : l.length ≤ 4096) (h : l[k0]? = some q0) (hi : i = nI k0) (hb : ¬ P q0) : ¬ ∃ k q, l[k]? = some q ∧ i = nI k ∧ P q := by
  rintro ⟨k, q, h1, h2, h3⟩
  have e := nI_inj hi h2 (get_lt h) (get_lt h1) hl
  subst e
  cases h.symm.trans h1
  exact hb h3
theorem noEx2 {α : Type} {l : List α} {i j : Int32} {k0 k2 : Nat} {q0 q2 : α} {P : α → α → Prop} (hl : l.length ≤ 4096) (h : l[k0]? = some q0) (hi : i = nI k0) (h2 : l[k2]? = some q2) (hj : j = nI k2) (hb : ¬ P q0 q2) : ¬ ∃ k q k2 q2, l[k]? = some q ∧ i = nI k ∧ l[k2]? = some q2 ∧ j = nI k2 ∧ P q q2 := by
  rintro ⟨k, q, k', q', a1, a2, a3, a4, a5⟩
  have e := nI_inj hi a2 (get_lt h) (get_lt a1) hl
  have e2 := nI_inj hj a4 (get_lt h2) (get_lt a3) hl
  subst e; subst e2
  cases h.symm.trans a1
  cases h2.symm.trans a3
  exact hb a5
theorem exR2 {α β γ : Type} {f : α → γ} {f' : β → γ} {l : List α} {l' : List β} {i j : Int32} {P P' : γ → γ → Prop} (h : l.map f = l'.map f') (hP : ∀ q ∈ l, ∀ q2 ∈ l, P (f q) (f q2) ↔ P' (f q) (f q2)) : (∃ k q k2 q2, l[k]? = some q ∧ i = nI k ∧ l[k2]? = some q2 ∧ j = nI k2 ∧ P (f q) (f q2)) ↔ (∃ k q k2 q2, l'[k]? = some q ∧ i = nI k ∧ l'[k2]? = some q2 ∧ j = nI k2 ∧ P' (f' q) (f' q2)) := by
  constructor
  · rintro ⟨k, q, k2, q2, a1, a2, a3, a4, a5⟩
    obtain ⟨q', g1, g2⟩ := map_get h a1
    obtain ⟨q2', g3, g4⟩ := map_get h a3
    exact ⟨k, q', k2, q2', g1, a2, g3, a4, by rw [g2, g4]; exact (hP q (List.mem_of_getElem? a1) q2 (List.mem_of_getElem? a3)).mp a5⟩
  · rintro ⟨k, q', k2, q2', a1, a2, a3, a4, a5⟩
    obtain ⟨q, g1, g2⟩ := map_get h.symm a1
    obtain ⟨q2, g3, g4⟩ := map_get h.symm a3
    exact ⟨k, q, k2, q2, g1, a2, g3, a4, (hP q (List.mem_of_getElem? g1) q2 (List.mem_of_getElem? g3)).mpr (by rw [g2, g4]; exact a5)⟩
/-- in range: not refused -/
theorem rng_in {α : Type} {l : List (Nat × α)} {i : Int32} {k : Nat} {q : Nat × α} (h : l[k]? = some q) (hi : i = nI k) (hl : l.length ≤ 4095) : ¬ (i < 0 ∨ ¬ i < nI (ads l).length) := rng_no ⟨h, hi⟩ (by rw [ads_len]; omega)
/-! ## what a tray's row says of its worms -/
theorem trI_0 {v : Row} (h : trI v) : (v 0 ≤ 0 ↔ v 0 = 0) ∧ (0 < v 0 ↔ ¬ v 0 = 0) ∧ (0 < v 5 ↔ ¬ v 5 = 0) := by
  rcases h with rfl | ⟨W, S, I, E, M, G, t, -⟩
  · decide +kernel
  · obtain ⟨h0, h1, h3, h4, h5, h8, b1, b2, b3, b4, b5, b6, b7, b8, b9, b10⟩ := t
    rw [h0, h5]
    refine ⟨⟨fun z => absurd z (nI_nle (by omega) (by omega)), fun z => absurd z (nI_ne0 (by omega) (by omega))⟩, ⟨fun _ => nI_ne0 (by omega) (by omega), fun _ => ?_⟩, ?_⟩
    · rw [← nI_0]; exact nI_lt (by omega) (by omega)
    · constructor
      · intro z hz
        rw [hz] at z
        exact Int32.lt_irrefl z
      · intro z
        have : M ≠ 0 := fun hM => z (by rw [hM, nI_0])
        rw [← nI_0]; exact nI_lt (by omega) (by omega)
theorem trI_live {v : Row} (h : trI v) (h0 : ¬ v 0 = 0) : ∃ W S I E M G, trL v W S I E M G ∧ ∃ k, k < 4 ∧ v 2 = nI k := by
  rcases h with rfl | h
  · exact absurd new0 h0
  · exact h
theorem trI_dead {v : Row} (h : trI v) (h0 : v 0 = 0) : v = tr_new := by
  rcases h with h | ⟨W, S, I, E, M, G, t, -⟩
  · exact h
  · exact absurd h0 (lv_pos t).2
/-- food in numbers -/
theorem RM_Fb {F nP nF nB nM nS nO : Nat} {rt rl : List Row} (h : RM F rt rl nP nF nB nM nS nO) (hO : nO ≤ 64) : F ≤ 19200 ∧ (∀ v ∈ rt, tF v ≤ 76800) ∧ ∀ v ∈ rl, 55 * lWt v ≤ 1200 * nO := by
  obtain ⟨a1, -⟩ := h
  refine ⟨by omega, fun v hv => ?_, fun v hv => ?_⟩
  · have := sumB_mem (f := tF) hv; omega
  · have := sumB_mem (f := lWt) hv; omega
