/-! A TRIAL's table -/
set_option maxRecDepth 100000
theorem nI_mul (a b : Nat) : nI a * nI b = nI (a * b) := (Int32.ofNat_mul a b).symm
abbrev T2T : Type := List (Nat × List Nat)
abbrev T3T : Type := List (Nat × (Nat → Nat))
abbrev m2E (dT : Nat → Nat) (q : Nat × List Nat) : va_W := [(q.1, aR dT 6 7 (fun i => q.2[i]?))]
abbrev m3E (dT : Nat → Nat) (q : Nat × (Nat → Nat)) : va_W := [(q.1, aI dT [nI (q.2 0), nI (q.2 1), nI (q.2 2), nI (q.2 3), nI (q.2 4), nI (q.2 5)])]
/-- the arrays of the table, by their addresses -/
def tabOK (t2 : T2T) (as : List Nat) : Prop := t2.length = 3 ∧ as.length = 21 ∧ ∀ k s, k < 3 → s < 7 → ∃ g r, t2[k]? = some g ∧ g.2[s]? = some r ∧ as[7 * k + s]? = some r
def tval (t3 : T3T) (j : Nat) : Nat → Nat := match t3[j]? with
  | some q => q.2
  | none => fun _ => 0
theorem tab_at {t2 : T2T} {t3 : T3T} {k s : Nat} (h : tabOK t2 (ads t3)) (hk : k < 3) (hs : s < 7) : ∃ g q, t2[k]? = some g ∧ g.2[s]? = some q.1 ∧ t3[7 * k + s]? = some q ∧ tval t3 (7 * k + s) = q.2 := by
  obtain ⟨g, r, h1, h2, h3⟩ := h.2.2 k s hk hs
  unfold ads at h3
  rw [List.getElem?_map] at h3
  cases e : t3[7 * k + s]? with
  | none => rw [e] at h3; cases h3
  | some q =>
    rw [e] at h3
    cases h3
    exact ⟨g, q, h1, h2, rfl, by unfold tval; rw [e]⟩
theorem t3_ads {t3 : T3T} {j : Nat} {q : Nat × (Nat → Nat)} {f : Nat → Nat} (h : t3[j]? = some q) : ads (t3.set j (q.1, f)) = ads t3 := by
  unfold ads
  rw [List.map_set]
  refine List.ext_getElem? fun i => ?_
  rw [List.getElem?_set, List.getElem?_map]
  split
  · rename_i e; subst e
    rw [h]
    split
    · rfl
    · rename_i hl
      rw [List.length_map] at hl
      rw [List.getElem?_eq_none (by omega)] at h
      cases h
  · rfl
theorem t3_val {t3 : T3T} {j : Nat} {q : Nat × (Nat → Nat)} {f : Nat → Nat} (h : t3[j]? = some q) (i : Nat) : tval (t3.set j (q.1, f)) i = if j = i then f else tval t3 i := by
  have hl : j < t3.length := by
    rcases Nat.lt_or_ge j t3.length with z | z
    · exact z
    · rw [List.getElem?_eq_none z] at h; cases h
  unfold tval
  rw [List.getElem?_set]
  by_cases e : j = i
  · subst e
    have e1 : (if j = j then if j < t3.length then some (q.1, f) else none else t3[j]?) = some (q.1, f) := by rw [if_pos rfl, if_pos hl]
    rw [e1, if_pos rfl]
  · rw [if_neg e, if_neg e]
def vecN (l : List Nat) : Nat → Nat := fun i => l.getD i 0
theorem row6 {f : Nat → Nat} {a : Nat} (h : a < 6) : ([nI (f 0), nI (f 1), nI (f 2), nI (f 3), nI (f 4), nI (f 5)] : List Int32).getD a 0 = nI (f a) := by
  rcases a_cases h with rfl | rfl | rfl | rfl | rfl | rfl <;> rfl
def inc6 (f : Nat → Nat) (a : Nat) : Nat → Nat := fun i => if i = a then f a + 1 else f i
theorem set6 {f : Nat → Nat} {a : Nat} (h : a < 6) : ([nI (f 0), nI (f 1), nI (f 2), nI (f 3), nI (f 4), nI (f 5)] : List Int32).set a (nI (f a + 1)) = [nI (inc6 f a 0), nI (inc6 f a 1), nI (inc6 f a 2), nI (inc6 f a 3), nI (inc6 f a 4), nI (inc6 f a 5)] := by
  rcases a_cases h with rfl | rfl | rfl | rfl | rfl | rfl <;> rfl
/-- how many filaments of a kind, a size, at a place -/
def cnt : List FvT → Nat → Nat → Nat → Nat
  | [], _, _, _ => 0
  | f :: l, k, s, a => (if f.2.2.2 = k ∧ f.2.2.1 = s ∧ f.2.1 = a then 1 else 0) + cnt l k s a
theorem cnt_app {l l2 : List FvT} {k s a : Nat} : cnt (l ++ l2) k s a = cnt l k s a + cnt l2 k s a := by
  induction l with
  | nil => exact (Nat.zero_add _).symm
  | cons f l ih =>
    show (if f.2.2.2 = k ∧ f.2.2.1 = s ∧ f.2.1 = a then 1 else 0) + cnt (l ++ l2) k s a = (if f.2.2.2 = k ∧ f.2.2.1 = s ∧ f.2.1 = a then 1 else 0) + cnt l k s a + cnt l2 k s a
    rw [ih, Nat.add_assoc]
/-- the table tells of the filaments -/
def Tab (V : Nat → Nat → Nat) (l : List FvT) : Prop := ∀ k s a, k < 3 → s < 7 → a < (pcs k s).length → V (7 * k + s) a = cnt l k s a
theorem cnt_1 {f : FvT} {k s a : Nat} : cnt [f] k s a = if f.2.2.2 = k ∧ f.2.2.1 = s ∧ f.2.1 = a then 1 else 0 := Nat.add_zero _
theorem j_inj {k s k2 s2 : Nat} (hs : s < 7) (hs2 : s2 < 7) (h : 7 * k + s = 7 * k2 + s2) : k = k2 ∧ s = s2 := by omega
theorem Tab_add {t3 : T3T} {l : List FvT} {f : FvT} {q : Nat × (Nat → Nat)} (hT : Tab (tval t3) l) (hok : okF f) (hq : t3[7 * f.2.2.2 + f.2.2.1]? = some q) : Tab (tval (t3.set (7 * f.2.2.2 + f.2.2.1) (q.1, inc6 q.2 f.2.1))) (l ++ [f]) := by
  obtain ⟨h1, h2, h3, h4, h5⟩ := hok
  intro k s a hk hs ha
  rw [t3_val hq, cnt_app, cnt_1, ← hT k s a hk hs ha]
  by_cases e : 7 * f.2.2.2 + f.2.2.1 = 7 * k + s
  · obtain ⟨e1, e2⟩ := j_inj (by omega) hs e
    rw [if_pos e]
    have hv : tval t3 (7 * k + s) = q.2 := by unfold tval; rw [← e, hq]
    rw [hv]
    unfold inc6
    by_cases ea : a = f.2.1
    · rw [if_pos ea, if_pos ⟨e1, e2, ea.symm⟩, ea]
    · rw [if_neg ea, if_neg (fun z => ea z.2.2.symm)]; rfl
  · rw [if_neg e, if_neg (fun z => e (by rw [z.1, z.2.1]))]; rfl
/-- what goes on -/
def sh6 (f : Nat → Nat) : Nat → Nat
  | 0 => 0
  | a + 1 => f a
def goJ (V0 : Nat → Nat → Nat) (as : List Nat) (j : Nat) (t3 : T3T) : Prop := ads t3 = as ∧ ∀ i a, i < 21 → a < 6 → tval t3 i a = if i < j then sh6 (V0 i) a else V0 i a
theorem goJ_0 {t3 : T3T} : goJ (tval t3) (ads t3) 0 t3 := ⟨rfl, fun i a _ _ => by rw [if_neg (Nat.not_lt_zero _)]⟩
theorem goJ_S {V0 : Nat → Nat → Nat} {as : List Nat} {j : Nat} {t3 : T3T} {q : Nat × (Nat → Nat)} (h : goJ V0 as j t3) (hq : t3[j]? = some q) : goJ V0 as (j + 1) (t3.set j (q.1, vecN [0, q.2 0, q.2 1, q.2 2, q.2 3, q.2 4])) := by
  refine ⟨(t3_ads hq).trans h.1, fun i a hi ha => ?_⟩
  rw [t3_val hq]
  by_cases e : j = i
  · subst e
    rw [if_pos rfl, if_pos (by omega)]
    have hv : ∀ x, x < 6 → q.2 x = V0 j x := fun x hx => by
      have h2 := h.2 j x hi hx
      rw [if_neg (Nat.lt_irrefl _)] at h2
      rw [← h2]; unfold tval; rw [hq]
    rcases a_cases ha with rfl | rfl | rfl | rfl | rfl | rfl <;> first | rfl | exact hv _ (by omega)
  · rw [if_neg e, h.2 i a hi ha]
    by_cases e2 : i < j
    · rw [if_pos e2, if_pos (by omega)]
    · rw [if_neg e2, if_neg (by omega)]
theorem goV_cnt {f : FvT} {k s a : Nat} (ha : a < (pcs k s).length) : cnt (goL [f]) k s a = match a with
    | 0 => 0
    | b + 1 => cnt [f] k s b := by
  by_cases e : f.2.1 + 1 = (pcs f.2.2.2 f.2.2.1).length
  · rw [goL_gone e]
    cases a with
    | zero => rfl
    | succ b =>
      show 0 = cnt [f] k s b
      rw [cnt_1, if_neg]
      rintro ⟨rfl, rfl, rfl⟩
      omega
  · rw [goL_on e]
    show cnt [(f.1, f.2.1 + 1, f.2.2.1, f.2.2.2)] k s a = _
    rw [cnt_1]
    cases a with
    | zero => exact if_neg (fun z => by have := z.2.2; dsimp only at this; omega)
    | succ b =>
      show _ = cnt [f] k s b
      rw [cnt_1]
      by_cases h : f.2.2.2 = k ∧ f.2.2.1 = s ∧ f.2.1 = b
      · rw [if_pos h, if_pos ⟨h.1, h.2.1, by rw [h.2.2]⟩]
      · rw [if_neg h, if_neg (fun z => h ⟨z.1, z.2.1, by have := z.2.2; dsimp only at this; omega⟩)]
theorem goL_app (l l2 : List FvT) : goL (l ++ l2) = goL l ++ goL l2 := List.filterMap_append
theorem goL_cnt {l : List FvT} {k s a : Nat} (ha : a < (pcs k s).length) : cnt (goL l) k s a = match a with
    | 0 => 0
    | b + 1 => cnt l k s b := by
  induction l with
  | nil => cases a <;> rfl
  | cons f l ih =>
    rw [show f :: l = [f] ++ l from rfl, goL_app, cnt_app, ih, goV_cnt ha]
    cases a with
    | zero => rfl
    | succ b => exact (cnt_app (l := [f]) (l2 := l)).symm
theorem Tab_go {V0 : Nat → Nat → Nat} {as : List Nat} {t3 : T3T} {l : List FvT} (hT : Tab V0 l) (h : goJ V0 as 21 t3) : Tab (tval t3) (goL l) := by
  intro k s a hk hs ha
  have hl := @pcs_len k s
  rw [h.2 (7 * k + s) a (by omega) (by omega), if_pos (by omega), goL_cnt ha]
  cases a with
  | zero => rfl
  | succ b => exact hT k s b hk hs (by omega)
/-- the table made void -/
def zJ (as : List Nat) (j : Nat) (t3 : T3T) : Prop := ads t3 = as ∧ ∀ i a, i < j → a < 6 → tval t3 i a = 0
theorem zJ_0 {t3 : T3T} : zJ (ads t3) 0 t3 := ⟨rfl, fun _ _ h => absurd h (Nat.not_lt_zero _)⟩
theorem zJ_S {as : List Nat} {j : Nat} {t3 : T3T} {q : Nat × (Nat → Nat)} (h : zJ as j t3) (hq : t3[j]? = some q) : zJ as (j + 1) (t3.set j (q.1, vecN [0, 0, 0, 0, 0, 0])) := by
  refine ⟨(t3_ads hq).trans h.1, fun i a hi ha => ?_⟩
  rw [t3_val hq]
  by_cases e : j = i
  · rw [if_pos e]
    rcases a_cases ha with rfl | rfl | rfl | rfl | rfl | rfl <;> rfl
  · rw [if_neg e]
    exact h.2 i a (by omega) ha
theorem zJ_Tab {as : List Nat} {t3 : T3T} (h : zJ as 21 t3) : Tab (tval t3) [] := by
  intro k s a hk hs ha
  have hl := @pcs_len k s
  exact h.2 _ _ (by omega) (by omega)
/-! the sum by the table -/
def sA (f p : Nat → Nat) : Nat → Nat → Nat
  | 0, _ => 0
  | n + 1, a => f a * p a + sA f p n (a + 1)
def sS (V : Nat → Nat → Nat) (k : Nat) : Nat → Nat → Nat
  | 0, _ => 0
  | n + 1, s => sA (V (7 * k + s)) (fun a => (pcs k s).getD a 0) 5 0 + sS V k n (s + 1)
def sK (V : Nat → Nat → Nat) : Nat → Nat → Nat
  | 0, _ => 0
  | n + 1, k => sS V k 5 2 + sK V n (k + 1)
theorem sA_eq {f g p : Nat → Nat} : ∀ (n a : Nat), (∀ x, a ≤ x → x < a + n → f x * p x = g x * p x) → sA f p n a = sA g p n a
  | 0, _, _ => rfl
  | n + 1, a, h => by
    show f a * p a + _ = g a * p a + _
    rw [h a (Nat.le_refl _) (by omega), sA_eq n (a + 1) (fun x h1 h2 => h x (by omega) (by omega))]
theorem sA_add {f g p : Nat → Nat} : ∀ (n a : Nat), sA (fun x => f x + g x) p n a = sA f p n a + sA g p n a
  | 0, _ => rfl
  | n + 1, a => by
    show (f a + g a) * p a + _ = f a * p a + _ + (g a * p a + _)
    rw [sA_add n (a + 1), Nat.add_mul]; omega
theorem sA_0 {p : Nat → Nat} : ∀ (n a : Nat), sA (fun _ => 0) p n a = 0
  | 0, _ => rfl
  | n + 1, a => by
    show 0 * p a + _ = 0
    rw [sA_0 n (a + 1), Nat.zero_mul]
def cV (l : List FvT) : Nat → Nat → Nat := fun j a => cnt l (j / 7) (j % 7) a
theorem cV_at {l : List FvT} {k s : Nat} (hs : s < 7) : cV l (7 * k + s) = cnt l k s := by
  funext a
  unfold cV
  rw [show (7 * k + s) / 7 = k by omega, show (7 * k + s) % 7 = s by omega]
theorem sS_eq {V W : Nat → Nat → Nat} {k : Nat} : ∀ (n s : Nat), (∀ x, s ≤ x → x < s + n → sA (V (7 * k + x)) (fun a => (pcs k x).getD a 0) 5 0 = sA (W (7 * k + x)) (fun a => (pcs k x).getD a 0) 5 0) → sS V k n s = sS W k n s
  | 0, _, _ => rfl
  | n + 1, s, h => by
    show sA _ _ 5 0 + _ = sA _ _ 5 0 + _
    rw [h s (Nat.le_refl _) (by omega), sS_eq n (s + 1) (fun x h1 h2 => h x (by omega) (by omega))]
theorem sS_add {V W : Nat → Nat → Nat} {k : Nat} : ∀ (n s : Nat), sS (fun j a => V j a + W j a) k n s = sS V k n s + sS W k n s
  | 0, _ => rfl
  | n + 1, s => by
    show sA (fun a => V (7 * k + s) a + W (7 * k + s) a) _ 5 0 + _ = sA _ _ 5 0 + _ + (sA _ _ 5 0 + _)
    rw [sS_add n (s + 1), sA_add]; omega
theorem sS_0 {k : Nat} : ∀ (n s : Nat), sS (fun _ _ => 0) k n s = 0
  | 0, _ => rfl
  | n + 1, s => by
    show sA (fun _ => 0) _ 5 0 + _ = 0
    rw [sS_0 n (s + 1), sA_0]
theorem sK_eq {V W : Nat → Nat → Nat} : ∀ (n k : Nat), (∀ x, k ≤ x → x < k + n → sS V x 5 2 = sS W x 5 2) → sK V n k = sK W n k
  | 0, _, _ => rfl
  | n + 1, k, h => by
    show sS V k 5 2 + _ = sS W k 5 2 + _
    rw [h k (Nat.le_refl _) (by omega), sK_eq n (k + 1) (fun x h1 h2 => h x (by omega) (by omega))]
theorem sK_add {V W : Nat → Nat → Nat} : ∀ (n k : Nat), sK (fun j a => V j a + W j a) n k = sK V n k + sK W n k
  | 0, _ => rfl
  | n + 1, k => by
    show sS (fun j a => V j a + W j a) k 5 2 + _ = sS V k 5 2 + _ + (sS W k 5 2 + _)
    rw [sK_add n (k + 1), sS_add]; omega
theorem sK_0 : ∀ (n k : Nat), sK (fun _ _ => 0) n k = 0
  | 0, _ => rfl
  | n + 1, k => by
    show sS (fun _ _ => 0) k 5 2 + _ = 0
    rw [sK_0 n (k + 1), sS_0]
theorem sK_tab : ∀ k, k < 3 → ∀ s, s < 7 → ∀ a, a < 5 → 2 ≤ s → a < (pcs k s).length → sK (cV [(0, a, s, k)]) 3 0 = (pcs k s).getD a 0 := by decide +kernel
theorem sK_one {f : FvT} (h : okF f) : sK (cV [f]) 3 0 = pcv f := by
  obtain ⟨ln, a, s, k⟩ := f
  obtain ⟨h1, h2, h3, h4, h5⟩ := h
  dsimp only at h1 h2 h3 h4 h5
  have hl := @pcs_len k s
  have e : cV [(ln, a, s, k)] = cV [(0, a, s, k)] := by funext j b; rfl
  rw [e]
  exact sK_tab k (by omega) s (by omega) a (by omega) h3 h2
theorem sK_list : ∀ {l : List FvT}, (∀ f ∈ l, okF f) → sK (cV l) 3 0 = sumF l
  | [], _ => sK_0 3 0
  | f :: l, h => by
    have e : cV (f :: l) = fun j a => cV [f] j a + cV l j a := by
      funext j a
      show cnt (f :: l) _ _ _ = cnt [f] _ _ _ + cnt l _ _ _
      exact cnt_app (l := [f]) (l2 := l)
    rw [e, sK_add, sK_one (h f List.mem_cons_self), sK_list (fun x hx => h x (List.mem_cons_of_mem _ hx))]
    unfold sumF
    rw [List.map_cons, List.sum_cons]
theorem Tab_sum {V : Nat → Nat → Nat} {l : List FvT} (h : Tab V l) (hok : ∀ f ∈ l, okF f) : sK V 3 0 = sumF l := by
  rw [← sK_list hok]
  refine sK_eq 3 0 fun k _ hk => sS_eq 5 2 fun s hs1 hs2 => sA_eq 5 0 fun a _ ha => ?_
  rw [cV_at (by omega)]
  rcases Nat.lt_or_ge a (pcs k s).length with z | z
  · rw [h k s a (by omega) (by omega) z]
  · rw [List.getD_eq_getElem?_getD, List.getElem?_eq_none z]; rfl
/-! what a trial answers -/
def tl_val (v : Nat → Int32) : Int32 := if v 2 - v 1 < 4 then v 0 else 0
def tlR (ln sz T steps : Nat) (lf : Lf) (l : List FvT) : Int32 := tl_val (btS ln sz steps lf l T)
theorem skG_low {i : Nat} (h : i < 5) : ∀ {l : List FvT} {v : Nat → Int32}, skG v l i = v i
  | [], _ => rfl
  | f :: l, v => by
    show skG (skI v f.1) l i = v i
    rw [skG_low h, sk_low h]
theorem add_0 {v : Nat → Int32} {x : Int32} : f_X12_add v x 0 = v 0 + 1 := by
  unfold f_X12_add; split <;> rfl
theorem add_1z {v : Nat → Int32} {x : Int32} (h : v 0 = 0) : f_X12_add v x 1 = x := by
  unfold f_X12_add; rw [if_pos h]; rfl
theorem add_1n {v : Nat → Int32} {x : Int32} (h : ¬ v 0 = 0) : f_X12_add v x 1 = imin (v 1) x := by
  unfold f_X12_add; rw [if_neg h]; rfl
theorem add_2 {v : Nat → Int32} {x : Int32} : f_X12_add v x 2 = imax (v 2) x := by
  unfold f_X12_add; split <;> rfl
theorem goL_ok {l : List FvT} (h : ∀ f ∈ l, okF f) : ∀ f ∈ goL l, okF f := by
  intro f hf
  obtain ⟨g, hg, he⟩ := List.mem_filterMap.mp hf
  unfold goV at he
  split at he
  · cases he
  · rename_i hn
    cases he
    exact goV_ok (h g hg) hn
theorem goL_le {l : List FvT} : (goL l).length ≤ l.length := List.length_filterMap_le _ _
theorem okF_all {l : List FvT} {f : FvT} (h : ∀ x ∈ l, okF x) (h1 : okF f) : ∀ x ∈ l ++ [f], okF x := by
  intro x hx
  rcases List.mem_append.mp hx with h2 | h2
  · exact h x h2
  · cases List.mem_singleton.mp h2
    exact h1
theorem sum_z {l : List FvT} (h : ∀ f ∈ l, okF f) (h0 : sumF l = 0) : l.length = 0 := by
  have := sum_bd l h
  omega
def lf00 : Lf := (0, 0, 0)
/-- the best target, as the model has it -/
def btM (ln sz steps : Nat) (lf : Lf) (l : List FvT) : Nat → Nat → Int32 → Int32 → Int32
  | 0, _, b, _ => b
  | n + 1, T, b, g => if g ≤ tlR ln sz T steps lf l then btM ln sz steps lf l n (T + 1) (nI T) (tlR ln sz T steps lf l) else btM ln sz steps lf l n (T + 1) b g
theorem btM_1 {ln sz steps n T : Nat} {lf : Lf} {l : List FvT} {b g : Int32} (h : g ≤ tlR ln sz T steps lf l) : btM ln sz steps lf l (n + 1) T b g = btM ln sz steps lf l n (T + 1) (nI T) (tlR ln sz T steps lf l) := if_pos h
theorem btM_0 {ln sz steps n T : Nat} {lf : Lf} {l : List FvT} {b g : Int32} (h : ¬ g ≤ tlR ln sz T steps lf l) : btM ln sz steps lf l (n + 1) T b g = btM ln sz steps lf l n (T + 1) b g := if_neg h
