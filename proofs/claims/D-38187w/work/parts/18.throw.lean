/-! EXCEPTIONS thrown: 'throw new E()' over the worlds -/
set_option maxRecDepth 100000
section XE
variable {p : Program} {l : Launch} {e : Env} {R : Room} {s : State} {m : MethodId} {args : Array Value} {below : List Frame} {meth : Method} {c : Code} {H : Heap} {locs : List Loc} {cells slots : Nat} {Q : State → Prop}
variable {cc : ByteArray} {nL pc : Nat} {ls : Array Slot} {rest st0 : List Value} {D : va_G} {dT g : Nat → Nat} {z0 : Nat} {A : Nat → Prop} {LL LL' : List va_W} {H0 : Heap} {own : String} {a : Nat}
theorem xr_word (hts : ∀ w ∈ lw_all, w.before args s = true) (hK : KK D dT g z0 s H0) {L : List Cond} {ps : List Nat} (h : L = ps.filterMap (fun i => lw_tbl[i]?)) (hg : L.all (fun w => goodWord w || nwK w) = true) : ∀ w ∈ L, w.before args s = true ∧ vx_ot w = true := by
  intro w hw
  have h1 := List.all_eq_true.mp hg w hw
  have h2 : w ∈ lw_tbl := by
    rw [h] at hw
    obtain ⟨i, -, hi⟩ := List.mem_filterMap.mp hw
    exact List.mem_of_getElem? hi
  rcases (Bool.or_eq_true _ _).mp h1 with h3 | h3
  · exact ⟨hts _ (List.mem_filter.mpr ⟨h2, h3⟩), by unfold vx_ot; rw [h3, Bool.or_true]⟩
  · exact ⟨va_Nw.use (nwK_tabs h3) (hK.nw h2 h3), by unfold vx_ot; rw [nwK_tabs h3, Bool.true_or]⟩
theorem xr_throw0 {cls : String} {names : List String} {ik ic mc ms : Nat} {ps : List Nat} {post : Option Value → List va_W → Prop} {px : String → List va_W → Prop} (hf : CallFix p m c cc nL s args lw_all own) (hst : l.stackTraces = false) (hlocks : meth.locks = false) (hno : ∀ x ∈ c.exceptionTable.toList, False) (hK : KK D dT g z0 s s.heap) (hAz : ∀ q, A q → zA z0 q) (hw : Wd D A s.heap H locs LL) (hl : ls.size = nL) (hcls : Bundle.fit cls = true) (hnames : ∀ n ∈ names, Bundle.fit n = true) (qk : Cond.classLink own ik cls ∈ lw_all) (qi : Cond.initialized cls ∈ lw_all) (hat : vx_at0 own ic cls names = ps.filterMap (fun i => lw_tbl[i]?)) (hatg : (vx_at0 own ic cls names).all (fun w => goodWord w || nwK w) = true) (d0 : decode cc pc = .ok (.new ik, 3)) (d3 : decode cc (pc + 3) = .ok (.dup, 1)) (d4 : decode cc (pc + 4) = .ok (.invokespecial ic, 3)) (d7 : decode cc (pc + 7) = .ok (.athrow, 1)) (hRf : names.length + 3 < R.frames) (hRl : (rest.map fun v => v.category).sum + (13 * (names.length + 1) + 42) ≤ R.locals) (hRc : cells + 1 ≤ R.cells) (hRs : slots + 6 ≤ R.slots) (hp : px cls LL) (hc : cells + 1 ≤ mc) (hs : slots + 6 ≤ ms) : W p l e R s m args below meth c H locs cells slots (vx_MQ below (cQ D A post) (cX D A px) args s mc ms A) (F0 m pc ls rest) := by
  have hall := xr_word hf.2.2.2.2 hK hat hatg
  have good : ∀ {w : Cond}, w ∈ lw_all → vx_ot w = true := fun h => by unfold vx_ot; rw [(List.mem_filter.mp h).2, Bool.or_true]
  refine vx_throw0 hf.1 hf.2.1 hst hf.2.2.2.1 hcls hnames (hf.2.2.2.2 _ qk) (hf.2.2.2.2 _ qi) (fun w h => (hall w h).1) ?_ (vx_Zq.narrow hK.2.2.2.2.2.2.2.1.1 hAz) (vx_Zq.narrow hK.2.2.2.2.2.2.2.1.2 hAz) hw.2 (hl.trans hf.2.2.1.symm) d0 d3 d4 d7 (fun x hx => (hno x hx).elim) hRf hRl hRc hRs hlocks ?_ hw.2.2.2 hc hs
  · intro w h
    rcases List.mem_cons.mp h with h | h
    · rw [h]; exact good qk
    rcases List.mem_cons.mp h with h | h
    · rw [h]; exact good qi
    · exact (hall w h).2
  · intro t hvm hz hk
    refine ⟨⟨LL, hp, hw.1.1.kept (fun k q hq => hk q.1 ((hw.1.1 k q hq).lt)), hw.1.2⟩, ?_⟩
    exact ⟨Nat.le_trans hw.2.1 hz, fun q h1 h2 => (hk q (Nat.lt_of_lt_of_le h1 hw.2.1)).trans (hw.2.2.1 q h1 h2)⟩
end XE
theorem hat_require : vx_at0 "SilkRow" 3 "java/lang/IllegalArgumentException" ["java/lang/RuntimeException", "java/lang/Exception"] = [58, 690, 699, 704, 707, 709, 691, 692, 83, 84, 693, 698, 705, 722, 680, 723, 682, 724, 684, 694, 696, 686, 711, 712, 713, 714, 671, 714, 715, 716, 717, 673, 717, 718, 719, 691, 675, 710, 669, 670, 677, 678, 679, 681, 683, 685, 720, 688, 687].filterMap (fun i => lw_tbl[i]?) := by decide +kernel
theorem hatg_require : (vx_at0 "SilkRow" 3 "java/lang/IllegalArgumentException" ["java/lang/RuntimeException", "java/lang/Exception"]).all (fun w => goodWord w || nwK w) = true := by decide +kernel
theorem hat_requireState : vx_at0 "SilkRow" 9 "java/lang/IllegalStateException" ["java/lang/RuntimeException", "java/lang/Exception"] = [58, 690, 699, 704, 707, 709, 691, 692, 83, 84, 693, 698, 705, 722, 680, 723, 682, 724, 684, 694, 696, 686, 746, 747, 748, 714, 671, 714, 715, 716, 717, 673, 717, 718, 719, 691, 675, 745, 737, 738, 739, 702, 740, 741, 742, 743, 720, 688, 744].filterMap (fun i => lw_tbl[i]?) := by decide +kernel
theorem hatg_requireState : (vx_at0 "SilkRow" 9 "java/lang/IllegalStateException" ["java/lang/RuntimeException", "java/lang/Exception"]).all (fun w => goodWord w || nwK w) = true := by decide +kernel
theorem hat_requireIndex : vx_at0 "SilkRow" 12 "java/lang/IndexOutOfBoundsException" ["java/lang/RuntimeException", "java/lang/Exception"] = [58, 690, 699, 704, 707, 709, 691, 692, 83, 84, 693, 698, 705, 722, 680, 723, 682, 724, 684, 694, 696, 686, 858, 859, 860, 714, 671, 714, 715, 716, 717, 673, 717, 718, 719, 691, 675, 857, 849, 850, 851, 703, 852, 853, 854, 855, 720, 688, 856].filterMap (fun i => lw_tbl[i]?) := by decide +kernel
theorem hatg_requireIndex : (vx_at0 "SilkRow" 12 "java/lang/IndexOutOfBoundsException" ["java/lang/RuntimeException", "java/lang/Exception"]).all (fun w => goodWord w || nwK w) = true := by decide +kernel
