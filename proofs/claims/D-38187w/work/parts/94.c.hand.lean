/-! THE MODEL's checksum -/
set_option maxRecDepth 100000
def mdt_f (ml : MtT) (d : Int64) (q : Nat × (Nat → Int32)) : Int64 × (Nat × (Nat → Int32)) := (dgl d [mt_told q.2 0, mt_told q.2 1, mt_told q.2 2, mt_told q.2 3, mt_told q.2 4, mt_told q.2 5, mt_told q.2 6, mt_told q.2 7, mt_told q.2 8, mt_told q.2 9, mt_told q.2 10, mt_told q.2 11, mrV ml 30 q.2], q)
def btMQ (v : Nat → Int32) (steps : Nat) (l : List FvT) : Int32 := btM (v 0).toNatClampNeg (v 1).toNatClampNeg steps (loF v) l 40 1 (-1) 1
theorem btMQ_eq {v : Nat → Int32} {ln sz steps : Nat} {lf : Lf} {l : List FvT} (h : loN v ln sz lf) : btMQ v steps l = btM ln sz steps lf l 40 1 (-1) 1 := by
  obtain ⟨h1, h2, h3⟩ := loN_eq h
  unfold btMQ
  rw [h1, h2, h3]
def mdl_f (l0 : List FvT) (d : Int64) (q : Nat × Nat × Nat × (Nat → Int32)) : Int64 × (Nat × Nat × Nat × (Nat → Int32)) := (if q.2.2.2 9 = 1 then dgA (dlL d q.2.2.2) (btMQ q.2.2.2 8 l0).toInt64 else dlL d q.2.2.2, q)
def mdk_f (d : Int64) (q : Nat × Nat × (Nat → Int32)) : Int64 × (Nat × Nat × (Nat → Int32)) := (dgl d [ms_told q.2.2 0, ms_told q.2.2 1, ms_told q.2.2 2, ms_told q.2.2 3, ms_told q.2.2 4, ms_told q.2.2 5, ms_told q.2.2 6, ms_told q.2.2 7, ms_told q.2.2 8, ms_told q.2.2 9], q)
def dgM (np nl ns : Nat) (sc : Nat → Int32) (mp : MpT) (ml mt : MtT) (mo : MoT) (l0 l1 : List FvT) (ms : List (Nat × Nat × (Nat → Int32))) : Int64 :=
  (mapA mdk_f (dgB (mapA (mdl_f l0) (mapA (mdt_f ml) (mapA dn_f (mapA dp_f (dgl 5415 [cn_all np nl ns sc (cn_tr mt) 0, cn_all np nl ns sc (cn_tr mt) 1, cn_all np nl ns sc (cn_tr mt) 2, cn_all np nl ns sc (cn_tr mt) 3, cn_all np nl ns sc (cn_tr mt) 4, cn_all np nl ns sc (cn_tr mt) 5, cn_all np nl ns sc (cn_tr mt) 6, cn_all np nl ns sc (cn_tr mt) 7, cn_all np nl ns sc (cn_tr mt) 8, cn_all np nl ns sc (cn_tr mt) 9, cn_all np nl ns sc (cn_tr mt) 10, cn_all np nl ns sc (cn_tr mt) 11]) mp).1 ml).1 mt).1 mo).1 l0 l1) ms).1
