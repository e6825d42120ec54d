/-! segments packed, unpacked -/
section WP
variable {D : va_G} {A : Nat → Prop} {H0 H : Heap} {locs : List Loc}
theorem Wd.pack {pre rst : List va_W} (h : Wd D A H0 H locs (pre ++ rst)) : Wd D A H0 H locs (pre ++ [rst.flatten]) := h.eq (by
  rw [List.flatten_append, List.flatten_append, List.flatten_cons, List.flatten_nil, List.append_nil])
theorem Wd.unpack {pre rst : List va_W} (h : Wd D A H0 H locs (pre ++ [rst.flatten])) : Wd D A H0 H locs (pre ++ rst) := h.eq (by
  rw [List.flatten_append, List.flatten_append, List.flatten_cons, List.flatten_nil, List.append_nil])
end WP
