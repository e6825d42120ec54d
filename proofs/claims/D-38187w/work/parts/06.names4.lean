/-! SilkRowModel -/
set_option maxRecDepth 100000
def RX4 : String := "SilkRowModel"
def TX4 : u_T := fun k => match k with
  | 0 => ("SilkRowModel", "thrown", "I", false)
  | 1 => ("SilkRowModel", "plots", "Ljava/util/ArrayList;", true)
  | 2 => ("SilkRowModel", "lines", "[LSilkRowModel$Line;", true)
  | 3 => ("SilkRowModel", "trays", "[LSilkRowModel$Tray;", true)
  | 4 => ("SilkRowModel", "lots", "Ljava/util/ArrayList;", true)
  | 5 => ("SilkRowModel", "basins", "[LSilkRowModel$Basin;", true)
  | 6 => ("SilkRowModel", "skeins", "Ljava/util/ArrayList;", true)
  | 7 => ("SilkRowModel", "now", "I", false)
  | 8 => ("SilkRowModel", "wasWet", "Z", false)
  | 9 => ("SilkRowModel", "food", "I", false)
  | 10 => ("SilkRowModel", "wetFood", "I", false)
  | 11 => ("SilkRowModel", "dead", "I", false)
  | 12 => ("SilkRowModel", "money", "I", false)
  | _ => ("SilkRowModel", "debt", "I", false)
def tyX4 : Nat → FieldType := fun k => match k with
  | 0 => .int
  | 1 => .object "java/util/ArrayList"
  | 2 => .array (.object "SilkRowModel$Line")
  | 3 => .array (.object "SilkRowModel$Tray")
  | 4 => .object "java/util/ArrayList"
  | 5 => .array (.object "SilkRowModel$Basin")
  | 6 => .object "java/util/ArrayList"
  | 7 => .int
  | 8 => .boolean
  | 9 => .int
  | 10 => .int
  | 11 => .int
  | 12 => .int
  | _ => .int
abbrev wsX40 : List Cond := u_ws RX4 TX4 14
set_option maxRecDepth 100000 in
theorem nmX4 : ∀ a, a < 14 → ∀ b, b < 14 → a ≠ b → (TX4 a).2.1 ≠ (TX4 b).2.1 := by decide +kernel
set_option maxRecDepth 100000 in
theorem tyX4_ok : ∀ k, k < 14 → parseFieldDescriptor (TX4 k).2.2.1 = some (tyX4 k) := by decide +kernel
abbrev cX4_init : ByteArray := prog_9_method_4_code
def yX4_init : MethodName := ⟨RX4, "<init>", "()V"⟩
def dkwX4_init_5 : List UInt8 := [162, 0, 22, 42, 180, 0, 34, 27, 187, 0, 32, 89, 183, 0, 56, 83, 132, 1, 1, 167, 255, 234, 177]
abbrev dktX4_init_5 : List UInt8 := dkwX4_init_5 ++ []
def dkwX4_init_4 : List UInt8 := [180, 0, 28, 27, 187, 0, 26, 89, 183, 0, 55, 83, 132, 1, 1, 167, 255, 235, 3, 60, 27, 16, 6]
abbrev dktX4_init_4 : List UInt8 := dkwX4_init_4 ++ dktX4_init_5
def dkwX4_init_3 : List UInt8 := [187, 0, 19, 89, 183, 0, 21, 181, 0, 48, 42, 16, 20, 181, 0, 51, 3, 60, 27, 7, 162, 0, 22, 42]
abbrev dktX4_init_3 : List UInt8 := dkwX4_init_3 ++ dktX4_init_4
def dkwX4_init_2 : List UInt8 := [89, 3, 187, 0, 41, 89, 183, 0, 43, 83, 89, 4, 187, 0, 41, 89, 183, 0, 43, 83, 181, 0, 44, 42]
abbrev dktX4_init_2 : List UInt8 := dkwX4_init_2 ++ dktX4_init_3
def dkwX4_init_1 : List UInt8 := [16, 6, 189, 0, 32, 181, 0, 34, 42, 187, 0, 19, 89, 183, 0, 21, 181, 0, 38, 42, 5, 189, 0, 41]
abbrev dktX4_init_1 : List UInt8 := dkwX4_init_1 ++ dktX4_init_2
def dkwX4_init_0 : List UInt8 := [42, 183, 0, 13, 42, 187, 0, 19, 89, 183, 0, 21, 181, 0, 22, 42, 7, 189, 0, 26, 181, 0, 28, 42]
abbrev dktX4_init_0 : List UInt8 := dkwX4_init_0 ++ dktX4_init_1
theorem dksX4_init_0 : cX4_init.data.toList.drop 0 = dktX4_init_0 := by decide +kernel
theorem dksX4_init_1 : cX4_init.data.toList.drop 24 = dktX4_init_1 := dk_seg dksX4_init_0 24 rfl rfl
theorem dksX4_init_2 : cX4_init.data.toList.drop 48 = dktX4_init_2 := dk_seg dksX4_init_1 24 rfl rfl
theorem dksX4_init_3 : cX4_init.data.toList.drop 72 = dktX4_init_3 := dk_seg dksX4_init_2 24 rfl rfl
theorem dksX4_init_4 : cX4_init.data.toList.drop 96 = dktX4_init_4 := dk_seg dksX4_init_3 24 rfl rfl
theorem dksX4_init_5 : cX4_init.data.toList.drop 119 = dktX4_init_5 := dk_seg dksX4_init_4 23 rfl rfl
theorem dX4_init_0 : decode cX4_init 0 = .ok (.aload_n 0, 1) := dk_42 (dk_at dksX4_init_0 0 rfl rfl)
theorem dX4_init_1 : decode cX4_init 1 = .ok (.invokespecial 13, 3) := dk_183 0 13 (dk_at dksX4_init_0 1 rfl rfl)
theorem dX4_init_4 : decode cX4_init 4 = .ok (.aload_n 0, 1) := dk_42 (dk_at dksX4_init_0 4 rfl rfl)
theorem dX4_init_5 : decode cX4_init 5 = .ok (.new 19, 3) := dk_187 0 19 (dk_at dksX4_init_0 5 rfl rfl)
theorem dX4_init_8 : decode cX4_init 8 = .ok (.dup, 1) := dk_89 (dk_at dksX4_init_0 8 rfl rfl)
theorem dX4_init_9 : decode cX4_init 9 = .ok (.invokespecial 21, 3) := dk_183 0 21 (dk_at dksX4_init_0 9 rfl rfl)
theorem dX4_init_12 : decode cX4_init 12 = .ok (.putfield 22, 3) := dk_181 0 22 (dk_at dksX4_init_0 12 rfl rfl)
theorem dX4_init_15 : decode cX4_init 15 = .ok (.aload_n 0, 1) := dk_42 (dk_at dksX4_init_0 15 rfl rfl)
theorem dX4_init_16 : decode cX4_init 16 = .ok (.iconst 4, 1) := dk_7 (dk_at dksX4_init_0 16 rfl rfl)
theorem dX4_init_17 : decode cX4_init 17 = .ok (.anewarray 26, 3) := dk_189 0 26 (dk_at dksX4_init_0 17 rfl rfl)
theorem dX4_init_20 : decode cX4_init 20 = .ok (.putfield 28, 3) := dk_181 0 28 (dk_at dksX4_init_0 20 rfl rfl)
theorem dX4_init_23 : decode cX4_init 23 = .ok (.aload_n 0, 1) := dk_42 (dk_at dksX4_init_0 23 rfl rfl)
theorem dX4_init_24 : decode cX4_init 24 = .ok (.bipush 6, 2) := dk_16 6 (dk_at dksX4_init_1 0 rfl rfl)
theorem dX4_init_26 : decode cX4_init 26 = .ok (.anewarray 32, 3) := dk_189 0 32 (dk_at dksX4_init_1 2 rfl rfl)
theorem dX4_init_29 : decode cX4_init 29 = .ok (.putfield 34, 3) := dk_181 0 34 (dk_at dksX4_init_1 5 rfl rfl)
theorem dX4_init_32 : decode cX4_init 32 = .ok (.aload_n 0, 1) := dk_42 (dk_at dksX4_init_1 8 rfl rfl)
theorem dX4_init_33 : decode cX4_init 33 = .ok (.new 19, 3) := dk_187 0 19 (dk_at dksX4_init_1 9 rfl rfl)
theorem dX4_init_36 : decode cX4_init 36 = .ok (.dup, 1) := dk_89 (dk_at dksX4_init_1 12 rfl rfl)
theorem dX4_init_37 : decode cX4_init 37 = .ok (.invokespecial 21, 3) := dk_183 0 21 (dk_at dksX4_init_1 13 rfl rfl)
theorem dX4_init_40 : decode cX4_init 40 = .ok (.putfield 38, 3) := dk_181 0 38 (dk_at dksX4_init_1 16 rfl rfl)
theorem dX4_init_43 : decode cX4_init 43 = .ok (.aload_n 0, 1) := dk_42 (dk_at dksX4_init_1 19 rfl rfl)
theorem dX4_init_44 : decode cX4_init 44 = .ok (.iconst 2, 1) := dk_5 (dk_at dksX4_init_1 20 rfl rfl)
theorem dX4_init_45 : decode cX4_init 45 = .ok (.anewarray 41, 3) := dk_189 0 41 (dk_at dksX4_init_1 21 rfl rfl)
theorem dX4_init_48 : decode cX4_init 48 = .ok (.dup, 1) := dk_89 (dk_at dksX4_init_2 0 rfl rfl)
theorem dX4_init_49 : decode cX4_init 49 = .ok (.iconst 0, 1) := dk_3 (dk_at dksX4_init_2 1 rfl rfl)
theorem dX4_init_50 : decode cX4_init 50 = .ok (.new 41, 3) := dk_187 0 41 (dk_at dksX4_init_2 2 rfl rfl)
theorem dX4_init_53 : decode cX4_init 53 = .ok (.dup, 1) := dk_89 (dk_at dksX4_init_2 5 rfl rfl)
theorem dX4_init_54 : decode cX4_init 54 = .ok (.invokespecial 43, 3) := dk_183 0 43 (dk_at dksX4_init_2 6 rfl rfl)
theorem dX4_init_57 : decode cX4_init 57 = .ok (.aastore, 1) := dk_83 (dk_at dksX4_init_2 9 rfl rfl)
theorem dX4_init_58 : decode cX4_init 58 = .ok (.dup, 1) := dk_89 (dk_at dksX4_init_2 10 rfl rfl)
theorem dX4_init_59 : decode cX4_init 59 = .ok (.iconst 1, 1) := dk_4 (dk_at dksX4_init_2 11 rfl rfl)
theorem dX4_init_60 : decode cX4_init 60 = .ok (.new 41, 3) := dk_187 0 41 (dk_at dksX4_init_2 12 rfl rfl)
theorem dX4_init_63 : decode cX4_init 63 = .ok (.dup, 1) := dk_89 (dk_at dksX4_init_2 15 rfl rfl)
theorem dX4_init_64 : decode cX4_init 64 = .ok (.invokespecial 43, 3) := dk_183 0 43 (dk_at dksX4_init_2 16 rfl rfl)
theorem dX4_init_67 : decode cX4_init 67 = .ok (.aastore, 1) := dk_83 (dk_at dksX4_init_2 19 rfl rfl)
theorem dX4_init_68 : decode cX4_init 68 = .ok (.putfield 44, 3) := dk_181 0 44 (dk_at dksX4_init_2 20 rfl rfl)
theorem dX4_init_71 : decode cX4_init 71 = .ok (.aload_n 0, 1) := dk_42 (dk_at dksX4_init_2 23 rfl rfl)
theorem dX4_init_72 : decode cX4_init 72 = .ok (.new 19, 3) := dk_187 0 19 (dk_at dksX4_init_3 0 rfl rfl)
theorem dX4_init_75 : decode cX4_init 75 = .ok (.dup, 1) := dk_89 (dk_at dksX4_init_3 3 rfl rfl)
theorem dX4_init_76 : decode cX4_init 76 = .ok (.invokespecial 21, 3) := dk_183 0 21 (dk_at dksX4_init_3 4 rfl rfl)
theorem dX4_init_79 : decode cX4_init 79 = .ok (.putfield 48, 3) := dk_181 0 48 (dk_at dksX4_init_3 7 rfl rfl)
theorem dX4_init_82 : decode cX4_init 82 = .ok (.aload_n 0, 1) := dk_42 (dk_at dksX4_init_3 10 rfl rfl)
theorem dX4_init_83 : decode cX4_init 83 = .ok (.bipush 20, 2) := dk_16 20 (dk_at dksX4_init_3 11 rfl rfl)
theorem dX4_init_85 : decode cX4_init 85 = .ok (.putfield 51, 3) := dk_181 0 51 (dk_at dksX4_init_3 13 rfl rfl)
theorem dX4_init_88 : decode cX4_init 88 = .ok (.iconst 0, 1) := dk_3 (dk_at dksX4_init_3 16 rfl rfl)
theorem dX4_init_89 : decode cX4_init 89 = .ok (.istore_n 1, 1) := dk_60 (dk_at dksX4_init_3 17 rfl rfl)
theorem dX4_init_90 : decode cX4_init 90 = .ok (.iload_n 1, 1) := dk_27 (dk_at dksX4_init_3 18 rfl rfl)
theorem dX4_init_91 : decode cX4_init 91 = .ok (.iconst 4, 1) := dk_7 (dk_at dksX4_init_3 19 rfl rfl)
theorem dX4_init_92 : decode cX4_init 92 = .ok (.if_icmp .ge 22, 3) := dk_162 0 22 (dk_at dksX4_init_3 20 rfl rfl)
theorem dX4_init_95 : decode cX4_init 95 = .ok (.aload_n 0, 1) := dk_42 (dk_at dksX4_init_3 23 rfl rfl)
theorem dX4_init_96 : decode cX4_init 96 = .ok (.getfield 28, 3) := dk_180 0 28 (dk_at dksX4_init_4 0 rfl rfl)
theorem dX4_init_99 : decode cX4_init 99 = .ok (.iload_n 1, 1) := dk_27 (dk_at dksX4_init_4 3 rfl rfl)
theorem dX4_init_100 : decode cX4_init 100 = .ok (.new 26, 3) := dk_187 0 26 (dk_at dksX4_init_4 4 rfl rfl)
theorem dX4_init_103 : decode cX4_init 103 = .ok (.dup, 1) := dk_89 (dk_at dksX4_init_4 7 rfl rfl)
theorem dX4_init_104 : decode cX4_init 104 = .ok (.invokespecial 55, 3) := dk_183 0 55 (dk_at dksX4_init_4 8 rfl rfl)
theorem dX4_init_107 : decode cX4_init 107 = .ok (.aastore, 1) := dk_83 (dk_at dksX4_init_4 11 rfl rfl)
theorem dX4_init_108 : decode cX4_init 108 = .ok (.iinc 1 1, 3) := dk_132 1 1 (dk_at dksX4_init_4 12 rfl rfl)
theorem dX4_init_111 : decode cX4_init 111 = .ok (.goto (-21), 3) := dk_167 255 235 (dk_at dksX4_init_4 15 rfl rfl)
theorem dX4_init_114 : decode cX4_init 114 = .ok (.iconst 0, 1) := dk_3 (dk_at dksX4_init_4 18 rfl rfl)
theorem dX4_init_115 : decode cX4_init 115 = .ok (.istore_n 1, 1) := dk_60 (dk_at dksX4_init_4 19 rfl rfl)
theorem dX4_init_116 : decode cX4_init 116 = .ok (.iload_n 1, 1) := dk_27 (dk_at dksX4_init_4 20 rfl rfl)
theorem dX4_init_117 : decode cX4_init 117 = .ok (.bipush 6, 2) := dk_16 6 (dk_at dksX4_init_4 21 rfl rfl)
theorem dX4_init_119 : decode cX4_init 119 = .ok (.if_icmp .ge 22, 3) := dk_162 0 22 (dk_at dksX4_init_5 0 rfl rfl)
theorem dX4_init_122 : decode cX4_init 122 = .ok (.aload_n 0, 1) := dk_42 (dk_at dksX4_init_5 3 rfl rfl)
theorem dX4_init_123 : decode cX4_init 123 = .ok (.getfield 34, 3) := dk_180 0 34 (dk_at dksX4_init_5 4 rfl rfl)
theorem dX4_init_126 : decode cX4_init 126 = .ok (.iload_n 1, 1) := dk_27 (dk_at dksX4_init_5 7 rfl rfl)
theorem dX4_init_127 : decode cX4_init 127 = .ok (.new 32, 3) := dk_187 0 32 (dk_at dksX4_init_5 8 rfl rfl)
theorem dX4_init_130 : decode cX4_init 130 = .ok (.dup, 1) := dk_89 (dk_at dksX4_init_5 11 rfl rfl)
theorem dX4_init_131 : decode cX4_init 131 = .ok (.invokespecial 56, 3) := dk_183 0 56 (dk_at dksX4_init_5 12 rfl rfl)
theorem dX4_init_134 : decode cX4_init 134 = .ok (.aastore, 1) := dk_83 (dk_at dksX4_init_5 15 rfl rfl)
theorem dX4_init_135 : decode cX4_init 135 = .ok (.iinc 1 1, 3) := dk_132 1 1 (dk_at dksX4_init_5 16 rfl rfl)
theorem dX4_init_138 : decode cX4_init 138 = .ok (.goto (-22), 3) := dk_167 255 234 (dk_at dksX4_init_5 19 rfl rfl)
theorem dX4_init_141 : decode cX4_init 141 = .ok (.return_, 1) := dk_177 (dk_at dksX4_init_5 22 rfl rfl)
abbrev cX4_thrown : ByteArray := prog_9_method_5_code
def yX4_thrown : MethodName := ⟨RX4, "thrown", "()I"⟩
theorem dX4_thrown_0 : decode cX4_thrown 0 = .ok (.aload_n 0, 1) := by decide +kernel
theorem dX4_thrown_1 : decode cX4_thrown 1 = .ok (.getfield 57, 3) := by decide +kernel
theorem dX4_thrown_4 : decode cX4_thrown 4 = .ok (.ireturn, 1) := by decide +kernel
abbrev cX4_plot : ByteArray := prog_9_method_14_code
def yX4_plot : MethodName := ⟨RX4, "plot", "(I)I"⟩
def dkwX4_plot_3 : List UInt8 := [4, 100, 172]
abbrev dktX4_plot_3 : List UInt8 := dkwX4_plot_3 ++ []
def dkwX4_plot_2 : List UInt8 := [172, 42, 180, 0, 22, 187, 0, 75, 89, 27, 183, 0, 77, 182, 0, 80, 87, 42, 180, 0, 22, 182, 0, 64]
abbrev dktX4_plot_2 : List UInt8 := dkwX4_plot_2 ++ dktX4_plot_3
def dkwX4_plot_1 : List UInt8 := [42, 180, 0, 22, 182, 0, 64, 6, 160, 0, 7, 4, 167, 0, 4, 3, 5, 182, 0, 60, 153, 0, 5, 3]
abbrev dktX4_plot_1 : List UInt8 := dkwX4_plot_1 ++ dktX4_plot_2
def dkwX4_plot_0 : List UInt8 := [42, 27, 4, 16, 9, 184, 0, 68, 154, 0, 7, 4, 167, 0, 4, 3, 4, 182, 0, 72, 154, 0, 27, 42]
abbrev dktX4_plot_0 : List UInt8 := dkwX4_plot_0 ++ dktX4_plot_1
theorem dksX4_plot_0 : cX4_plot.data.toList.drop 0 = dktX4_plot_0 := by decide +kernel
theorem dksX4_plot_1 : cX4_plot.data.toList.drop 24 = dktX4_plot_1 := dk_seg dksX4_plot_0 24 rfl rfl
theorem dksX4_plot_2 : cX4_plot.data.toList.drop 48 = dktX4_plot_2 := dk_seg dksX4_plot_1 24 rfl rfl
theorem dksX4_plot_3 : cX4_plot.data.toList.drop 72 = dktX4_plot_3 := dk_seg dksX4_plot_2 24 rfl rfl
theorem dX4_plot_0 : decode cX4_plot 0 = .ok (.aload_n 0, 1) := dk_42 (dk_at dksX4_plot_0 0 rfl rfl)
theorem dX4_plot_1 : decode cX4_plot 1 = .ok (.iload_n 1, 1) := dk_27 (dk_at dksX4_plot_0 1 rfl rfl)
theorem dX4_plot_2 : decode cX4_plot 2 = .ok (.iconst 1, 1) := dk_4 (dk_at dksX4_plot_0 2 rfl rfl)
theorem dX4_plot_3 : decode cX4_plot 3 = .ok (.bipush 9, 2) := dk_16 9 (dk_at dksX4_plot_0 3 rfl rfl)
theorem dX4_plot_5 : decode cX4_plot 5 = .ok (.invokestatic 68, 3) := dk_184 0 68 (dk_at dksX4_plot_0 5 rfl rfl)
theorem dX4_plot_8 : decode cX4_plot 8 = .ok (.ifCond .ne 7, 3) := dk_154 0 7 (dk_at dksX4_plot_0 8 rfl rfl)
theorem dX4_plot_11 : decode cX4_plot 11 = .ok (.iconst 1, 1) := dk_4 (dk_at dksX4_plot_0 11 rfl rfl)
theorem dX4_plot_12 : decode cX4_plot 12 = .ok (.goto 4, 3) := dk_167 0 4 (dk_at dksX4_plot_0 12 rfl rfl)
theorem dX4_plot_15 : decode cX4_plot 15 = .ok (.iconst 0, 1) := dk_3 (dk_at dksX4_plot_0 15 rfl rfl)
theorem dX4_plot_16 : decode cX4_plot 16 = .ok (.iconst 1, 1) := dk_4 (dk_at dksX4_plot_0 16 rfl rfl)
theorem dX4_plot_17 : decode cX4_plot 17 = .ok (.invokevirtual 72, 3) := dk_182 0 72 (dk_at dksX4_plot_0 17 rfl rfl)
theorem dX4_plot_20 : decode cX4_plot 20 = .ok (.ifCond .ne 27, 3) := dk_154 0 27 (dk_at dksX4_plot_0 20 rfl rfl)
theorem dX4_plot_23 : decode cX4_plot 23 = .ok (.aload_n 0, 1) := dk_42 (dk_at dksX4_plot_0 23 rfl rfl)
theorem dX4_plot_24 : decode cX4_plot 24 = .ok (.aload_n 0, 1) := dk_42 (dk_at dksX4_plot_1 0 rfl rfl)
theorem dX4_plot_25 : decode cX4_plot 25 = .ok (.getfield 22, 3) := dk_180 0 22 (dk_at dksX4_plot_1 1 rfl rfl)
theorem dX4_plot_28 : decode cX4_plot 28 = .ok (.invokevirtual 64, 3) := dk_182 0 64 (dk_at dksX4_plot_1 4 rfl rfl)
theorem dX4_plot_31 : decode cX4_plot 31 = .ok (.iconst 3, 1) := dk_6 (dk_at dksX4_plot_1 7 rfl rfl)
theorem dX4_plot_32 : decode cX4_plot 32 = .ok (.if_icmp .ne 7, 3) := dk_160 0 7 (dk_at dksX4_plot_1 8 rfl rfl)
theorem dX4_plot_35 : decode cX4_plot 35 = .ok (.iconst 1, 1) := dk_4 (dk_at dksX4_plot_1 11 rfl rfl)
theorem dX4_plot_36 : decode cX4_plot 36 = .ok (.goto 4, 3) := dk_167 0 4 (dk_at dksX4_plot_1 12 rfl rfl)
theorem dX4_plot_39 : decode cX4_plot 39 = .ok (.iconst 0, 1) := dk_3 (dk_at dksX4_plot_1 15 rfl rfl)
theorem dX4_plot_40 : decode cX4_plot 40 = .ok (.iconst 2, 1) := dk_5 (dk_at dksX4_plot_1 16 rfl rfl)
theorem dX4_plot_41 : decode cX4_plot 41 = .ok (.invokevirtual 60, 3) := dk_182 0 60 (dk_at dksX4_plot_1 17 rfl rfl)
theorem dX4_plot_44 : decode cX4_plot 44 = .ok (.ifCond .eq 5, 3) := dk_153 0 5 (dk_at dksX4_plot_1 20 rfl rfl)
theorem dX4_plot_47 : decode cX4_plot 47 = .ok (.iconst 0, 1) := dk_3 (dk_at dksX4_plot_1 23 rfl rfl)
theorem dX4_plot_48 : decode cX4_plot 48 = .ok (.ireturn, 1) := dk_172 (dk_at dksX4_plot_2 0 rfl rfl)
theorem dX4_plot_49 : decode cX4_plot 49 = .ok (.aload_n 0, 1) := dk_42 (dk_at dksX4_plot_2 1 rfl rfl)
theorem dX4_plot_50 : decode cX4_plot 50 = .ok (.getfield 22, 3) := dk_180 0 22 (dk_at dksX4_plot_2 2 rfl rfl)
theorem dX4_plot_53 : decode cX4_plot 53 = .ok (.new 75, 3) := dk_187 0 75 (dk_at dksX4_plot_2 5 rfl rfl)
theorem dX4_plot_56 : decode cX4_plot 56 = .ok (.dup, 1) := dk_89 (dk_at dksX4_plot_2 8 rfl rfl)
theorem dX4_plot_57 : decode cX4_plot 57 = .ok (.iload_n 1, 1) := dk_27 (dk_at dksX4_plot_2 9 rfl rfl)
theorem dX4_plot_58 : decode cX4_plot 58 = .ok (.invokespecial 77, 3) := dk_183 0 77 (dk_at dksX4_plot_2 10 rfl rfl)
theorem dX4_plot_61 : decode cX4_plot 61 = .ok (.invokevirtual 80, 3) := dk_182 0 80 (dk_at dksX4_plot_2 13 rfl rfl)
theorem dX4_plot_64 : decode cX4_plot 64 = .ok (.pop, 1) := dk_87 (dk_at dksX4_plot_2 16 rfl rfl)
theorem dX4_plot_65 : decode cX4_plot 65 = .ok (.aload_n 0, 1) := dk_42 (dk_at dksX4_plot_2 17 rfl rfl)
theorem dX4_plot_66 : decode cX4_plot 66 = .ok (.getfield 22, 3) := dk_180 0 22 (dk_at dksX4_plot_2 18 rfl rfl)
theorem dX4_plot_69 : decode cX4_plot 69 = .ok (.invokevirtual 64, 3) := dk_182 0 64 (dk_at dksX4_plot_2 21 rfl rfl)
theorem dX4_plot_72 : decode cX4_plot 72 = .ok (.iconst 1, 1) := dk_4 (dk_at dksX4_plot_3 0 rfl rfl)
theorem dX4_plot_73 : decode cX4_plot 73 = .ok (.isub, 1) := dk_100 (dk_at dksX4_plot_3 1 rfl rfl)
theorem dX4_plot_74 : decode cX4_plot 74 = .ok (.ireturn, 1) := dk_172 (dk_at dksX4_plot_3 2 rfl rfl)
abbrev cX4_isIn : ByteArray := prog_9_method_1_code
def yX4_isIn : MethodName := ⟨RX4, "isIn", "(III)Z"⟩
def dkwX4_isIn_0 : List UInt8 := [26, 27, 161, 0, 12, 26, 28, 163, 0, 7, 4, 167, 0, 4, 3, 172]
abbrev dktX4_isIn_0 : List UInt8 := dkwX4_isIn_0 ++ []
theorem dksX4_isIn_0 : cX4_isIn.data.toList.drop 0 = dktX4_isIn_0 := by decide +kernel
theorem dX4_isIn_0 : decode cX4_isIn 0 = .ok (.iload_n 0, 1) := dk_26 (dk_at dksX4_isIn_0 0 rfl rfl)
theorem dX4_isIn_1 : decode cX4_isIn 1 = .ok (.iload_n 1, 1) := dk_27 (dk_at dksX4_isIn_0 1 rfl rfl)
theorem dX4_isIn_2 : decode cX4_isIn 2 = .ok (.if_icmp .lt 12, 3) := dk_161 0 12 (dk_at dksX4_isIn_0 2 rfl rfl)
theorem dX4_isIn_5 : decode cX4_isIn 5 = .ok (.iload_n 0, 1) := dk_26 (dk_at dksX4_isIn_0 5 rfl rfl)
theorem dX4_isIn_6 : decode cX4_isIn 6 = .ok (.iload_n 2, 1) := dk_28 (dk_at dksX4_isIn_0 6 rfl rfl)
theorem dX4_isIn_7 : decode cX4_isIn 7 = .ok (.if_icmp .gt 7, 3) := dk_163 0 7 (dk_at dksX4_isIn_0 7 rfl rfl)
theorem dX4_isIn_10 : decode cX4_isIn 10 = .ok (.iconst 1, 1) := dk_4 (dk_at dksX4_isIn_0 10 rfl rfl)
theorem dX4_isIn_11 : decode cX4_isIn 11 = .ok (.goto 4, 3) := dk_167 0 4 (dk_at dksX4_isIn_0 11 rfl rfl)
theorem dX4_isIn_14 : decode cX4_isIn 14 = .ok (.iconst 0, 1) := dk_3 (dk_at dksX4_isIn_0 14 rfl rfl)
theorem dX4_isIn_15 : decode cX4_isIn 15 = .ok (.ireturn, 1) := dk_172 (dk_at dksX4_isIn_0 15 rfl rfl)
abbrev cX4_start : ByteArray := prog_9_method_7_code
def yX4_start : MethodName := ⟨RX4, "start", "(ZI)Z"⟩
def dkwX4_start_0 : List UInt8 := [42, 3, 181, 0, 57, 42, 27, 28, 182, 0, 60, 172]
abbrev dktX4_start_0 : List UInt8 := dkwX4_start_0 ++ []
theorem dksX4_start_0 : cX4_start.data.toList.drop 0 = dktX4_start_0 := by decide +kernel
theorem dX4_start_0 : decode cX4_start 0 = .ok (.aload_n 0, 1) := dk_42 (dk_at dksX4_start_0 0 rfl rfl)
theorem dX4_start_1 : decode cX4_start 1 = .ok (.iconst 0, 1) := dk_3 (dk_at dksX4_start_0 1 rfl rfl)
theorem dX4_start_2 : decode cX4_start 2 = .ok (.putfield 57, 3) := dk_181 0 57 (dk_at dksX4_start_0 2 rfl rfl)
theorem dX4_start_5 : decode cX4_start 5 = .ok (.aload_n 0, 1) := dk_42 (dk_at dksX4_start_0 5 rfl rfl)
theorem dX4_start_6 : decode cX4_start 6 = .ok (.iload_n 1, 1) := dk_27 (dk_at dksX4_start_0 6 rfl rfl)
theorem dX4_start_7 : decode cX4_start 7 = .ok (.iload_n 2, 1) := dk_28 (dk_at dksX4_start_0 7 rfl rfl)
theorem dX4_start_8 : decode cX4_start 8 = .ok (.invokevirtual 60, 3) := dk_182 0 60 (dk_at dksX4_start_0 8 rfl rfl)
theorem dX4_start_11 : decode cX4_start 11 = .ok (.ireturn, 1) := dk_172 (dk_at dksX4_start_0 11 rfl rfl)
abbrev cX4_refuse : ByteArray := prog_9_method_6_code
def yX4_refuse : MethodName := ⟨RX4, "refuse", "(ZI)Z"⟩
def dkwX4_refuse_1 : List UInt8 := [167, 0, 4, 3, 172]
abbrev dktX4_refuse_1 : List UInt8 := dkwX4_refuse_1 ++ []
def dkwX4_refuse_0 : List UInt8 := [27, 153, 0, 15, 42, 180, 0, 57, 154, 0, 8, 42, 28, 181, 0, 57, 42, 180, 0, 57, 158, 0, 7, 4]
abbrev dktX4_refuse_0 : List UInt8 := dkwX4_refuse_0 ++ dktX4_refuse_1
theorem dksX4_refuse_0 : cX4_refuse.data.toList.drop 0 = dktX4_refuse_0 := by decide +kernel
theorem dksX4_refuse_1 : cX4_refuse.data.toList.drop 24 = dktX4_refuse_1 := dk_seg dksX4_refuse_0 24 rfl rfl
theorem dX4_refuse_0 : decode cX4_refuse 0 = .ok (.iload_n 1, 1) := dk_27 (dk_at dksX4_refuse_0 0 rfl rfl)
theorem dX4_refuse_1 : decode cX4_refuse 1 = .ok (.ifCond .eq 15, 3) := dk_153 0 15 (dk_at dksX4_refuse_0 1 rfl rfl)
theorem dX4_refuse_4 : decode cX4_refuse 4 = .ok (.aload_n 0, 1) := dk_42 (dk_at dksX4_refuse_0 4 rfl rfl)
theorem dX4_refuse_5 : decode cX4_refuse 5 = .ok (.getfield 57, 3) := dk_180 0 57 (dk_at dksX4_refuse_0 5 rfl rfl)
theorem dX4_refuse_8 : decode cX4_refuse 8 = .ok (.ifCond .ne 8, 3) := dk_154 0 8 (dk_at dksX4_refuse_0 8 rfl rfl)
theorem dX4_refuse_11 : decode cX4_refuse 11 = .ok (.aload_n 0, 1) := dk_42 (dk_at dksX4_refuse_0 11 rfl rfl)
theorem dX4_refuse_12 : decode cX4_refuse 12 = .ok (.iload_n 2, 1) := dk_28 (dk_at dksX4_refuse_0 12 rfl rfl)
theorem dX4_refuse_13 : decode cX4_refuse 13 = .ok (.putfield 57, 3) := dk_181 0 57 (dk_at dksX4_refuse_0 13 rfl rfl)
theorem dX4_refuse_16 : decode cX4_refuse 16 = .ok (.aload_n 0, 1) := dk_42 (dk_at dksX4_refuse_0 16 rfl rfl)
theorem dX4_refuse_17 : decode cX4_refuse 17 = .ok (.getfield 57, 3) := dk_180 0 57 (dk_at dksX4_refuse_0 17 rfl rfl)
theorem dX4_refuse_20 : decode cX4_refuse 20 = .ok (.ifCond .le 7, 3) := dk_158 0 7 (dk_at dksX4_refuse_0 20 rfl rfl)
theorem dX4_refuse_23 : decode cX4_refuse 23 = .ok (.iconst 1, 1) := dk_4 (dk_at dksX4_refuse_0 23 rfl rfl)
theorem dX4_refuse_24 : decode cX4_refuse 24 = .ok (.goto 4, 3) := dk_167 0 4 (dk_at dksX4_refuse_1 0 rfl rfl)
theorem dX4_refuse_27 : decode cX4_refuse 27 = .ok (.iconst 0, 1) := dk_3 (dk_at dksX4_refuse_1 3 rfl rfl)
theorem dX4_refuse_28 : decode cX4_refuse 28 = .ok (.ireturn, 1) := dk_172 (dk_at dksX4_refuse_1 4 rfl rfl)
abbrev cX4_pass : ByteArray := prog_9_method_15_code
def yX4_pass : MethodName := ⟨RX4, "pass", "(IZI)I"⟩
def dkwX4_pass_3 : List UInt8 := [21, 4, 100, 172]
abbrev dktX4_pass_3 : List UInt8 := dkwX4_pass_3 ++ []
def dkwX4_pass_2 : List UInt8 := [162, 0, 14, 42, 27, 182, 0, 87, 132, 5, 1, 167, 255, 242, 42, 28, 181, 0, 90, 42, 180, 0, 84]
abbrev dktX4_pass_2 : List UInt8 := dkwX4_pass_2 ++ dktX4_pass_3
def dkwX4_pass_1 : List UInt8 := [3, 4, 182, 0, 72, 153, 0, 5, 3, 172, 42, 180, 0, 84, 54, 4, 3, 54, 5, 21, 5, 29]
abbrev dktX4_pass_1 : List UInt8 := dkwX4_pass_1 ++ dktX4_pass_2
def dkwX4_pass_0 : List UInt8 := [42, 27, 3, 8, 184, 0, 68, 153, 0, 13, 29, 4, 16, 20, 184, 0, 68, 154, 0, 7, 4, 167, 0, 4]
abbrev dktX4_pass_0 : List UInt8 := dkwX4_pass_0 ++ dktX4_pass_1
theorem dksX4_pass_0 : cX4_pass.data.toList.drop 0 = dktX4_pass_0 := by decide +kernel
theorem dksX4_pass_1 : cX4_pass.data.toList.drop 24 = dktX4_pass_1 := dk_seg dksX4_pass_0 24 rfl rfl
theorem dksX4_pass_2 : cX4_pass.data.toList.drop 46 = dktX4_pass_2 := dk_seg dksX4_pass_1 22 rfl rfl
theorem dksX4_pass_3 : cX4_pass.data.toList.drop 69 = dktX4_pass_3 := dk_seg dksX4_pass_2 23 rfl rfl
theorem dX4_pass_0 : decode cX4_pass 0 = .ok (.aload_n 0, 1) := dk_42 (dk_at dksX4_pass_0 0 rfl rfl)
theorem dX4_pass_1 : decode cX4_pass 1 = .ok (.iload_n 1, 1) := dk_27 (dk_at dksX4_pass_0 1 rfl rfl)
theorem dX4_pass_2 : decode cX4_pass 2 = .ok (.iconst 0, 1) := dk_3 (dk_at dksX4_pass_0 2 rfl rfl)
theorem dX4_pass_3 : decode cX4_pass 3 = .ok (.iconst 5, 1) := dk_8 (dk_at dksX4_pass_0 3 rfl rfl)
theorem dX4_pass_4 : decode cX4_pass 4 = .ok (.invokestatic 68, 3) := dk_184 0 68 (dk_at dksX4_pass_0 4 rfl rfl)
theorem dX4_pass_7 : decode cX4_pass 7 = .ok (.ifCond .eq 13, 3) := dk_153 0 13 (dk_at dksX4_pass_0 7 rfl rfl)
theorem dX4_pass_10 : decode cX4_pass 10 = .ok (.iload_n 3, 1) := dk_29 (dk_at dksX4_pass_0 10 rfl rfl)
theorem dX4_pass_11 : decode cX4_pass 11 = .ok (.iconst 1, 1) := dk_4 (dk_at dksX4_pass_0 11 rfl rfl)
theorem dX4_pass_12 : decode cX4_pass 12 = .ok (.bipush 20, 2) := dk_16 20 (dk_at dksX4_pass_0 12 rfl rfl)
theorem dX4_pass_14 : decode cX4_pass 14 = .ok (.invokestatic 68, 3) := dk_184 0 68 (dk_at dksX4_pass_0 14 rfl rfl)
theorem dX4_pass_17 : decode cX4_pass 17 = .ok (.ifCond .ne 7, 3) := dk_154 0 7 (dk_at dksX4_pass_0 17 rfl rfl)
theorem dX4_pass_20 : decode cX4_pass 20 = .ok (.iconst 1, 1) := dk_4 (dk_at dksX4_pass_0 20 rfl rfl)
theorem dX4_pass_21 : decode cX4_pass 21 = .ok (.goto 4, 3) := dk_167 0 4 (dk_at dksX4_pass_0 21 rfl rfl)
theorem dX4_pass_24 : decode cX4_pass 24 = .ok (.iconst 0, 1) := dk_3 (dk_at dksX4_pass_1 0 rfl rfl)
theorem dX4_pass_25 : decode cX4_pass 25 = .ok (.iconst 1, 1) := dk_4 (dk_at dksX4_pass_1 1 rfl rfl)
theorem dX4_pass_26 : decode cX4_pass 26 = .ok (.invokevirtual 72, 3) := dk_182 0 72 (dk_at dksX4_pass_1 2 rfl rfl)
theorem dX4_pass_29 : decode cX4_pass 29 = .ok (.ifCond .eq 5, 3) := dk_153 0 5 (dk_at dksX4_pass_1 5 rfl rfl)
theorem dX4_pass_32 : decode cX4_pass 32 = .ok (.iconst 0, 1) := dk_3 (dk_at dksX4_pass_1 8 rfl rfl)
theorem dX4_pass_33 : decode cX4_pass 33 = .ok (.ireturn, 1) := dk_172 (dk_at dksX4_pass_1 9 rfl rfl)
theorem dX4_pass_34 : decode cX4_pass 34 = .ok (.aload_n 0, 1) := dk_42 (dk_at dksX4_pass_1 10 rfl rfl)
theorem dX4_pass_35 : decode cX4_pass 35 = .ok (.getfield 84, 3) := dk_180 0 84 (dk_at dksX4_pass_1 11 rfl rfl)
theorem dX4_pass_38 : decode cX4_pass 38 = .ok (.istore 4, 2) := dk_54 4 (dk_at dksX4_pass_1 14 rfl rfl)
theorem dX4_pass_40 : decode cX4_pass 40 = .ok (.iconst 0, 1) := dk_3 (dk_at dksX4_pass_1 16 rfl rfl)
theorem dX4_pass_41 : decode cX4_pass 41 = .ok (.istore 5, 2) := dk_54 5 (dk_at dksX4_pass_1 17 rfl rfl)
theorem dX4_pass_43 : decode cX4_pass 43 = .ok (.iload 5, 2) := dk_21 5 (dk_at dksX4_pass_1 19 rfl rfl)
theorem dX4_pass_45 : decode cX4_pass 45 = .ok (.iload_n 3, 1) := dk_29 (dk_at dksX4_pass_1 21 rfl rfl)
theorem dX4_pass_46 : decode cX4_pass 46 = .ok (.if_icmp .ge 14, 3) := dk_162 0 14 (dk_at dksX4_pass_2 0 rfl rfl)
theorem dX4_pass_49 : decode cX4_pass 49 = .ok (.aload_n 0, 1) := dk_42 (dk_at dksX4_pass_2 3 rfl rfl)
theorem dX4_pass_50 : decode cX4_pass 50 = .ok (.iload_n 1, 1) := dk_27 (dk_at dksX4_pass_2 4 rfl rfl)
theorem dX4_pass_51 : decode cX4_pass 51 = .ok (.invokevirtual 87, 3) := dk_182 0 87 (dk_at dksX4_pass_2 5 rfl rfl)
theorem dX4_pass_54 : decode cX4_pass 54 = .ok (.iinc 5 1, 3) := dk_132 5 1 (dk_at dksX4_pass_2 8 rfl rfl)
theorem dX4_pass_57 : decode cX4_pass 57 = .ok (.goto (-14), 3) := dk_167 255 242 (dk_at dksX4_pass_2 11 rfl rfl)
theorem dX4_pass_60 : decode cX4_pass 60 = .ok (.aload_n 0, 1) := dk_42 (dk_at dksX4_pass_2 14 rfl rfl)
theorem dX4_pass_61 : decode cX4_pass 61 = .ok (.iload_n 2, 1) := dk_28 (dk_at dksX4_pass_2 15 rfl rfl)
theorem dX4_pass_62 : decode cX4_pass 62 = .ok (.putfield 90, 3) := dk_181 0 90 (dk_at dksX4_pass_2 16 rfl rfl)
theorem dX4_pass_65 : decode cX4_pass 65 = .ok (.aload_n 0, 1) := dk_42 (dk_at dksX4_pass_2 19 rfl rfl)
theorem dX4_pass_66 : decode cX4_pass 66 = .ok (.getfield 84, 3) := dk_180 0 84 (dk_at dksX4_pass_2 20 rfl rfl)
theorem dX4_pass_69 : decode cX4_pass 69 = .ok (.iload 4, 2) := dk_21 4 (dk_at dksX4_pass_3 0 rfl rfl)
theorem dX4_pass_71 : decode cX4_pass 71 = .ok (.isub, 1) := dk_100 (dk_at dksX4_pass_3 2 rfl rfl)
theorem dX4_pass_72 : decode cX4_pass 72 = .ok (.ireturn, 1) := dk_172 (dk_at dksX4_pass_3 3 rfl rfl)
abbrev cX4_day : ByteArray := prog_9_method_16_code
def yX4_day : MethodName := ⟨RX4, "day", "(I)V"⟩
def dkwX4_day_8 : List UInt8 := [181, 0, 134, 177]
abbrev dktX4_day_8 : List UInt8 := dkwX4_day_8 ++ []
def dkwX4_day_7 : List UInt8 := [154, 0, 27, 42, 17, 39, 15, 42, 180, 0, 134, 42, 180, 0, 134, 16, 10, 184, 0, 137, 96, 184, 0, 140]
abbrev dktX4_day_7 : List UInt8 := dkwX4_day_7 ++ dktX4_day_8
def dkwX4_day_6 : List UInt8 := [185, 0, 107, 1, 0, 192, 0, 130, 78, 45, 182, 0, 132, 167, 255, 233, 42, 180, 0, 94, 16, 10, 112]
abbrev dktX4_day_6 : List UInt8 := dkwX4_day_6 ++ dktX4_day_7
def dkwX4_day_5 : List UInt8 := [132, 2, 1, 167, 255, 183, 42, 180, 0, 38, 182, 0, 97, 77, 44, 185, 0, 101, 1, 0, 153, 0, 20, 44]
abbrev dktX4_day_5 : List UInt8 := dkwX4_day_5 ++ dktX4_day_6
def dkwX4_day_4 : List UInt8 := [180, 0, 34, 28, 50, 180, 0, 118, 50, 180, 0, 121, 182, 0, 124, 96, 181, 0, 84, 42, 28, 182, 0, 127]
abbrev dktX4_day_4 : List UInt8 := dkwX4_day_4 ++ dktX4_day_5
def dkwX4_day_3 : List UInt8 := [180, 0, 115, 154, 0, 43, 42, 89, 180, 0, 84, 42, 180, 0, 34, 28, 50, 42, 180, 0, 28, 42]
abbrev dktX4_day_3 : List UInt8 := dkwX4_day_3 ++ dktX4_day_4
def dkwX4_day_2 : List UInt8 := [16, 6, 162, 0, 73, 42, 180, 0, 34, 28, 50, 180, 0, 112, 158, 0, 55, 42, 180, 0, 34, 28, 50]
abbrev dktX4_day_2 : List UInt8 := dkwX4_day_2 ++ dktX4_day_3
def dkwX4_day_1 : List UInt8 := [153, 0, 21, 44, 185, 0, 107, 1, 0, 192, 0, 75, 78, 45, 27, 182, 0, 111, 167, 255, 232, 3, 61, 28]
abbrev dktX4_day_1 : List UInt8 := dkwX4_day_1 ++ dktX4_day_2
def dkwX4_day_0 : List UInt8 := [42, 89, 180, 0, 94, 4, 96, 181, 0, 94, 42, 180, 0, 22, 182, 0, 97, 77, 44, 185, 0, 101, 1, 0]
abbrev dktX4_day_0 : List UInt8 := dkwX4_day_0 ++ dktX4_day_1
theorem dksX4_day_0 : cX4_day.data.toList.drop 0 = dktX4_day_0 := by decide +kernel
theorem dksX4_day_1 : cX4_day.data.toList.drop 24 = dktX4_day_1 := dk_seg dksX4_day_0 24 rfl rfl
theorem dksX4_day_2 : cX4_day.data.toList.drop 48 = dktX4_day_2 := dk_seg dksX4_day_1 24 rfl rfl
theorem dksX4_day_3 : cX4_day.data.toList.drop 71 = dktX4_day_3 := dk_seg dksX4_day_2 23 rfl rfl
theorem dksX4_day_4 : cX4_day.data.toList.drop 93 = dktX4_day_4 := dk_seg dksX4_day_3 22 rfl rfl
theorem dksX4_day_5 : cX4_day.data.toList.drop 117 = dktX4_day_5 := dk_seg dksX4_day_4 24 rfl rfl
theorem dksX4_day_6 : cX4_day.data.toList.drop 141 = dktX4_day_6 := dk_seg dksX4_day_5 24 rfl rfl
theorem dksX4_day_7 : cX4_day.data.toList.drop 164 = dktX4_day_7 := dk_seg dksX4_day_6 23 rfl rfl
theorem dksX4_day_8 : cX4_day.data.toList.drop 188 = dktX4_day_8 := dk_seg dksX4_day_7 24 rfl rfl
theorem dX4_day_0 : decode cX4_day 0 = .ok (.aload_n 0, 1) := dk_42 (dk_at dksX4_day_0 0 rfl rfl)
theorem dX4_day_1 : decode cX4_day 1 = .ok (.dup, 1) := dk_89 (dk_at dksX4_day_0 1 rfl rfl)
theorem dX4_day_2 : decode cX4_day 2 = .ok (.getfield 94, 3) := dk_180 0 94 (dk_at dksX4_day_0 2 rfl rfl)
theorem dX4_day_5 : decode cX4_day 5 = .ok (.iconst 1, 1) := dk_4 (dk_at dksX4_day_0 5 rfl rfl)
theorem dX4_day_6 : decode cX4_day 6 = .ok (.iadd, 1) := dk_96 (dk_at dksX4_day_0 6 rfl rfl)
theorem dX4_day_7 : decode cX4_day 7 = .ok (.putfield 94, 3) := dk_181 0 94 (dk_at dksX4_day_0 7 rfl rfl)
theorem dX4_day_10 : decode cX4_day 10 = .ok (.aload_n 0, 1) := dk_42 (dk_at dksX4_day_0 10 rfl rfl)
theorem dX4_day_11 : decode cX4_day 11 = .ok (.getfield 22, 3) := dk_180 0 22 (dk_at dksX4_day_0 11 rfl rfl)
theorem dX4_day_14 : decode cX4_day 14 = .ok (.invokevirtual 97, 3) := dk_182 0 97 (dk_at dksX4_day_0 14 rfl rfl)
theorem dX4_day_17 : decode cX4_day 17 = .ok (.astore_n 2, 1) := dk_77 (dk_at dksX4_day_0 17 rfl rfl)
theorem dX4_day_18 : decode cX4_day 18 = .ok (.aload_n 2, 1) := dk_44 (dk_at dksX4_day_0 18 rfl rfl)
theorem dX4_day_19 : decode cX4_day 19 = .ok (.invokeinterface 101 1, 5) := by decide +kernel
theorem dX4_day_24 : decode cX4_day 24 = .ok (.ifCond .eq 21, 3) := dk_153 0 21 (dk_at dksX4_day_1 0 rfl rfl)
theorem dX4_day_27 : decode cX4_day 27 = .ok (.aload_n 2, 1) := dk_44 (dk_at dksX4_day_1 3 rfl rfl)
theorem dX4_day_28 : decode cX4_day 28 = .ok (.invokeinterface 107 1, 5) := by decide +kernel
theorem dX4_day_33 : decode cX4_day 33 = .ok (.checkcast 75, 3) := dk_192 0 75 (dk_at dksX4_day_1 9 rfl rfl)
theorem dX4_day_36 : decode cX4_day 36 = .ok (.astore_n 3, 1) := dk_78 (dk_at dksX4_day_1 12 rfl rfl)
theorem dX4_day_37 : decode cX4_day 37 = .ok (.aload_n 3, 1) := dk_45 (dk_at dksX4_day_1 13 rfl rfl)
theorem dX4_day_38 : decode cX4_day 38 = .ok (.iload_n 1, 1) := dk_27 (dk_at dksX4_day_1 14 rfl rfl)
theorem dX4_day_39 : decode cX4_day 39 = .ok (.invokevirtual 111, 3) := dk_182 0 111 (dk_at dksX4_day_1 15 rfl rfl)
theorem dX4_day_42 : decode cX4_day 42 = .ok (.goto (-24), 3) := dk_167 255 232 (dk_at dksX4_day_1 18 rfl rfl)
theorem dX4_day_45 : decode cX4_day 45 = .ok (.iconst 0, 1) := dk_3 (dk_at dksX4_day_1 21 rfl rfl)
theorem dX4_day_46 : decode cX4_day 46 = .ok (.istore_n 2, 1) := dk_61 (dk_at dksX4_day_1 22 rfl rfl)
theorem dX4_day_47 : decode cX4_day 47 = .ok (.iload_n 2, 1) := dk_28 (dk_at dksX4_day_1 23 rfl rfl)
theorem dX4_day_48 : decode cX4_day 48 = .ok (.bipush 6, 2) := dk_16 6 (dk_at dksX4_day_2 0 rfl rfl)
theorem dX4_day_50 : decode cX4_day 50 = .ok (.if_icmp .ge 73, 3) := dk_162 0 73 (dk_at dksX4_day_2 2 rfl rfl)
theorem dX4_day_53 : decode cX4_day 53 = .ok (.aload_n 0, 1) := dk_42 (dk_at dksX4_day_2 5 rfl rfl)
theorem dX4_day_54 : decode cX4_day 54 = .ok (.getfield 34, 3) := dk_180 0 34 (dk_at dksX4_day_2 6 rfl rfl)
theorem dX4_day_57 : decode cX4_day 57 = .ok (.iload_n 2, 1) := dk_28 (dk_at dksX4_day_2 9 rfl rfl)
theorem dX4_day_58 : decode cX4_day 58 = .ok (.aaload, 1) := dk_50 (dk_at dksX4_day_2 10 rfl rfl)
theorem dX4_day_59 : decode cX4_day 59 = .ok (.getfield 112, 3) := dk_180 0 112 (dk_at dksX4_day_2 11 rfl rfl)
theorem dX4_day_62 : decode cX4_day 62 = .ok (.ifCond .le 55, 3) := dk_158 0 55 (dk_at dksX4_day_2 14 rfl rfl)
theorem dX4_day_65 : decode cX4_day 65 = .ok (.aload_n 0, 1) := dk_42 (dk_at dksX4_day_2 17 rfl rfl)
theorem dX4_day_66 : decode cX4_day 66 = .ok (.getfield 34, 3) := dk_180 0 34 (dk_at dksX4_day_2 18 rfl rfl)
theorem dX4_day_69 : decode cX4_day 69 = .ok (.iload_n 2, 1) := dk_28 (dk_at dksX4_day_2 21 rfl rfl)
theorem dX4_day_70 : decode cX4_day 70 = .ok (.aaload, 1) := dk_50 (dk_at dksX4_day_2 22 rfl rfl)
theorem dX4_day_71 : decode cX4_day 71 = .ok (.getfield 115, 3) := dk_180 0 115 (dk_at dksX4_day_3 0 rfl rfl)
theorem dX4_day_74 : decode cX4_day 74 = .ok (.ifCond .ne 43, 3) := dk_154 0 43 (dk_at dksX4_day_3 3 rfl rfl)
theorem dX4_day_77 : decode cX4_day 77 = .ok (.aload_n 0, 1) := dk_42 (dk_at dksX4_day_3 6 rfl rfl)
theorem dX4_day_78 : decode cX4_day 78 = .ok (.dup, 1) := dk_89 (dk_at dksX4_day_3 7 rfl rfl)
theorem dX4_day_79 : decode cX4_day 79 = .ok (.getfield 84, 3) := dk_180 0 84 (dk_at dksX4_day_3 8 rfl rfl)
theorem dX4_day_82 : decode cX4_day 82 = .ok (.aload_n 0, 1) := dk_42 (dk_at dksX4_day_3 11 rfl rfl)
theorem dX4_day_83 : decode cX4_day 83 = .ok (.getfield 34, 3) := dk_180 0 34 (dk_at dksX4_day_3 12 rfl rfl)
theorem dX4_day_86 : decode cX4_day 86 = .ok (.iload_n 2, 1) := dk_28 (dk_at dksX4_day_3 15 rfl rfl)
theorem dX4_day_87 : decode cX4_day 87 = .ok (.aaload, 1) := dk_50 (dk_at dksX4_day_3 16 rfl rfl)
theorem dX4_day_88 : decode cX4_day 88 = .ok (.aload_n 0, 1) := dk_42 (dk_at dksX4_day_3 17 rfl rfl)
theorem dX4_day_89 : decode cX4_day 89 = .ok (.getfield 28, 3) := dk_180 0 28 (dk_at dksX4_day_3 18 rfl rfl)
theorem dX4_day_92 : decode cX4_day 92 = .ok (.aload_n 0, 1) := dk_42 (dk_at dksX4_day_3 21 rfl rfl)
theorem dX4_day_93 : decode cX4_day 93 = .ok (.getfield 34, 3) := dk_180 0 34 (dk_at dksX4_day_4 0 rfl rfl)
theorem dX4_day_96 : decode cX4_day 96 = .ok (.iload_n 2, 1) := dk_28 (dk_at dksX4_day_4 3 rfl rfl)
theorem dX4_day_97 : decode cX4_day 97 = .ok (.aaload, 1) := dk_50 (dk_at dksX4_day_4 4 rfl rfl)
theorem dX4_day_98 : decode cX4_day 98 = .ok (.getfield 118, 3) := dk_180 0 118 (dk_at dksX4_day_4 5 rfl rfl)
theorem dX4_day_101 : decode cX4_day 101 = .ok (.aaload, 1) := dk_50 (dk_at dksX4_day_4 8 rfl rfl)
theorem dX4_day_102 : decode cX4_day 102 = .ok (.getfield 121, 3) := dk_180 0 121 (dk_at dksX4_day_4 9 rfl rfl)
theorem dX4_day_105 : decode cX4_day 105 = .ok (.invokevirtual 124, 3) := dk_182 0 124 (dk_at dksX4_day_4 12 rfl rfl)
theorem dX4_day_108 : decode cX4_day 108 = .ok (.iadd, 1) := dk_96 (dk_at dksX4_day_4 15 rfl rfl)
theorem dX4_day_109 : decode cX4_day 109 = .ok (.putfield 84, 3) := dk_181 0 84 (dk_at dksX4_day_4 16 rfl rfl)
theorem dX4_day_112 : decode cX4_day 112 = .ok (.aload_n 0, 1) := dk_42 (dk_at dksX4_day_4 19 rfl rfl)
theorem dX4_day_113 : decode cX4_day 113 = .ok (.iload_n 2, 1) := dk_28 (dk_at dksX4_day_4 20 rfl rfl)
theorem dX4_day_114 : decode cX4_day 114 = .ok (.invokevirtual 127, 3) := dk_182 0 127 (dk_at dksX4_day_4 21 rfl rfl)
theorem dX4_day_117 : decode cX4_day 117 = .ok (.iinc 2 1, 3) := dk_132 2 1 (dk_at dksX4_day_5 0 rfl rfl)
theorem dX4_day_120 : decode cX4_day 120 = .ok (.goto (-73), 3) := dk_167 255 183 (dk_at dksX4_day_5 3 rfl rfl)
theorem dX4_day_123 : decode cX4_day 123 = .ok (.aload_n 0, 1) := dk_42 (dk_at dksX4_day_5 6 rfl rfl)
theorem dX4_day_124 : decode cX4_day 124 = .ok (.getfield 38, 3) := dk_180 0 38 (dk_at dksX4_day_5 7 rfl rfl)
theorem dX4_day_127 : decode cX4_day 127 = .ok (.invokevirtual 97, 3) := dk_182 0 97 (dk_at dksX4_day_5 10 rfl rfl)
theorem dX4_day_130 : decode cX4_day 130 = .ok (.astore_n 2, 1) := dk_77 (dk_at dksX4_day_5 13 rfl rfl)
theorem dX4_day_131 : decode cX4_day 131 = .ok (.aload_n 2, 1) := dk_44 (dk_at dksX4_day_5 14 rfl rfl)
theorem dX4_day_132 : decode cX4_day 132 = .ok (.invokeinterface 101 1, 5) := by decide +kernel
theorem dX4_day_137 : decode cX4_day 137 = .ok (.ifCond .eq 20, 3) := dk_153 0 20 (dk_at dksX4_day_5 20 rfl rfl)
theorem dX4_day_140 : decode cX4_day 140 = .ok (.aload_n 2, 1) := dk_44 (dk_at dksX4_day_5 23 rfl rfl)
theorem dX4_day_141 : decode cX4_day 141 = .ok (.invokeinterface 107 1, 5) := by decide +kernel
theorem dX4_day_146 : decode cX4_day 146 = .ok (.checkcast 130, 3) := dk_192 0 130 (dk_at dksX4_day_6 5 rfl rfl)
theorem dX4_day_149 : decode cX4_day 149 = .ok (.astore_n 3, 1) := dk_78 (dk_at dksX4_day_6 8 rfl rfl)
theorem dX4_day_150 : decode cX4_day 150 = .ok (.aload_n 3, 1) := dk_45 (dk_at dksX4_day_6 9 rfl rfl)
theorem dX4_day_151 : decode cX4_day 151 = .ok (.invokevirtual 132, 3) := dk_182 0 132 (dk_at dksX4_day_6 10 rfl rfl)
theorem dX4_day_154 : decode cX4_day 154 = .ok (.goto (-23), 3) := dk_167 255 233 (dk_at dksX4_day_6 13 rfl rfl)
theorem dX4_day_157 : decode cX4_day 157 = .ok (.aload_n 0, 1) := dk_42 (dk_at dksX4_day_6 16 rfl rfl)
theorem dX4_day_158 : decode cX4_day 158 = .ok (.getfield 94, 3) := dk_180 0 94 (dk_at dksX4_day_6 17 rfl rfl)
theorem dX4_day_161 : decode cX4_day 161 = .ok (.bipush 10, 2) := dk_16 10 (dk_at dksX4_day_6 20 rfl rfl)
theorem dX4_day_163 : decode cX4_day 163 = .ok (.irem, 1) := dk_112 (dk_at dksX4_day_6 22 rfl rfl)
theorem dX4_day_164 : decode cX4_day 164 = .ok (.ifCond .ne 27, 3) := dk_154 0 27 (dk_at dksX4_day_7 0 rfl rfl)
theorem dX4_day_167 : decode cX4_day 167 = .ok (.aload_n 0, 1) := dk_42 (dk_at dksX4_day_7 3 rfl rfl)
theorem dX4_day_168 : decode cX4_day 168 = .ok (.sipush 9999, 3) := dk_17 39 15 (dk_at dksX4_day_7 4 rfl rfl)
theorem dX4_day_171 : decode cX4_day 171 = .ok (.aload_n 0, 1) := dk_42 (dk_at dksX4_day_7 7 rfl rfl)
theorem dX4_day_172 : decode cX4_day 172 = .ok (.getfield 134, 3) := dk_180 0 134 (dk_at dksX4_day_7 8 rfl rfl)
theorem dX4_day_175 : decode cX4_day 175 = .ok (.aload_n 0, 1) := dk_42 (dk_at dksX4_day_7 11 rfl rfl)
theorem dX4_day_176 : decode cX4_day 176 = .ok (.getfield 134, 3) := dk_180 0 134 (dk_at dksX4_day_7 12 rfl rfl)
theorem dX4_day_179 : decode cX4_day 179 = .ok (.bipush 10, 2) := dk_16 10 (dk_at dksX4_day_7 15 rfl rfl)
theorem dX4_day_181 : decode cX4_day 181 = .ok (.invokestatic 137, 3) := dk_184 0 137 (dk_at dksX4_day_7 17 rfl rfl)
theorem dX4_day_184 : decode cX4_day 184 = .ok (.iadd, 1) := dk_96 (dk_at dksX4_day_7 20 rfl rfl)
theorem dX4_day_185 : decode cX4_day 185 = .ok (.invokestatic 140, 3) := dk_184 0 140 (dk_at dksX4_day_7 21 rfl rfl)
theorem dX4_day_188 : decode cX4_day 188 = .ok (.putfield 134, 3) := dk_181 0 134 (dk_at dksX4_day_8 0 rfl rfl)
theorem dX4_day_191 : decode cX4_day 191 = .ok (.return_, 1) := dk_177 (dk_at dksX4_day_8 3 rfl rfl)
abbrev cX4_up : ByteArray := prog_9_method_2_code
def yX4_up : MethodName := ⟨RX4, "up", "(II)I"⟩
def dkwX4_up_0 : List UInt8 := [26, 27, 96, 4, 100, 27, 108, 172]
abbrev dktX4_up_0 : List UInt8 := dkwX4_up_0 ++ []
theorem dksX4_up_0 : cX4_up.data.toList.drop 0 = dktX4_up_0 := by decide +kernel
theorem dX4_up_0 : decode cX4_up 0 = .ok (.iload_n 0, 1) := dk_26 (dk_at dksX4_up_0 0 rfl rfl)
theorem dX4_up_1 : decode cX4_up 1 = .ok (.iload_n 1, 1) := dk_27 (dk_at dksX4_up_0 1 rfl rfl)
theorem dX4_up_2 : decode cX4_up 2 = .ok (.iadd, 1) := dk_96 (dk_at dksX4_up_0 2 rfl rfl)
theorem dX4_up_3 : decode cX4_up 3 = .ok (.iconst 1, 1) := dk_4 (dk_at dksX4_up_0 3 rfl rfl)
theorem dX4_up_4 : decode cX4_up 4 = .ok (.isub, 1) := dk_100 (dk_at dksX4_up_0 4 rfl rfl)
theorem dX4_up_5 : decode cX4_up 5 = .ok (.iload_n 1, 1) := dk_27 (dk_at dksX4_up_0 5 rfl rfl)
theorem dX4_up_6 : decode cX4_up 6 = .ok (.idiv, 1) := dk_108 (dk_at dksX4_up_0 6 rfl rfl)
theorem dX4_up_7 : decode cX4_up 7 = .ok (.ireturn, 1) := dk_172 (dk_at dksX4_up_0 7 rfl rfl)
abbrev cX4_empty : ByteArray := prog_9_method_17_code
def yX4_empty : MethodName := ⟨RX4, "empty", "(I)V"⟩
def dkwX4_empty_1 : List UInt8 := [83, 177]
abbrev dktX4_empty_1 : List UInt8 := dkwX4_empty_1 ++ []
def dkwX4_empty_0 : List UInt8 := [42, 180, 0, 34, 27, 50, 180, 0, 112, 154, 0, 16, 42, 180, 0, 34, 27, 187, 0, 32, 89, 183, 0, 56]
abbrev dktX4_empty_0 : List UInt8 := dkwX4_empty_0 ++ dktX4_empty_1
theorem dksX4_empty_0 : cX4_empty.data.toList.drop 0 = dktX4_empty_0 := by decide +kernel
theorem dksX4_empty_1 : cX4_empty.data.toList.drop 24 = dktX4_empty_1 := dk_seg dksX4_empty_0 24 rfl rfl
theorem dX4_empty_0 : decode cX4_empty 0 = .ok (.aload_n 0, 1) := dk_42 (dk_at dksX4_empty_0 0 rfl rfl)
theorem dX4_empty_1 : decode cX4_empty 1 = .ok (.getfield 34, 3) := dk_180 0 34 (dk_at dksX4_empty_0 1 rfl rfl)
theorem dX4_empty_4 : decode cX4_empty 4 = .ok (.iload_n 1, 1) := dk_27 (dk_at dksX4_empty_0 4 rfl rfl)
theorem dX4_empty_5 : decode cX4_empty 5 = .ok (.aaload, 1) := dk_50 (dk_at dksX4_empty_0 5 rfl rfl)
theorem dX4_empty_6 : decode cX4_empty 6 = .ok (.getfield 112, 3) := dk_180 0 112 (dk_at dksX4_empty_0 6 rfl rfl)
theorem dX4_empty_9 : decode cX4_empty 9 = .ok (.ifCond .ne 16, 3) := dk_154 0 16 (dk_at dksX4_empty_0 9 rfl rfl)
theorem dX4_empty_12 : decode cX4_empty 12 = .ok (.aload_n 0, 1) := dk_42 (dk_at dksX4_empty_0 12 rfl rfl)
theorem dX4_empty_13 : decode cX4_empty 13 = .ok (.getfield 34, 3) := dk_180 0 34 (dk_at dksX4_empty_0 13 rfl rfl)
theorem dX4_empty_16 : decode cX4_empty 16 = .ok (.iload_n 1, 1) := dk_27 (dk_at dksX4_empty_0 16 rfl rfl)
theorem dX4_empty_17 : decode cX4_empty 17 = .ok (.new 32, 3) := dk_187 0 32 (dk_at dksX4_empty_0 17 rfl rfl)
theorem dX4_empty_20 : decode cX4_empty 20 = .ok (.dup, 1) := dk_89 (dk_at dksX4_empty_0 20 rfl rfl)
theorem dX4_empty_21 : decode cX4_empty 21 = .ok (.invokespecial 56, 3) := dk_183 0 56 (dk_at dksX4_empty_0 21 rfl rfl)
theorem dX4_empty_24 : decode cX4_empty 24 = .ok (.aastore, 1) := dk_83 (dk_at dksX4_empty_1 0 rfl rfl)
theorem dX4_empty_25 : decode cX4_empty 25 = .ok (.return_, 1) := dk_177 (dk_at dksX4_empty_1 1 rfl rfl)
abbrev cX4_pick : ByteArray := prog_9_method_18_code
def yX4_pick : MethodName := ⟨RX4, "pick", "(II)I"⟩
def dkwX4_pick_3 : List UInt8 := [153, 0, 13, 42, 89, 180, 0, 157, 29, 96, 181, 0, 157, 29, 172]
abbrev dktX4_pick_3 : List UInt8 := dkwX4_pick_3 ++ []
def dkwX4_pick_2 : List UInt8 := [192, 0, 75, 28, 182, 0, 151, 62, 42, 89, 180, 0, 154, 29, 96, 181, 0, 154, 42, 180, 0, 90]
abbrev dktX4_pick_2 : List UInt8 := dkwX4_pick_2 ++ dktX4_pick_3
def dkwX4_pick_1 : List UInt8 := [4, 167, 0, 4, 3, 5, 182, 0, 60, 153, 0, 5, 3, 172, 42, 180, 0, 22, 27, 182, 0, 147]
abbrev dktX4_pick_1 : List UInt8 := dkwX4_pick_1 ++ dktX4_pick_2
def dkwX4_pick_0 : List UInt8 := [42, 42, 27, 182, 0, 143, 4, 182, 0, 72, 154, 0, 26, 42, 28, 4, 16, 99, 184, 0, 68, 154, 0, 7]
abbrev dktX4_pick_0 : List UInt8 := dkwX4_pick_0 ++ dktX4_pick_1
theorem dksX4_pick_0 : cX4_pick.data.toList.drop 0 = dktX4_pick_0 := by decide +kernel
theorem dksX4_pick_1 : cX4_pick.data.toList.drop 24 = dktX4_pick_1 := dk_seg dksX4_pick_0 24 rfl rfl
theorem dksX4_pick_2 : cX4_pick.data.toList.drop 46 = dktX4_pick_2 := dk_seg dksX4_pick_1 22 rfl rfl
theorem dksX4_pick_3 : cX4_pick.data.toList.drop 68 = dktX4_pick_3 := dk_seg dksX4_pick_2 22 rfl rfl
theorem dX4_pick_0 : decode cX4_pick 0 = .ok (.aload_n 0, 1) := dk_42 (dk_at dksX4_pick_0 0 rfl rfl)
theorem dX4_pick_1 : decode cX4_pick 1 = .ok (.aload_n 0, 1) := dk_42 (dk_at dksX4_pick_0 1 rfl rfl)
theorem dX4_pick_2 : decode cX4_pick 2 = .ok (.iload_n 1, 1) := dk_27 (dk_at dksX4_pick_0 2 rfl rfl)
theorem dX4_pick_3 : decode cX4_pick 3 = .ok (.invokevirtual 143, 3) := dk_182 0 143 (dk_at dksX4_pick_0 3 rfl rfl)
theorem dX4_pick_6 : decode cX4_pick 6 = .ok (.iconst 1, 1) := dk_4 (dk_at dksX4_pick_0 6 rfl rfl)
theorem dX4_pick_7 : decode cX4_pick 7 = .ok (.invokevirtual 72, 3) := dk_182 0 72 (dk_at dksX4_pick_0 7 rfl rfl)
theorem dX4_pick_10 : decode cX4_pick 10 = .ok (.ifCond .ne 26, 3) := dk_154 0 26 (dk_at dksX4_pick_0 10 rfl rfl)
theorem dX4_pick_13 : decode cX4_pick 13 = .ok (.aload_n 0, 1) := dk_42 (dk_at dksX4_pick_0 13 rfl rfl)
theorem dX4_pick_14 : decode cX4_pick 14 = .ok (.iload_n 2, 1) := dk_28 (dk_at dksX4_pick_0 14 rfl rfl)
theorem dX4_pick_15 : decode cX4_pick 15 = .ok (.iconst 1, 1) := dk_4 (dk_at dksX4_pick_0 15 rfl rfl)
theorem dX4_pick_16 : decode cX4_pick 16 = .ok (.bipush 99, 2) := dk_16 99 (dk_at dksX4_pick_0 16 rfl rfl)
theorem dX4_pick_18 : decode cX4_pick 18 = .ok (.invokestatic 68, 3) := dk_184 0 68 (dk_at dksX4_pick_0 18 rfl rfl)
theorem dX4_pick_21 : decode cX4_pick 21 = .ok (.ifCond .ne 7, 3) := dk_154 0 7 (dk_at dksX4_pick_0 21 rfl rfl)
theorem dX4_pick_24 : decode cX4_pick 24 = .ok (.iconst 1, 1) := dk_4 (dk_at dksX4_pick_1 0 rfl rfl)
theorem dX4_pick_25 : decode cX4_pick 25 = .ok (.goto 4, 3) := dk_167 0 4 (dk_at dksX4_pick_1 1 rfl rfl)
theorem dX4_pick_28 : decode cX4_pick 28 = .ok (.iconst 0, 1) := dk_3 (dk_at dksX4_pick_1 4 rfl rfl)
theorem dX4_pick_29 : decode cX4_pick 29 = .ok (.iconst 2, 1) := dk_5 (dk_at dksX4_pick_1 5 rfl rfl)
theorem dX4_pick_30 : decode cX4_pick 30 = .ok (.invokevirtual 60, 3) := dk_182 0 60 (dk_at dksX4_pick_1 6 rfl rfl)
theorem dX4_pick_33 : decode cX4_pick 33 = .ok (.ifCond .eq 5, 3) := dk_153 0 5 (dk_at dksX4_pick_1 9 rfl rfl)
theorem dX4_pick_36 : decode cX4_pick 36 = .ok (.iconst 0, 1) := dk_3 (dk_at dksX4_pick_1 12 rfl rfl)
theorem dX4_pick_37 : decode cX4_pick 37 = .ok (.ireturn, 1) := dk_172 (dk_at dksX4_pick_1 13 rfl rfl)
theorem dX4_pick_38 : decode cX4_pick 38 = .ok (.aload_n 0, 1) := dk_42 (dk_at dksX4_pick_1 14 rfl rfl)
theorem dX4_pick_39 : decode cX4_pick 39 = .ok (.getfield 22, 3) := dk_180 0 22 (dk_at dksX4_pick_1 15 rfl rfl)
theorem dX4_pick_42 : decode cX4_pick 42 = .ok (.iload_n 1, 1) := dk_27 (dk_at dksX4_pick_1 18 rfl rfl)
theorem dX4_pick_43 : decode cX4_pick 43 = .ok (.invokevirtual 147, 3) := dk_182 0 147 (dk_at dksX4_pick_1 19 rfl rfl)
theorem dX4_pick_46 : decode cX4_pick 46 = .ok (.checkcast 75, 3) := dk_192 0 75 (dk_at dksX4_pick_2 0 rfl rfl)
theorem dX4_pick_49 : decode cX4_pick 49 = .ok (.iload_n 2, 1) := dk_28 (dk_at dksX4_pick_2 3 rfl rfl)
theorem dX4_pick_50 : decode cX4_pick 50 = .ok (.invokevirtual 151, 3) := dk_182 0 151 (dk_at dksX4_pick_2 4 rfl rfl)
theorem dX4_pick_53 : decode cX4_pick 53 = .ok (.istore_n 3, 1) := dk_62 (dk_at dksX4_pick_2 7 rfl rfl)
theorem dX4_pick_54 : decode cX4_pick 54 = .ok (.aload_n 0, 1) := dk_42 (dk_at dksX4_pick_2 8 rfl rfl)
theorem dX4_pick_55 : decode cX4_pick 55 = .ok (.dup, 1) := dk_89 (dk_at dksX4_pick_2 9 rfl rfl)
theorem dX4_pick_56 : decode cX4_pick 56 = .ok (.getfield 154, 3) := dk_180 0 154 (dk_at dksX4_pick_2 10 rfl rfl)
theorem dX4_pick_59 : decode cX4_pick 59 = .ok (.iload_n 3, 1) := dk_29 (dk_at dksX4_pick_2 13 rfl rfl)
theorem dX4_pick_60 : decode cX4_pick 60 = .ok (.iadd, 1) := dk_96 (dk_at dksX4_pick_2 14 rfl rfl)
theorem dX4_pick_61 : decode cX4_pick 61 = .ok (.putfield 154, 3) := dk_181 0 154 (dk_at dksX4_pick_2 15 rfl rfl)
theorem dX4_pick_64 : decode cX4_pick 64 = .ok (.aload_n 0, 1) := dk_42 (dk_at dksX4_pick_2 18 rfl rfl)
theorem dX4_pick_65 : decode cX4_pick 65 = .ok (.getfield 90, 3) := dk_180 0 90 (dk_at dksX4_pick_2 19 rfl rfl)
theorem dX4_pick_68 : decode cX4_pick 68 = .ok (.ifCond .eq 13, 3) := dk_153 0 13 (dk_at dksX4_pick_3 0 rfl rfl)
theorem dX4_pick_71 : decode cX4_pick 71 = .ok (.aload_n 0, 1) := dk_42 (dk_at dksX4_pick_3 3 rfl rfl)
theorem dX4_pick_72 : decode cX4_pick 72 = .ok (.dup, 1) := dk_89 (dk_at dksX4_pick_3 4 rfl rfl)
theorem dX4_pick_73 : decode cX4_pick 73 = .ok (.getfield 157, 3) := dk_180 0 157 (dk_at dksX4_pick_3 5 rfl rfl)
theorem dX4_pick_76 : decode cX4_pick 76 = .ok (.iload_n 3, 1) := dk_29 (dk_at dksX4_pick_3 8 rfl rfl)
theorem dX4_pick_77 : decode cX4_pick 77 = .ok (.iadd, 1) := dk_96 (dk_at dksX4_pick_3 9 rfl rfl)
theorem dX4_pick_78 : decode cX4_pick 78 = .ok (.putfield 157, 3) := dk_181 0 157 (dk_at dksX4_pick_3 10 rfl rfl)
theorem dX4_pick_81 : decode cX4_pick 81 = .ok (.iload_n 3, 1) := dk_29 (dk_at dksX4_pick_3 13 rfl rfl)
theorem dX4_pick_82 : decode cX4_pick 82 = .ok (.ireturn, 1) := dk_172 (dk_at dksX4_pick_3 14 rfl rfl)
abbrev cX4_isNoPlot : ByteArray := prog_9_method_8_code
def yX4_isNoPlot : MethodName := ⟨RX4, "isNoPlot", "(I)Z"⟩
def dkwX4_isNoPlot_0 : List UInt8 := [27, 3, 42, 180, 0, 22, 182, 0, 64, 4, 100, 184, 0, 68, 154, 0, 7, 4, 167, 0, 4, 3, 172]
abbrev dktX4_isNoPlot_0 : List UInt8 := dkwX4_isNoPlot_0 ++ []
theorem dksX4_isNoPlot_0 : cX4_isNoPlot.data.toList.drop 0 = dktX4_isNoPlot_0 := by decide +kernel
theorem dX4_isNoPlot_0 : decode cX4_isNoPlot 0 = .ok (.iload_n 1, 1) := dk_27 (dk_at dksX4_isNoPlot_0 0 rfl rfl)
theorem dX4_isNoPlot_1 : decode cX4_isNoPlot 1 = .ok (.iconst 0, 1) := dk_3 (dk_at dksX4_isNoPlot_0 1 rfl rfl)
theorem dX4_isNoPlot_2 : decode cX4_isNoPlot 2 = .ok (.aload_n 0, 1) := dk_42 (dk_at dksX4_isNoPlot_0 2 rfl rfl)
theorem dX4_isNoPlot_3 : decode cX4_isNoPlot 3 = .ok (.getfield 22, 3) := dk_180 0 22 (dk_at dksX4_isNoPlot_0 3 rfl rfl)
theorem dX4_isNoPlot_6 : decode cX4_isNoPlot 6 = .ok (.invokevirtual 64, 3) := dk_182 0 64 (dk_at dksX4_isNoPlot_0 6 rfl rfl)
theorem dX4_isNoPlot_9 : decode cX4_isNoPlot 9 = .ok (.iconst 1, 1) := dk_4 (dk_at dksX4_isNoPlot_0 9 rfl rfl)
theorem dX4_isNoPlot_10 : decode cX4_isNoPlot 10 = .ok (.isub, 1) := dk_100 (dk_at dksX4_isNoPlot_0 10 rfl rfl)
theorem dX4_isNoPlot_11 : decode cX4_isNoPlot 11 = .ok (.invokestatic 68, 3) := dk_184 0 68 (dk_at dksX4_isNoPlot_0 11 rfl rfl)
theorem dX4_isNoPlot_14 : decode cX4_isNoPlot 14 = .ok (.ifCond .ne 7, 3) := dk_154 0 7 (dk_at dksX4_isNoPlot_0 14 rfl rfl)
theorem dX4_isNoPlot_17 : decode cX4_isNoPlot 17 = .ok (.iconst 1, 1) := dk_4 (dk_at dksX4_isNoPlot_0 17 rfl rfl)
theorem dX4_isNoPlot_18 : decode cX4_isNoPlot 18 = .ok (.goto 4, 3) := dk_167 0 4 (dk_at dksX4_isNoPlot_0 18 rfl rfl)
theorem dX4_isNoPlot_21 : decode cX4_isNoPlot 21 = .ok (.iconst 0, 1) := dk_3 (dk_at dksX4_isNoPlot_0 21 rfl rfl)
theorem dX4_isNoPlot_22 : decode cX4_isNoPlot 22 = .ok (.ireturn, 1) := dk_172 (dk_at dksX4_isNoPlot_0 22 rfl rfl)
abbrev cX4_prune : ByteArray := prog_9_method_19_code
def yX4_prune : MethodName := ⟨RX4, "prune", "(I)I"⟩
def dkwX4_prune_1 : List UInt8 := [182, 0, 147, 192, 0, 75, 182, 0, 160, 172]
abbrev dktX4_prune_1 : List UInt8 := dkwX4_prune_1 ++ []
def dkwX4_prune_0 : List UInt8 := [42, 42, 27, 182, 0, 143, 4, 182, 0, 72, 153, 0, 7, 3, 167, 0, 17, 42, 180, 0, 22, 27]
abbrev dktX4_prune_0 : List UInt8 := dkwX4_prune_0 ++ dktX4_prune_1
theorem dksX4_prune_0 : cX4_prune.data.toList.drop 0 = dktX4_prune_0 := by decide +kernel
theorem dksX4_prune_1 : cX4_prune.data.toList.drop 22 = dktX4_prune_1 := dk_seg dksX4_prune_0 22 rfl rfl
theorem dX4_prune_0 : decode cX4_prune 0 = .ok (.aload_n 0, 1) := dk_42 (dk_at dksX4_prune_0 0 rfl rfl)
theorem dX4_prune_1 : decode cX4_prune 1 = .ok (.aload_n 0, 1) := dk_42 (dk_at dksX4_prune_0 1 rfl rfl)
theorem dX4_prune_2 : decode cX4_prune 2 = .ok (.iload_n 1, 1) := dk_27 (dk_at dksX4_prune_0 2 rfl rfl)
theorem dX4_prune_3 : decode cX4_prune 3 = .ok (.invokevirtual 143, 3) := dk_182 0 143 (dk_at dksX4_prune_0 3 rfl rfl)
theorem dX4_prune_6 : decode cX4_prune 6 = .ok (.iconst 1, 1) := dk_4 (dk_at dksX4_prune_0 6 rfl rfl)
theorem dX4_prune_7 : decode cX4_prune 7 = .ok (.invokevirtual 72, 3) := dk_182 0 72 (dk_at dksX4_prune_0 7 rfl rfl)
theorem dX4_prune_10 : decode cX4_prune 10 = .ok (.ifCond .eq 7, 3) := dk_153 0 7 (dk_at dksX4_prune_0 10 rfl rfl)
theorem dX4_prune_13 : decode cX4_prune 13 = .ok (.iconst 0, 1) := dk_3 (dk_at dksX4_prune_0 13 rfl rfl)
theorem dX4_prune_14 : decode cX4_prune 14 = .ok (.goto 17, 3) := dk_167 0 17 (dk_at dksX4_prune_0 14 rfl rfl)
theorem dX4_prune_17 : decode cX4_prune 17 = .ok (.aload_n 0, 1) := dk_42 (dk_at dksX4_prune_0 17 rfl rfl)
theorem dX4_prune_18 : decode cX4_prune 18 = .ok (.getfield 22, 3) := dk_180 0 22 (dk_at dksX4_prune_0 18 rfl rfl)
theorem dX4_prune_21 : decode cX4_prune 21 = .ok (.iload_n 1, 1) := dk_27 (dk_at dksX4_prune_0 21 rfl rfl)
theorem dX4_prune_22 : decode cX4_prune 22 = .ok (.invokevirtual 147, 3) := dk_182 0 147 (dk_at dksX4_prune_1 0 rfl rfl)
theorem dX4_prune_25 : decode cX4_prune 25 = .ok (.checkcast 75, 3) := dk_192 0 75 (dk_at dksX4_prune_1 3 rfl rfl)
theorem dX4_prune_28 : decode cX4_prune 28 = .ok (.invokevirtual 160, 3) := dk_182 0 160 (dk_at dksX4_prune_1 6 rfl rfl)
theorem dX4_prune_31 : decode cX4_prune 31 = .ok (.ireturn, 1) := dk_172 (dk_at dksX4_prune_1 9 rfl rfl)
abbrev cX4_buy : ByteArray := prog_9_method_20_code
def yX4_buy : MethodName := ⟨RX4, "buy", "(I)I"⟩
def dkwX4_buy_3 : List UInt8 := [27, 96, 181, 0, 154, 27, 6, 184, 0, 137, 172]
abbrev dktX4_buy_3 : List UInt8 := dkwX4_buy_3 ++ []
def dkwX4_buy_2 : List UInt8 := [153, 0, 5, 3, 172, 42, 89, 180, 0, 51, 27, 6, 184, 0, 137, 100, 181, 0, 51, 42, 89, 180, 0, 154]
abbrev dktX4_buy_2 : List UInt8 := dkwX4_buy_2 ++ dktX4_buy_3
def dkwX4_buy_1 : List UInt8 := [42, 27, 6, 184, 0, 137, 42, 180, 0, 51, 164, 0, 7, 4, 167, 0, 4, 3, 5, 182, 0, 60]
abbrev dktX4_buy_1 : List UInt8 := dkwX4_buy_1 ++ dktX4_buy_2
def dkwX4_buy_0 : List UInt8 := [42, 27, 4, 17, 1, 44, 184, 0, 68, 154, 0, 7, 4, 167, 0, 4, 3, 4, 182, 0, 72, 154, 0, 28]
abbrev dktX4_buy_0 : List UInt8 := dkwX4_buy_0 ++ dktX4_buy_1
theorem dksX4_buy_0 : cX4_buy.data.toList.drop 0 = dktX4_buy_0 := by decide +kernel
theorem dksX4_buy_1 : cX4_buy.data.toList.drop 24 = dktX4_buy_1 := dk_seg dksX4_buy_0 24 rfl rfl
theorem dksX4_buy_2 : cX4_buy.data.toList.drop 46 = dktX4_buy_2 := dk_seg dksX4_buy_1 22 rfl rfl
theorem dksX4_buy_3 : cX4_buy.data.toList.drop 70 = dktX4_buy_3 := dk_seg dksX4_buy_2 24 rfl rfl
theorem dX4_buy_0 : decode cX4_buy 0 = .ok (.aload_n 0, 1) := dk_42 (dk_at dksX4_buy_0 0 rfl rfl)
theorem dX4_buy_1 : decode cX4_buy 1 = .ok (.iload_n 1, 1) := dk_27 (dk_at dksX4_buy_0 1 rfl rfl)
theorem dX4_buy_2 : decode cX4_buy 2 = .ok (.iconst 1, 1) := dk_4 (dk_at dksX4_buy_0 2 rfl rfl)
theorem dX4_buy_3 : decode cX4_buy 3 = .ok (.sipush 300, 3) := dk_17 1 44 (dk_at dksX4_buy_0 3 rfl rfl)
theorem dX4_buy_6 : decode cX4_buy 6 = .ok (.invokestatic 68, 3) := dk_184 0 68 (dk_at dksX4_buy_0 6 rfl rfl)
theorem dX4_buy_9 : decode cX4_buy 9 = .ok (.ifCond .ne 7, 3) := dk_154 0 7 (dk_at dksX4_buy_0 9 rfl rfl)
theorem dX4_buy_12 : decode cX4_buy 12 = .ok (.iconst 1, 1) := dk_4 (dk_at dksX4_buy_0 12 rfl rfl)
theorem dX4_buy_13 : decode cX4_buy 13 = .ok (.goto 4, 3) := dk_167 0 4 (dk_at dksX4_buy_0 13 rfl rfl)
theorem dX4_buy_16 : decode cX4_buy 16 = .ok (.iconst 0, 1) := dk_3 (dk_at dksX4_buy_0 16 rfl rfl)
theorem dX4_buy_17 : decode cX4_buy 17 = .ok (.iconst 1, 1) := dk_4 (dk_at dksX4_buy_0 17 rfl rfl)
theorem dX4_buy_18 : decode cX4_buy 18 = .ok (.invokevirtual 72, 3) := dk_182 0 72 (dk_at dksX4_buy_0 18 rfl rfl)
theorem dX4_buy_21 : decode cX4_buy 21 = .ok (.ifCond .ne 28, 3) := dk_154 0 28 (dk_at dksX4_buy_0 21 rfl rfl)
theorem dX4_buy_24 : decode cX4_buy 24 = .ok (.aload_n 0, 1) := dk_42 (dk_at dksX4_buy_1 0 rfl rfl)
theorem dX4_buy_25 : decode cX4_buy 25 = .ok (.iload_n 1, 1) := dk_27 (dk_at dksX4_buy_1 1 rfl rfl)
theorem dX4_buy_26 : decode cX4_buy 26 = .ok (.iconst 3, 1) := dk_6 (dk_at dksX4_buy_1 2 rfl rfl)
theorem dX4_buy_27 : decode cX4_buy 27 = .ok (.invokestatic 137, 3) := dk_184 0 137 (dk_at dksX4_buy_1 3 rfl rfl)
theorem dX4_buy_30 : decode cX4_buy 30 = .ok (.aload_n 0, 1) := dk_42 (dk_at dksX4_buy_1 6 rfl rfl)
theorem dX4_buy_31 : decode cX4_buy 31 = .ok (.getfield 51, 3) := dk_180 0 51 (dk_at dksX4_buy_1 7 rfl rfl)
theorem dX4_buy_34 : decode cX4_buy 34 = .ok (.if_icmp .le 7, 3) := dk_164 0 7 (dk_at dksX4_buy_1 10 rfl rfl)
theorem dX4_buy_37 : decode cX4_buy 37 = .ok (.iconst 1, 1) := dk_4 (dk_at dksX4_buy_1 13 rfl rfl)
theorem dX4_buy_38 : decode cX4_buy 38 = .ok (.goto 4, 3) := dk_167 0 4 (dk_at dksX4_buy_1 14 rfl rfl)
theorem dX4_buy_41 : decode cX4_buy 41 = .ok (.iconst 0, 1) := dk_3 (dk_at dksX4_buy_1 17 rfl rfl)
theorem dX4_buy_42 : decode cX4_buy 42 = .ok (.iconst 2, 1) := dk_5 (dk_at dksX4_buy_1 18 rfl rfl)
theorem dX4_buy_43 : decode cX4_buy 43 = .ok (.invokevirtual 60, 3) := dk_182 0 60 (dk_at dksX4_buy_1 19 rfl rfl)
theorem dX4_buy_46 : decode cX4_buy 46 = .ok (.ifCond .eq 5, 3) := dk_153 0 5 (dk_at dksX4_buy_2 0 rfl rfl)
theorem dX4_buy_49 : decode cX4_buy 49 = .ok (.iconst 0, 1) := dk_3 (dk_at dksX4_buy_2 3 rfl rfl)
theorem dX4_buy_50 : decode cX4_buy 50 = .ok (.ireturn, 1) := dk_172 (dk_at dksX4_buy_2 4 rfl rfl)
theorem dX4_buy_51 : decode cX4_buy 51 = .ok (.aload_n 0, 1) := dk_42 (dk_at dksX4_buy_2 5 rfl rfl)
theorem dX4_buy_52 : decode cX4_buy 52 = .ok (.dup, 1) := dk_89 (dk_at dksX4_buy_2 6 rfl rfl)
theorem dX4_buy_53 : decode cX4_buy 53 = .ok (.getfield 51, 3) := dk_180 0 51 (dk_at dksX4_buy_2 7 rfl rfl)
theorem dX4_buy_56 : decode cX4_buy 56 = .ok (.iload_n 1, 1) := dk_27 (dk_at dksX4_buy_2 10 rfl rfl)
theorem dX4_buy_57 : decode cX4_buy 57 = .ok (.iconst 3, 1) := dk_6 (dk_at dksX4_buy_2 11 rfl rfl)
theorem dX4_buy_58 : decode cX4_buy 58 = .ok (.invokestatic 137, 3) := dk_184 0 137 (dk_at dksX4_buy_2 12 rfl rfl)
theorem dX4_buy_61 : decode cX4_buy 61 = .ok (.isub, 1) := dk_100 (dk_at dksX4_buy_2 15 rfl rfl)
theorem dX4_buy_62 : decode cX4_buy 62 = .ok (.putfield 51, 3) := dk_181 0 51 (dk_at dksX4_buy_2 16 rfl rfl)
theorem dX4_buy_65 : decode cX4_buy 65 = .ok (.aload_n 0, 1) := dk_42 (dk_at dksX4_buy_2 19 rfl rfl)
theorem dX4_buy_66 : decode cX4_buy 66 = .ok (.dup, 1) := dk_89 (dk_at dksX4_buy_2 20 rfl rfl)
theorem dX4_buy_67 : decode cX4_buy 67 = .ok (.getfield 154, 3) := dk_180 0 154 (dk_at dksX4_buy_2 21 rfl rfl)
theorem dX4_buy_70 : decode cX4_buy 70 = .ok (.iload_n 1, 1) := dk_27 (dk_at dksX4_buy_3 0 rfl rfl)
theorem dX4_buy_71 : decode cX4_buy 71 = .ok (.iadd, 1) := dk_96 (dk_at dksX4_buy_3 1 rfl rfl)
theorem dX4_buy_72 : decode cX4_buy 72 = .ok (.putfield 154, 3) := dk_181 0 154 (dk_at dksX4_buy_3 2 rfl rfl)
theorem dX4_buy_75 : decode cX4_buy 75 = .ok (.iload_n 1, 1) := dk_27 (dk_at dksX4_buy_3 5 rfl rfl)
theorem dX4_buy_76 : decode cX4_buy 76 = .ok (.iconst 3, 1) := dk_6 (dk_at dksX4_buy_3 6 rfl rfl)
theorem dX4_buy_77 : decode cX4_buy 77 = .ok (.invokestatic 137, 3) := dk_184 0 137 (dk_at dksX4_buy_3 7 rfl rfl)
theorem dX4_buy_80 : decode cX4_buy 80 = .ok (.ireturn, 1) := dk_172 (dk_at dksX4_buy_3 10 rfl rfl)
abbrev cX4_line : ByteArray := prog_9_method_21_code
def yX4_line : MethodName := ⟨RX4, "line", "(IIII)I"⟩
def dkwX4_line_4 : List UInt8 := [50, 21, 4, 181, 0, 166, 21, 5, 172]
abbrev dktX4_line_4 : List UInt8 := dkwX4_line_4 ++ []
def dkwX4_line_3 : List UInt8 := [180, 0, 28, 27, 50, 28, 181, 0, 169, 42, 180, 0, 28, 27, 50, 29, 181, 0, 121, 42, 180, 0, 28, 27]
abbrev dktX4_line_3 : List UInt8 := dkwX4_line_3 ++ dktX4_line_4
def dkwX4_line_2 : List UInt8 := [3, 5, 182, 0, 60, 153, 0, 5, 3, 172, 42, 180, 0, 28, 27, 50, 180, 0, 166, 54, 5, 42]
abbrev dktX4_line_2 : List UInt8 := dkwX4_line_2 ++ dktX4_line_3
def dkwX4_line_1 : List UInt8 := [3, 16, 9, 184, 0, 68, 153, 0, 14, 21, 4, 3, 16, 10, 184, 0, 68, 154, 0, 7, 4, 167, 0, 4]
abbrev dktX4_line_1 : List UInt8 := dkwX4_line_1 ++ dktX4_line_2
def dkwX4_line_0 : List UInt8 := [42, 27, 184, 0, 163, 4, 182, 0, 72, 154, 0, 47, 42, 28, 5, 16, 6, 184, 0, 68, 153, 0, 24, 29]
abbrev dktX4_line_0 : List UInt8 := dkwX4_line_0 ++ dktX4_line_1
theorem dksX4_line_0 : cX4_line.data.toList.drop 0 = dktX4_line_0 := by decide +kernel
theorem dksX4_line_1 : cX4_line.data.toList.drop 24 = dktX4_line_1 := dk_seg dksX4_line_0 24 rfl rfl
theorem dksX4_line_2 : cX4_line.data.toList.drop 48 = dktX4_line_2 := dk_seg dksX4_line_1 24 rfl rfl
theorem dksX4_line_3 : cX4_line.data.toList.drop 70 = dktX4_line_3 := dk_seg dksX4_line_2 22 rfl rfl
theorem dksX4_line_4 : cX4_line.data.toList.drop 94 = dktX4_line_4 := dk_seg dksX4_line_3 24 rfl rfl
theorem dX4_line_0 : decode cX4_line 0 = .ok (.aload_n 0, 1) := dk_42 (dk_at dksX4_line_0 0 rfl rfl)
theorem dX4_line_1 : decode cX4_line 1 = .ok (.iload_n 1, 1) := dk_27 (dk_at dksX4_line_0 1 rfl rfl)
theorem dX4_line_2 : decode cX4_line 2 = .ok (.invokestatic 163, 3) := dk_184 0 163 (dk_at dksX4_line_0 2 rfl rfl)
theorem dX4_line_5 : decode cX4_line 5 = .ok (.iconst 1, 1) := dk_4 (dk_at dksX4_line_0 5 rfl rfl)
theorem dX4_line_6 : decode cX4_line 6 = .ok (.invokevirtual 72, 3) := dk_182 0 72 (dk_at dksX4_line_0 6 rfl rfl)
theorem dX4_line_9 : decode cX4_line 9 = .ok (.ifCond .ne 47, 3) := dk_154 0 47 (dk_at dksX4_line_0 9 rfl rfl)
theorem dX4_line_12 : decode cX4_line 12 = .ok (.aload_n 0, 1) := dk_42 (dk_at dksX4_line_0 12 rfl rfl)
theorem dX4_line_13 : decode cX4_line 13 = .ok (.iload_n 2, 1) := dk_28 (dk_at dksX4_line_0 13 rfl rfl)
theorem dX4_line_14 : decode cX4_line 14 = .ok (.iconst 2, 1) := dk_5 (dk_at dksX4_line_0 14 rfl rfl)
theorem dX4_line_15 : decode cX4_line 15 = .ok (.bipush 6, 2) := dk_16 6 (dk_at dksX4_line_0 15 rfl rfl)
theorem dX4_line_17 : decode cX4_line 17 = .ok (.invokestatic 68, 3) := dk_184 0 68 (dk_at dksX4_line_0 17 rfl rfl)
theorem dX4_line_20 : decode cX4_line 20 = .ok (.ifCond .eq 24, 3) := dk_153 0 24 (dk_at dksX4_line_0 20 rfl rfl)
theorem dX4_line_23 : decode cX4_line 23 = .ok (.iload_n 3, 1) := dk_29 (dk_at dksX4_line_0 23 rfl rfl)
theorem dX4_line_24 : decode cX4_line 24 = .ok (.iconst 0, 1) := dk_3 (dk_at dksX4_line_1 0 rfl rfl)
theorem dX4_line_25 : decode cX4_line 25 = .ok (.bipush 9, 2) := dk_16 9 (dk_at dksX4_line_1 1 rfl rfl)
theorem dX4_line_27 : decode cX4_line 27 = .ok (.invokestatic 68, 3) := dk_184 0 68 (dk_at dksX4_line_1 3 rfl rfl)
theorem dX4_line_30 : decode cX4_line 30 = .ok (.ifCond .eq 14, 3) := dk_153 0 14 (dk_at dksX4_line_1 6 rfl rfl)
theorem dX4_line_33 : decode cX4_line 33 = .ok (.iload 4, 2) := dk_21 4 (dk_at dksX4_line_1 9 rfl rfl)
theorem dX4_line_35 : decode cX4_line 35 = .ok (.iconst 0, 1) := dk_3 (dk_at dksX4_line_1 11 rfl rfl)
theorem dX4_line_36 : decode cX4_line 36 = .ok (.bipush 10, 2) := dk_16 10 (dk_at dksX4_line_1 12 rfl rfl)
theorem dX4_line_38 : decode cX4_line 38 = .ok (.invokestatic 68, 3) := dk_184 0 68 (dk_at dksX4_line_1 14 rfl rfl)
theorem dX4_line_41 : decode cX4_line 41 = .ok (.ifCond .ne 7, 3) := dk_154 0 7 (dk_at dksX4_line_1 17 rfl rfl)
theorem dX4_line_44 : decode cX4_line 44 = .ok (.iconst 1, 1) := dk_4 (dk_at dksX4_line_1 20 rfl rfl)
theorem dX4_line_45 : decode cX4_line 45 = .ok (.goto 4, 3) := dk_167 0 4 (dk_at dksX4_line_1 21 rfl rfl)
theorem dX4_line_48 : decode cX4_line 48 = .ok (.iconst 0, 1) := dk_3 (dk_at dksX4_line_2 0 rfl rfl)
theorem dX4_line_49 : decode cX4_line 49 = .ok (.iconst 2, 1) := dk_5 (dk_at dksX4_line_2 1 rfl rfl)
theorem dX4_line_50 : decode cX4_line 50 = .ok (.invokevirtual 60, 3) := dk_182 0 60 (dk_at dksX4_line_2 2 rfl rfl)
theorem dX4_line_53 : decode cX4_line 53 = .ok (.ifCond .eq 5, 3) := dk_153 0 5 (dk_at dksX4_line_2 5 rfl rfl)
theorem dX4_line_56 : decode cX4_line 56 = .ok (.iconst 0, 1) := dk_3 (dk_at dksX4_line_2 8 rfl rfl)
theorem dX4_line_57 : decode cX4_line 57 = .ok (.ireturn, 1) := dk_172 (dk_at dksX4_line_2 9 rfl rfl)
theorem dX4_line_58 : decode cX4_line 58 = .ok (.aload_n 0, 1) := dk_42 (dk_at dksX4_line_2 10 rfl rfl)
theorem dX4_line_59 : decode cX4_line 59 = .ok (.getfield 28, 3) := dk_180 0 28 (dk_at dksX4_line_2 11 rfl rfl)
theorem dX4_line_62 : decode cX4_line 62 = .ok (.iload_n 1, 1) := dk_27 (dk_at dksX4_line_2 14 rfl rfl)
theorem dX4_line_63 : decode cX4_line 63 = .ok (.aaload, 1) := dk_50 (dk_at dksX4_line_2 15 rfl rfl)
theorem dX4_line_64 : decode cX4_line 64 = .ok (.getfield 166, 3) := dk_180 0 166 (dk_at dksX4_line_2 16 rfl rfl)
theorem dX4_line_67 : decode cX4_line 67 = .ok (.istore 5, 2) := dk_54 5 (dk_at dksX4_line_2 19 rfl rfl)
theorem dX4_line_69 : decode cX4_line 69 = .ok (.aload_n 0, 1) := dk_42 (dk_at dksX4_line_2 21 rfl rfl)
theorem dX4_line_70 : decode cX4_line 70 = .ok (.getfield 28, 3) := dk_180 0 28 (dk_at dksX4_line_3 0 rfl rfl)
theorem dX4_line_73 : decode cX4_line 73 = .ok (.iload_n 1, 1) := dk_27 (dk_at dksX4_line_3 3 rfl rfl)
theorem dX4_line_74 : decode cX4_line 74 = .ok (.aaload, 1) := dk_50 (dk_at dksX4_line_3 4 rfl rfl)
theorem dX4_line_75 : decode cX4_line 75 = .ok (.iload_n 2, 1) := dk_28 (dk_at dksX4_line_3 5 rfl rfl)
theorem dX4_line_76 : decode cX4_line 76 = .ok (.putfield 169, 3) := dk_181 0 169 (dk_at dksX4_line_3 6 rfl rfl)
theorem dX4_line_79 : decode cX4_line 79 = .ok (.aload_n 0, 1) := dk_42 (dk_at dksX4_line_3 9 rfl rfl)
theorem dX4_line_80 : decode cX4_line 80 = .ok (.getfield 28, 3) := dk_180 0 28 (dk_at dksX4_line_3 10 rfl rfl)
theorem dX4_line_83 : decode cX4_line 83 = .ok (.iload_n 1, 1) := dk_27 (dk_at dksX4_line_3 13 rfl rfl)
theorem dX4_line_84 : decode cX4_line 84 = .ok (.aaload, 1) := dk_50 (dk_at dksX4_line_3 14 rfl rfl)
theorem dX4_line_85 : decode cX4_line 85 = .ok (.iload_n 3, 1) := dk_29 (dk_at dksX4_line_3 15 rfl rfl)
theorem dX4_line_86 : decode cX4_line 86 = .ok (.putfield 121, 3) := dk_181 0 121 (dk_at dksX4_line_3 16 rfl rfl)
theorem dX4_line_89 : decode cX4_line 89 = .ok (.aload_n 0, 1) := dk_42 (dk_at dksX4_line_3 19 rfl rfl)
theorem dX4_line_90 : decode cX4_line 90 = .ok (.getfield 28, 3) := dk_180 0 28 (dk_at dksX4_line_3 20 rfl rfl)
theorem dX4_line_93 : decode cX4_line 93 = .ok (.iload_n 1, 1) := dk_27 (dk_at dksX4_line_3 23 rfl rfl)
theorem dX4_line_94 : decode cX4_line 94 = .ok (.aaload, 1) := dk_50 (dk_at dksX4_line_4 0 rfl rfl)
theorem dX4_line_95 : decode cX4_line 95 = .ok (.iload 4, 2) := dk_21 4 (dk_at dksX4_line_4 1 rfl rfl)
theorem dX4_line_97 : decode cX4_line 97 = .ok (.putfield 166, 3) := dk_181 0 166 (dk_at dksX4_line_4 3 rfl rfl)
theorem dX4_line_100 : decode cX4_line 100 = .ok (.iload 5, 2) := dk_21 5 (dk_at dksX4_line_4 6 rfl rfl)
theorem dX4_line_102 : decode cX4_line 102 = .ok (.ireturn, 1) := dk_172 (dk_at dksX4_line_4 8 rfl rfl)
abbrev cX4_isNoLine : ByteArray := prog_9_method_9_code
def yX4_isNoLine : MethodName := ⟨RX4, "isNoLine", "(I)Z"⟩
def dkwX4_isNoLine_0 : List UInt8 := [26, 3, 6, 184, 0, 68, 154, 0, 7, 4, 167, 0, 4, 3, 172]
abbrev dktX4_isNoLine_0 : List UInt8 := dkwX4_isNoLine_0 ++ []
theorem dksX4_isNoLine_0 : cX4_isNoLine.data.toList.drop 0 = dktX4_isNoLine_0 := by decide +kernel
theorem dX4_isNoLine_0 : decode cX4_isNoLine 0 = .ok (.iload_n 0, 1) := dk_26 (dk_at dksX4_isNoLine_0 0 rfl rfl)
theorem dX4_isNoLine_1 : decode cX4_isNoLine 1 = .ok (.iconst 0, 1) := dk_3 (dk_at dksX4_isNoLine_0 1 rfl rfl)
theorem dX4_isNoLine_2 : decode cX4_isNoLine 2 = .ok (.iconst 3, 1) := dk_6 (dk_at dksX4_isNoLine_0 2 rfl rfl)
theorem dX4_isNoLine_3 : decode cX4_isNoLine 3 = .ok (.invokestatic 68, 3) := dk_184 0 68 (dk_at dksX4_isNoLine_0 3 rfl rfl)
theorem dX4_isNoLine_6 : decode cX4_isNoLine 6 = .ok (.ifCond .ne 7, 3) := dk_154 0 7 (dk_at dksX4_isNoLine_0 6 rfl rfl)
theorem dX4_isNoLine_9 : decode cX4_isNoLine 9 = .ok (.iconst 1, 1) := dk_4 (dk_at dksX4_isNoLine_0 9 rfl rfl)
theorem dX4_isNoLine_10 : decode cX4_isNoLine 10 = .ok (.goto 4, 3) := dk_167 0 4 (dk_at dksX4_isNoLine_0 10 rfl rfl)
theorem dX4_isNoLine_13 : decode cX4_isNoLine 13 = .ok (.iconst 0, 1) := dk_3 (dk_at dksX4_isNoLine_0 13 rfl rfl)
theorem dX4_isNoLine_14 : decode cX4_isNoLine 14 = .ok (.ireturn, 1) := dk_172 (dk_at dksX4_isNoLine_0 14 rfl rfl)
abbrev cX4_hatch : ByteArray := prog_9_method_22_code
def yX4_hatch : MethodName := ⟨RX4, "hatch", "(III)I"⟩
def dkwX4_hatch_5 : List UInt8 := [181, 0, 118, 25, 4, 4, 181, 0, 177, 42, 180, 0, 34, 28, 25, 4, 83, 25, 4, 180, 0, 174, 172]
abbrev dktX4_hatch_5 : List UInt8 := dkwX4_hatch_5 ++ []
def dkwX4_hatch_4 : List UInt8 := [25, 4, 29, 42, 180, 0, 28, 27, 50, 180, 0, 166, 104, 16, 10, 108, 181, 0, 174, 25, 4, 27]
abbrev dktX4_hatch_4 : List UInt8 := dkwX4_hatch_4 ++ dktX4_hatch_5
def dkwX4_hatch_3 : List UInt8 := [182, 0, 60, 153, 0, 5, 3, 172, 187, 0, 32, 89, 183, 0, 56, 58, 4, 25, 4, 29, 181, 0, 112]
abbrev dktX4_hatch_3 : List UInt8 := dkwX4_hatch_3 ++ dktX4_hatch_4
def dkwX4_hatch_2 : List UInt8 := [154, 0, 28, 42, 42, 180, 0, 34, 28, 50, 180, 0, 112, 158, 0, 7, 4, 167, 0, 4, 3, 6]
abbrev dktX4_hatch_2 : List UInt8 := dkwX4_hatch_2 ++ dktX4_hatch_3
def dkwX4_hatch_1 : List UInt8 := [154, 0, 52, 42, 29, 4, 17, 0, 200, 184, 0, 68, 154, 0, 7, 4, 167, 0, 4, 3, 5, 182, 0, 60]
abbrev dktX4_hatch_1 : List UInt8 := dkwX4_hatch_1 ++ dktX4_hatch_2
def dkwX4_hatch_0 : List UInt8 := [42, 27, 184, 0, 163, 154, 0, 10, 28, 184, 0, 171, 153, 0, 7, 4, 167, 0, 4, 3, 4, 182, 0, 72]
abbrev dktX4_hatch_0 : List UInt8 := dkwX4_hatch_0 ++ dktX4_hatch_1
theorem dksX4_hatch_0 : cX4_hatch.data.toList.drop 0 = dktX4_hatch_0 := by decide +kernel
theorem dksX4_hatch_1 : cX4_hatch.data.toList.drop 24 = dktX4_hatch_1 := dk_seg dksX4_hatch_0 24 rfl rfl
theorem dksX4_hatch_2 : cX4_hatch.data.toList.drop 48 = dktX4_hatch_2 := dk_seg dksX4_hatch_1 24 rfl rfl
theorem dksX4_hatch_3 : cX4_hatch.data.toList.drop 70 = dktX4_hatch_3 := dk_seg dksX4_hatch_2 22 rfl rfl
theorem dksX4_hatch_4 : cX4_hatch.data.toList.drop 93 = dktX4_hatch_4 := dk_seg dksX4_hatch_3 23 rfl rfl
theorem dksX4_hatch_5 : cX4_hatch.data.toList.drop 115 = dktX4_hatch_5 := dk_seg dksX4_hatch_4 22 rfl rfl
theorem dX4_hatch_0 : decode cX4_hatch 0 = .ok (.aload_n 0, 1) := dk_42 (dk_at dksX4_hatch_0 0 rfl rfl)
theorem dX4_hatch_1 : decode cX4_hatch 1 = .ok (.iload_n 1, 1) := dk_27 (dk_at dksX4_hatch_0 1 rfl rfl)
theorem dX4_hatch_2 : decode cX4_hatch 2 = .ok (.invokestatic 163, 3) := dk_184 0 163 (dk_at dksX4_hatch_0 2 rfl rfl)
theorem dX4_hatch_5 : decode cX4_hatch 5 = .ok (.ifCond .ne 10, 3) := dk_154 0 10 (dk_at dksX4_hatch_0 5 rfl rfl)
theorem dX4_hatch_8 : decode cX4_hatch 8 = .ok (.iload_n 2, 1) := dk_28 (dk_at dksX4_hatch_0 8 rfl rfl)
theorem dX4_hatch_9 : decode cX4_hatch 9 = .ok (.invokestatic 171, 3) := dk_184 0 171 (dk_at dksX4_hatch_0 9 rfl rfl)
theorem dX4_hatch_12 : decode cX4_hatch 12 = .ok (.ifCond .eq 7, 3) := dk_153 0 7 (dk_at dksX4_hatch_0 12 rfl rfl)
theorem dX4_hatch_15 : decode cX4_hatch 15 = .ok (.iconst 1, 1) := dk_4 (dk_at dksX4_hatch_0 15 rfl rfl)
theorem dX4_hatch_16 : decode cX4_hatch 16 = .ok (.goto 4, 3) := dk_167 0 4 (dk_at dksX4_hatch_0 16 rfl rfl)
theorem dX4_hatch_19 : decode cX4_hatch 19 = .ok (.iconst 0, 1) := dk_3 (dk_at dksX4_hatch_0 19 rfl rfl)
theorem dX4_hatch_20 : decode cX4_hatch 20 = .ok (.iconst 1, 1) := dk_4 (dk_at dksX4_hatch_0 20 rfl rfl)
theorem dX4_hatch_21 : decode cX4_hatch 21 = .ok (.invokevirtual 72, 3) := dk_182 0 72 (dk_at dksX4_hatch_0 21 rfl rfl)
theorem dX4_hatch_24 : decode cX4_hatch 24 = .ok (.ifCond .ne 52, 3) := dk_154 0 52 (dk_at dksX4_hatch_1 0 rfl rfl)
theorem dX4_hatch_27 : decode cX4_hatch 27 = .ok (.aload_n 0, 1) := dk_42 (dk_at dksX4_hatch_1 3 rfl rfl)
theorem dX4_hatch_28 : decode cX4_hatch 28 = .ok (.iload_n 3, 1) := dk_29 (dk_at dksX4_hatch_1 4 rfl rfl)
theorem dX4_hatch_29 : decode cX4_hatch 29 = .ok (.iconst 1, 1) := dk_4 (dk_at dksX4_hatch_1 5 rfl rfl)
theorem dX4_hatch_30 : decode cX4_hatch 30 = .ok (.sipush 200, 3) := dk_17 0 200 (dk_at dksX4_hatch_1 6 rfl rfl)
theorem dX4_hatch_33 : decode cX4_hatch 33 = .ok (.invokestatic 68, 3) := dk_184 0 68 (dk_at dksX4_hatch_1 9 rfl rfl)
theorem dX4_hatch_36 : decode cX4_hatch 36 = .ok (.ifCond .ne 7, 3) := dk_154 0 7 (dk_at dksX4_hatch_1 12 rfl rfl)
theorem dX4_hatch_39 : decode cX4_hatch 39 = .ok (.iconst 1, 1) := dk_4 (dk_at dksX4_hatch_1 15 rfl rfl)
theorem dX4_hatch_40 : decode cX4_hatch 40 = .ok (.goto 4, 3) := dk_167 0 4 (dk_at dksX4_hatch_1 16 rfl rfl)
theorem dX4_hatch_43 : decode cX4_hatch 43 = .ok (.iconst 0, 1) := dk_3 (dk_at dksX4_hatch_1 19 rfl rfl)
theorem dX4_hatch_44 : decode cX4_hatch 44 = .ok (.iconst 2, 1) := dk_5 (dk_at dksX4_hatch_1 20 rfl rfl)
theorem dX4_hatch_45 : decode cX4_hatch 45 = .ok (.invokevirtual 60, 3) := dk_182 0 60 (dk_at dksX4_hatch_1 21 rfl rfl)
theorem dX4_hatch_48 : decode cX4_hatch 48 = .ok (.ifCond .ne 28, 3) := dk_154 0 28 (dk_at dksX4_hatch_2 0 rfl rfl)
theorem dX4_hatch_51 : decode cX4_hatch 51 = .ok (.aload_n 0, 1) := dk_42 (dk_at dksX4_hatch_2 3 rfl rfl)
theorem dX4_hatch_52 : decode cX4_hatch 52 = .ok (.aload_n 0, 1) := dk_42 (dk_at dksX4_hatch_2 4 rfl rfl)
theorem dX4_hatch_53 : decode cX4_hatch 53 = .ok (.getfield 34, 3) := dk_180 0 34 (dk_at dksX4_hatch_2 5 rfl rfl)
theorem dX4_hatch_56 : decode cX4_hatch 56 = .ok (.iload_n 2, 1) := dk_28 (dk_at dksX4_hatch_2 8 rfl rfl)
theorem dX4_hatch_57 : decode cX4_hatch 57 = .ok (.aaload, 1) := dk_50 (dk_at dksX4_hatch_2 9 rfl rfl)
theorem dX4_hatch_58 : decode cX4_hatch 58 = .ok (.getfield 112, 3) := dk_180 0 112 (dk_at dksX4_hatch_2 10 rfl rfl)
theorem dX4_hatch_61 : decode cX4_hatch 61 = .ok (.ifCond .le 7, 3) := dk_158 0 7 (dk_at dksX4_hatch_2 13 rfl rfl)
theorem dX4_hatch_64 : decode cX4_hatch 64 = .ok (.iconst 1, 1) := dk_4 (dk_at dksX4_hatch_2 16 rfl rfl)
theorem dX4_hatch_65 : decode cX4_hatch 65 = .ok (.goto 4, 3) := dk_167 0 4 (dk_at dksX4_hatch_2 17 rfl rfl)
theorem dX4_hatch_68 : decode cX4_hatch 68 = .ok (.iconst 0, 1) := dk_3 (dk_at dksX4_hatch_2 20 rfl rfl)
theorem dX4_hatch_69 : decode cX4_hatch 69 = .ok (.iconst 3, 1) := dk_6 (dk_at dksX4_hatch_2 21 rfl rfl)
theorem dX4_hatch_70 : decode cX4_hatch 70 = .ok (.invokevirtual 60, 3) := dk_182 0 60 (dk_at dksX4_hatch_3 0 rfl rfl)
theorem dX4_hatch_73 : decode cX4_hatch 73 = .ok (.ifCond .eq 5, 3) := dk_153 0 5 (dk_at dksX4_hatch_3 3 rfl rfl)
theorem dX4_hatch_76 : decode cX4_hatch 76 = .ok (.iconst 0, 1) := dk_3 (dk_at dksX4_hatch_3 6 rfl rfl)
theorem dX4_hatch_77 : decode cX4_hatch 77 = .ok (.ireturn, 1) := dk_172 (dk_at dksX4_hatch_3 7 rfl rfl)
theorem dX4_hatch_78 : decode cX4_hatch 78 = .ok (.new 32, 3) := dk_187 0 32 (dk_at dksX4_hatch_3 8 rfl rfl)
theorem dX4_hatch_81 : decode cX4_hatch 81 = .ok (.dup, 1) := dk_89 (dk_at dksX4_hatch_3 11 rfl rfl)
theorem dX4_hatch_82 : decode cX4_hatch 82 = .ok (.invokespecial 56, 3) := dk_183 0 56 (dk_at dksX4_hatch_3 12 rfl rfl)
theorem dX4_hatch_85 : decode cX4_hatch 85 = .ok (.astore 4, 2) := dk_58 4 (dk_at dksX4_hatch_3 15 rfl rfl)
theorem dX4_hatch_87 : decode cX4_hatch 87 = .ok (.aload 4, 2) := dk_25 4 (dk_at dksX4_hatch_3 17 rfl rfl)
theorem dX4_hatch_89 : decode cX4_hatch 89 = .ok (.iload_n 3, 1) := dk_29 (dk_at dksX4_hatch_3 19 rfl rfl)
theorem dX4_hatch_90 : decode cX4_hatch 90 = .ok (.putfield 112, 3) := dk_181 0 112 (dk_at dksX4_hatch_3 20 rfl rfl)
theorem dX4_hatch_93 : decode cX4_hatch 93 = .ok (.aload 4, 2) := dk_25 4 (dk_at dksX4_hatch_4 0 rfl rfl)
theorem dX4_hatch_95 : decode cX4_hatch 95 = .ok (.iload_n 3, 1) := dk_29 (dk_at dksX4_hatch_4 2 rfl rfl)
theorem dX4_hatch_96 : decode cX4_hatch 96 = .ok (.aload_n 0, 1) := dk_42 (dk_at dksX4_hatch_4 3 rfl rfl)
theorem dX4_hatch_97 : decode cX4_hatch 97 = .ok (.getfield 28, 3) := dk_180 0 28 (dk_at dksX4_hatch_4 4 rfl rfl)
theorem dX4_hatch_100 : decode cX4_hatch 100 = .ok (.iload_n 1, 1) := dk_27 (dk_at dksX4_hatch_4 7 rfl rfl)
theorem dX4_hatch_101 : decode cX4_hatch 101 = .ok (.aaload, 1) := dk_50 (dk_at dksX4_hatch_4 8 rfl rfl)
theorem dX4_hatch_102 : decode cX4_hatch 102 = .ok (.getfield 166, 3) := dk_180 0 166 (dk_at dksX4_hatch_4 9 rfl rfl)
theorem dX4_hatch_105 : decode cX4_hatch 105 = .ok (.imul, 1) := dk_104 (dk_at dksX4_hatch_4 12 rfl rfl)
theorem dX4_hatch_106 : decode cX4_hatch 106 = .ok (.bipush 10, 2) := dk_16 10 (dk_at dksX4_hatch_4 13 rfl rfl)
theorem dX4_hatch_108 : decode cX4_hatch 108 = .ok (.idiv, 1) := dk_108 (dk_at dksX4_hatch_4 15 rfl rfl)
theorem dX4_hatch_109 : decode cX4_hatch 109 = .ok (.putfield 174, 3) := dk_181 0 174 (dk_at dksX4_hatch_4 16 rfl rfl)
theorem dX4_hatch_112 : decode cX4_hatch 112 = .ok (.aload 4, 2) := dk_25 4 (dk_at dksX4_hatch_4 19 rfl rfl)
theorem dX4_hatch_114 : decode cX4_hatch 114 = .ok (.iload_n 1, 1) := dk_27 (dk_at dksX4_hatch_4 21 rfl rfl)
theorem dX4_hatch_115 : decode cX4_hatch 115 = .ok (.putfield 118, 3) := dk_181 0 118 (dk_at dksX4_hatch_5 0 rfl rfl)
theorem dX4_hatch_118 : decode cX4_hatch 118 = .ok (.aload 4, 2) := dk_25 4 (dk_at dksX4_hatch_5 3 rfl rfl)
theorem dX4_hatch_120 : decode cX4_hatch 120 = .ok (.iconst 1, 1) := dk_4 (dk_at dksX4_hatch_5 5 rfl rfl)
theorem dX4_hatch_121 : decode cX4_hatch 121 = .ok (.putfield 177, 3) := dk_181 0 177 (dk_at dksX4_hatch_5 6 rfl rfl)
theorem dX4_hatch_124 : decode cX4_hatch 124 = .ok (.aload_n 0, 1) := dk_42 (dk_at dksX4_hatch_5 9 rfl rfl)
theorem dX4_hatch_125 : decode cX4_hatch 125 = .ok (.getfield 34, 3) := dk_180 0 34 (dk_at dksX4_hatch_5 10 rfl rfl)
theorem dX4_hatch_128 : decode cX4_hatch 128 = .ok (.iload_n 2, 1) := dk_28 (dk_at dksX4_hatch_5 13 rfl rfl)
theorem dX4_hatch_129 : decode cX4_hatch 129 = .ok (.aload 4, 2) := dk_25 4 (dk_at dksX4_hatch_5 14 rfl rfl)
theorem dX4_hatch_131 : decode cX4_hatch 131 = .ok (.aastore, 1) := dk_83 (dk_at dksX4_hatch_5 16 rfl rfl)
theorem dX4_hatch_132 : decode cX4_hatch 132 = .ok (.aload 4, 2) := dk_25 4 (dk_at dksX4_hatch_5 17 rfl rfl)
theorem dX4_hatch_134 : decode cX4_hatch 134 = .ok (.getfield 174, 3) := dk_180 0 174 (dk_at dksX4_hatch_5 19 rfl rfl)
theorem dX4_hatch_137 : decode cX4_hatch 137 = .ok (.ireturn, 1) := dk_172 (dk_at dksX4_hatch_5 22 rfl rfl)
abbrev cX4_isNoTray : ByteArray := prog_9_method_10_code
def yX4_isNoTray : MethodName := ⟨RX4, "isNoTray", "(I)Z"⟩
def dkwX4_isNoTray_0 : List UInt8 := [26, 3, 8, 184, 0, 68, 154, 0, 7, 4, 167, 0, 4, 3, 172]
abbrev dktX4_isNoTray_0 : List UInt8 := dkwX4_isNoTray_0 ++ []
theorem dksX4_isNoTray_0 : cX4_isNoTray.data.toList.drop 0 = dktX4_isNoTray_0 := by decide +kernel
theorem dX4_isNoTray_0 : decode cX4_isNoTray 0 = .ok (.iload_n 0, 1) := dk_26 (dk_at dksX4_isNoTray_0 0 rfl rfl)
theorem dX4_isNoTray_1 : decode cX4_isNoTray 1 = .ok (.iconst 0, 1) := dk_3 (dk_at dksX4_isNoTray_0 1 rfl rfl)
theorem dX4_isNoTray_2 : decode cX4_isNoTray 2 = .ok (.iconst 5, 1) := dk_8 (dk_at dksX4_isNoTray_0 2 rfl rfl)
theorem dX4_isNoTray_3 : decode cX4_isNoTray 3 = .ok (.invokestatic 68, 3) := dk_184 0 68 (dk_at dksX4_isNoTray_0 3 rfl rfl)
theorem dX4_isNoTray_6 : decode cX4_isNoTray 6 = .ok (.ifCond .ne 7, 3) := dk_154 0 7 (dk_at dksX4_isNoTray_0 6 rfl rfl)
theorem dX4_isNoTray_9 : decode cX4_isNoTray 9 = .ok (.iconst 1, 1) := dk_4 (dk_at dksX4_isNoTray_0 9 rfl rfl)
theorem dX4_isNoTray_10 : decode cX4_isNoTray 10 = .ok (.goto 4, 3) := dk_167 0 4 (dk_at dksX4_isNoTray_0 10 rfl rfl)
theorem dX4_isNoTray_13 : decode cX4_isNoTray 13 = .ok (.iconst 0, 1) := dk_3 (dk_at dksX4_isNoTray_0 13 rfl rfl)
theorem dX4_isNoTray_14 : decode cX4_isNoTray 14 = .ok (.ireturn, 1) := dk_172 (dk_at dksX4_isNoTray_0 14 rfl rfl)
abbrev cX4_feed : ByteArray := prog_9_method_23_code
def yX4_feed : MethodName := ⟨RX4, "feed", "(II)I"⟩
def dkwX4_feed_6 : List UInt8 := [96, 181, 0, 186, 21, 4, 172]
abbrev dktX4_feed_6 : List UInt8 := dkwX4_feed_6 ++ []
def dkwX4_feed_5 : List UInt8 := [21, 5, 100, 181, 0, 157, 45, 89, 180, 0, 183, 21, 4, 96, 181, 0, 183, 45, 89, 180, 0, 186, 21, 5]
abbrev dktX4_feed_5 : List UInt8 := dkwX4_feed_5 ++ dktX4_feed_6
def dkwX4_feed_4 : List UInt8 := [180, 0, 157, 184, 0, 140, 54, 5, 42, 89, 180, 0, 154, 21, 4, 100, 181, 0, 154, 42, 89, 180, 0, 157]
abbrev dktX4_feed_4 : List UInt8 := dkwX4_feed_4 ++ dktX4_feed_5
def dkwX4_feed_3 : List UInt8 := [3, 6, 182, 0, 60, 153, 0, 5, 3, 172, 28, 42, 180, 0, 154, 184, 0, 140, 54, 4, 21, 4, 42]
abbrev dktX4_feed_3 : List UInt8 := dkwX4_feed_3 ++ dktX4_feed_4
def dkwX4_feed_2 : List UInt8 := [180, 0, 112, 153, 0, 17, 45, 180, 0, 180, 157, 0, 10, 45, 180, 0, 115, 153, 0, 7, 4, 167, 0, 4]
abbrev dktX4_feed_2 : List UInt8 := dkwX4_feed_2 ++ dktX4_feed_3
def dkwX4_feed_1 : List UInt8 := [4, 167, 0, 4, 3, 5, 182, 0, 60, 153, 0, 5, 3, 172, 42, 180, 0, 34, 27, 50, 78, 42, 45]
abbrev dktX4_feed_1 : List UInt8 := dkwX4_feed_1 ++ dktX4_feed_2
def dkwX4_feed_0 : List UInt8 := [42, 27, 184, 0, 171, 4, 182, 0, 72, 154, 0, 27, 42, 28, 4, 17, 3, 231, 184, 0, 68, 154, 0, 7]
abbrev dktX4_feed_0 : List UInt8 := dkwX4_feed_0 ++ dktX4_feed_1
theorem dksX4_feed_0 : cX4_feed.data.toList.drop 0 = dktX4_feed_0 := by decide +kernel
theorem dksX4_feed_1 : cX4_feed.data.toList.drop 24 = dktX4_feed_1 := dk_seg dksX4_feed_0 24 rfl rfl
theorem dksX4_feed_2 : cX4_feed.data.toList.drop 47 = dktX4_feed_2 := dk_seg dksX4_feed_1 23 rfl rfl
theorem dksX4_feed_3 : cX4_feed.data.toList.drop 71 = dktX4_feed_3 := dk_seg dksX4_feed_2 24 rfl rfl
theorem dksX4_feed_4 : cX4_feed.data.toList.drop 94 = dktX4_feed_4 := dk_seg dksX4_feed_3 23 rfl rfl
theorem dksX4_feed_5 : cX4_feed.data.toList.drop 118 = dktX4_feed_5 := dk_seg dksX4_feed_4 24 rfl rfl
theorem dksX4_feed_6 : cX4_feed.data.toList.drop 142 = dktX4_feed_6 := dk_seg dksX4_feed_5 24 rfl rfl
theorem dX4_feed_0 : decode cX4_feed 0 = .ok (.aload_n 0, 1) := dk_42 (dk_at dksX4_feed_0 0 rfl rfl)
theorem dX4_feed_1 : decode cX4_feed 1 = .ok (.iload_n 1, 1) := dk_27 (dk_at dksX4_feed_0 1 rfl rfl)
theorem dX4_feed_2 : decode cX4_feed 2 = .ok (.invokestatic 171, 3) := dk_184 0 171 (dk_at dksX4_feed_0 2 rfl rfl)
theorem dX4_feed_5 : decode cX4_feed 5 = .ok (.iconst 1, 1) := dk_4 (dk_at dksX4_feed_0 5 rfl rfl)
theorem dX4_feed_6 : decode cX4_feed 6 = .ok (.invokevirtual 72, 3) := dk_182 0 72 (dk_at dksX4_feed_0 6 rfl rfl)
theorem dX4_feed_9 : decode cX4_feed 9 = .ok (.ifCond .ne 27, 3) := dk_154 0 27 (dk_at dksX4_feed_0 9 rfl rfl)
theorem dX4_feed_12 : decode cX4_feed 12 = .ok (.aload_n 0, 1) := dk_42 (dk_at dksX4_feed_0 12 rfl rfl)
theorem dX4_feed_13 : decode cX4_feed 13 = .ok (.iload_n 2, 1) := dk_28 (dk_at dksX4_feed_0 13 rfl rfl)
theorem dX4_feed_14 : decode cX4_feed 14 = .ok (.iconst 1, 1) := dk_4 (dk_at dksX4_feed_0 14 rfl rfl)
theorem dX4_feed_15 : decode cX4_feed 15 = .ok (.sipush 999, 3) := dk_17 3 231 (dk_at dksX4_feed_0 15 rfl rfl)
theorem dX4_feed_18 : decode cX4_feed 18 = .ok (.invokestatic 68, 3) := dk_184 0 68 (dk_at dksX4_feed_0 18 rfl rfl)
theorem dX4_feed_21 : decode cX4_feed 21 = .ok (.ifCond .ne 7, 3) := dk_154 0 7 (dk_at dksX4_feed_0 21 rfl rfl)
theorem dX4_feed_24 : decode cX4_feed 24 = .ok (.iconst 1, 1) := dk_4 (dk_at dksX4_feed_1 0 rfl rfl)
theorem dX4_feed_25 : decode cX4_feed 25 = .ok (.goto 4, 3) := dk_167 0 4 (dk_at dksX4_feed_1 1 rfl rfl)
theorem dX4_feed_28 : decode cX4_feed 28 = .ok (.iconst 0, 1) := dk_3 (dk_at dksX4_feed_1 4 rfl rfl)
theorem dX4_feed_29 : decode cX4_feed 29 = .ok (.iconst 2, 1) := dk_5 (dk_at dksX4_feed_1 5 rfl rfl)
theorem dX4_feed_30 : decode cX4_feed 30 = .ok (.invokevirtual 60, 3) := dk_182 0 60 (dk_at dksX4_feed_1 6 rfl rfl)
theorem dX4_feed_33 : decode cX4_feed 33 = .ok (.ifCond .eq 5, 3) := dk_153 0 5 (dk_at dksX4_feed_1 9 rfl rfl)
theorem dX4_feed_36 : decode cX4_feed 36 = .ok (.iconst 0, 1) := dk_3 (dk_at dksX4_feed_1 12 rfl rfl)
theorem dX4_feed_37 : decode cX4_feed 37 = .ok (.ireturn, 1) := dk_172 (dk_at dksX4_feed_1 13 rfl rfl)
theorem dX4_feed_38 : decode cX4_feed 38 = .ok (.aload_n 0, 1) := dk_42 (dk_at dksX4_feed_1 14 rfl rfl)
theorem dX4_feed_39 : decode cX4_feed 39 = .ok (.getfield 34, 3) := dk_180 0 34 (dk_at dksX4_feed_1 15 rfl rfl)
theorem dX4_feed_42 : decode cX4_feed 42 = .ok (.iload_n 1, 1) := dk_27 (dk_at dksX4_feed_1 18 rfl rfl)
theorem dX4_feed_43 : decode cX4_feed 43 = .ok (.aaload, 1) := dk_50 (dk_at dksX4_feed_1 19 rfl rfl)
theorem dX4_feed_44 : decode cX4_feed 44 = .ok (.astore_n 3, 1) := dk_78 (dk_at dksX4_feed_1 20 rfl rfl)
theorem dX4_feed_45 : decode cX4_feed 45 = .ok (.aload_n 0, 1) := dk_42 (dk_at dksX4_feed_1 21 rfl rfl)
theorem dX4_feed_46 : decode cX4_feed 46 = .ok (.aload_n 3, 1) := dk_45 (dk_at dksX4_feed_1 22 rfl rfl)
theorem dX4_feed_47 : decode cX4_feed 47 = .ok (.getfield 112, 3) := dk_180 0 112 (dk_at dksX4_feed_2 0 rfl rfl)
theorem dX4_feed_50 : decode cX4_feed 50 = .ok (.ifCond .eq 17, 3) := dk_153 0 17 (dk_at dksX4_feed_2 3 rfl rfl)
theorem dX4_feed_53 : decode cX4_feed 53 = .ok (.aload_n 3, 1) := dk_45 (dk_at dksX4_feed_2 6 rfl rfl)
theorem dX4_feed_54 : decode cX4_feed 54 = .ok (.getfield 180, 3) := dk_180 0 180 (dk_at dksX4_feed_2 7 rfl rfl)
theorem dX4_feed_57 : decode cX4_feed 57 = .ok (.ifCond .gt 10, 3) := dk_157 0 10 (dk_at dksX4_feed_2 10 rfl rfl)
theorem dX4_feed_60 : decode cX4_feed 60 = .ok (.aload_n 3, 1) := dk_45 (dk_at dksX4_feed_2 13 rfl rfl)
theorem dX4_feed_61 : decode cX4_feed 61 = .ok (.getfield 115, 3) := dk_180 0 115 (dk_at dksX4_feed_2 14 rfl rfl)
theorem dX4_feed_64 : decode cX4_feed 64 = .ok (.ifCond .eq 7, 3) := dk_153 0 7 (dk_at dksX4_feed_2 17 rfl rfl)
theorem dX4_feed_67 : decode cX4_feed 67 = .ok (.iconst 1, 1) := dk_4 (dk_at dksX4_feed_2 20 rfl rfl)
theorem dX4_feed_68 : decode cX4_feed 68 = .ok (.goto 4, 3) := dk_167 0 4 (dk_at dksX4_feed_2 21 rfl rfl)
theorem dX4_feed_71 : decode cX4_feed 71 = .ok (.iconst 0, 1) := dk_3 (dk_at dksX4_feed_3 0 rfl rfl)
theorem dX4_feed_72 : decode cX4_feed 72 = .ok (.iconst 3, 1) := dk_6 (dk_at dksX4_feed_3 1 rfl rfl)
theorem dX4_feed_73 : decode cX4_feed 73 = .ok (.invokevirtual 60, 3) := dk_182 0 60 (dk_at dksX4_feed_3 2 rfl rfl)
theorem dX4_feed_76 : decode cX4_feed 76 = .ok (.ifCond .eq 5, 3) := dk_153 0 5 (dk_at dksX4_feed_3 5 rfl rfl)
theorem dX4_feed_79 : decode cX4_feed 79 = .ok (.iconst 0, 1) := dk_3 (dk_at dksX4_feed_3 8 rfl rfl)
theorem dX4_feed_80 : decode cX4_feed 80 = .ok (.ireturn, 1) := dk_172 (dk_at dksX4_feed_3 9 rfl rfl)
theorem dX4_feed_81 : decode cX4_feed 81 = .ok (.iload_n 2, 1) := dk_28 (dk_at dksX4_feed_3 10 rfl rfl)
theorem dX4_feed_82 : decode cX4_feed 82 = .ok (.aload_n 0, 1) := dk_42 (dk_at dksX4_feed_3 11 rfl rfl)
theorem dX4_feed_83 : decode cX4_feed 83 = .ok (.getfield 154, 3) := dk_180 0 154 (dk_at dksX4_feed_3 12 rfl rfl)
theorem dX4_feed_86 : decode cX4_feed 86 = .ok (.invokestatic 140, 3) := dk_184 0 140 (dk_at dksX4_feed_3 15 rfl rfl)
theorem dX4_feed_89 : decode cX4_feed 89 = .ok (.istore 4, 2) := dk_54 4 (dk_at dksX4_feed_3 18 rfl rfl)
theorem dX4_feed_91 : decode cX4_feed 91 = .ok (.iload 4, 2) := dk_21 4 (dk_at dksX4_feed_3 20 rfl rfl)
theorem dX4_feed_93 : decode cX4_feed 93 = .ok (.aload_n 0, 1) := dk_42 (dk_at dksX4_feed_3 22 rfl rfl)
theorem dX4_feed_94 : decode cX4_feed 94 = .ok (.getfield 157, 3) := dk_180 0 157 (dk_at dksX4_feed_4 0 rfl rfl)
theorem dX4_feed_97 : decode cX4_feed 97 = .ok (.invokestatic 140, 3) := dk_184 0 140 (dk_at dksX4_feed_4 3 rfl rfl)
theorem dX4_feed_100 : decode cX4_feed 100 = .ok (.istore 5, 2) := dk_54 5 (dk_at dksX4_feed_4 6 rfl rfl)
theorem dX4_feed_102 : decode cX4_feed 102 = .ok (.aload_n 0, 1) := dk_42 (dk_at dksX4_feed_4 8 rfl rfl)
theorem dX4_feed_103 : decode cX4_feed 103 = .ok (.dup, 1) := dk_89 (dk_at dksX4_feed_4 9 rfl rfl)
theorem dX4_feed_104 : decode cX4_feed 104 = .ok (.getfield 154, 3) := dk_180 0 154 (dk_at dksX4_feed_4 10 rfl rfl)
theorem dX4_feed_107 : decode cX4_feed 107 = .ok (.iload 4, 2) := dk_21 4 (dk_at dksX4_feed_4 13 rfl rfl)
theorem dX4_feed_109 : decode cX4_feed 109 = .ok (.isub, 1) := dk_100 (dk_at dksX4_feed_4 15 rfl rfl)
theorem dX4_feed_110 : decode cX4_feed 110 = .ok (.putfield 154, 3) := dk_181 0 154 (dk_at dksX4_feed_4 16 rfl rfl)
theorem dX4_feed_113 : decode cX4_feed 113 = .ok (.aload_n 0, 1) := dk_42 (dk_at dksX4_feed_4 19 rfl rfl)
theorem dX4_feed_114 : decode cX4_feed 114 = .ok (.dup, 1) := dk_89 (dk_at dksX4_feed_4 20 rfl rfl)
theorem dX4_feed_115 : decode cX4_feed 115 = .ok (.getfield 157, 3) := dk_180 0 157 (dk_at dksX4_feed_4 21 rfl rfl)
theorem dX4_feed_118 : decode cX4_feed 118 = .ok (.iload 5, 2) := dk_21 5 (dk_at dksX4_feed_5 0 rfl rfl)
theorem dX4_feed_120 : decode cX4_feed 120 = .ok (.isub, 1) := dk_100 (dk_at dksX4_feed_5 2 rfl rfl)
theorem dX4_feed_121 : decode cX4_feed 121 = .ok (.putfield 157, 3) := dk_181 0 157 (dk_at dksX4_feed_5 3 rfl rfl)
theorem dX4_feed_124 : decode cX4_feed 124 = .ok (.aload_n 3, 1) := dk_45 (dk_at dksX4_feed_5 6 rfl rfl)
theorem dX4_feed_125 : decode cX4_feed 125 = .ok (.dup, 1) := dk_89 (dk_at dksX4_feed_5 7 rfl rfl)
theorem dX4_feed_126 : decode cX4_feed 126 = .ok (.getfield 183, 3) := dk_180 0 183 (dk_at dksX4_feed_5 8 rfl rfl)
theorem dX4_feed_129 : decode cX4_feed 129 = .ok (.iload 4, 2) := dk_21 4 (dk_at dksX4_feed_5 11 rfl rfl)
theorem dX4_feed_131 : decode cX4_feed 131 = .ok (.iadd, 1) := dk_96 (dk_at dksX4_feed_5 13 rfl rfl)
theorem dX4_feed_132 : decode cX4_feed 132 = .ok (.putfield 183, 3) := dk_181 0 183 (dk_at dksX4_feed_5 14 rfl rfl)
theorem dX4_feed_135 : decode cX4_feed 135 = .ok (.aload_n 3, 1) := dk_45 (dk_at dksX4_feed_5 17 rfl rfl)
theorem dX4_feed_136 : decode cX4_feed 136 = .ok (.dup, 1) := dk_89 (dk_at dksX4_feed_5 18 rfl rfl)
theorem dX4_feed_137 : decode cX4_feed 137 = .ok (.getfield 186, 3) := dk_180 0 186 (dk_at dksX4_feed_5 19 rfl rfl)
theorem dX4_feed_140 : decode cX4_feed 140 = .ok (.iload 5, 2) := dk_21 5 (dk_at dksX4_feed_5 22 rfl rfl)
theorem dX4_feed_142 : decode cX4_feed 142 = .ok (.iadd, 1) := dk_96 (dk_at dksX4_feed_6 0 rfl rfl)
theorem dX4_feed_143 : decode cX4_feed 143 = .ok (.putfield 186, 3) := dk_181 0 186 (dk_at dksX4_feed_6 1 rfl rfl)
theorem dX4_feed_146 : decode cX4_feed 146 = .ok (.iload 4, 2) := dk_21 4 (dk_at dksX4_feed_6 4 rfl rfl)
theorem dX4_feed_148 : decode cX4_feed 148 = .ok (.ireturn, 1) := dk_172 (dk_at dksX4_feed_6 6 rfl rfl)
abbrev cX4_clean : ByteArray := prog_9_method_24_code
def yX4_clean : MethodName := ⟨RX4, "clean", "(I)I"⟩
def dkwX4_clean_2 : List UInt8 := [182, 0, 189, 61, 42, 89, 180, 0, 84, 28, 96, 181, 0, 84, 42, 27, 182, 0, 127, 28, 172]
abbrev dktX4_clean_2 : List UInt8 := dkwX4_clean_2 ++ []
def dkwX4_clean_1 : List UInt8 := [154, 0, 7, 4, 167, 0, 4, 3, 5, 182, 0, 60, 153, 0, 5, 3, 172, 42, 180, 0, 34, 27, 50]
abbrev dktX4_clean_1 : List UInt8 := dkwX4_clean_1 ++ dktX4_clean_2
def dkwX4_clean_0 : List UInt8 := [42, 27, 184, 0, 171, 4, 182, 0, 72, 154, 0, 28, 42, 42, 180, 0, 34, 27, 50, 180, 0, 112]
abbrev dktX4_clean_0 : List UInt8 := dkwX4_clean_0 ++ dktX4_clean_1
theorem dksX4_clean_0 : cX4_clean.data.toList.drop 0 = dktX4_clean_0 := by decide +kernel
theorem dksX4_clean_1 : cX4_clean.data.toList.drop 22 = dktX4_clean_1 := dk_seg dksX4_clean_0 22 rfl rfl
theorem dksX4_clean_2 : cX4_clean.data.toList.drop 45 = dktX4_clean_2 := dk_seg dksX4_clean_1 23 rfl rfl
theorem dX4_clean_0 : decode cX4_clean 0 = .ok (.aload_n 0, 1) := dk_42 (dk_at dksX4_clean_0 0 rfl rfl)
theorem dX4_clean_1 : decode cX4_clean 1 = .ok (.iload_n 1, 1) := dk_27 (dk_at dksX4_clean_0 1 rfl rfl)
theorem dX4_clean_2 : decode cX4_clean 2 = .ok (.invokestatic 171, 3) := dk_184 0 171 (dk_at dksX4_clean_0 2 rfl rfl)
theorem dX4_clean_5 : decode cX4_clean 5 = .ok (.iconst 1, 1) := dk_4 (dk_at dksX4_clean_0 5 rfl rfl)
theorem dX4_clean_6 : decode cX4_clean 6 = .ok (.invokevirtual 72, 3) := dk_182 0 72 (dk_at dksX4_clean_0 6 rfl rfl)
theorem dX4_clean_9 : decode cX4_clean 9 = .ok (.ifCond .ne 28, 3) := dk_154 0 28 (dk_at dksX4_clean_0 9 rfl rfl)
theorem dX4_clean_12 : decode cX4_clean 12 = .ok (.aload_n 0, 1) := dk_42 (dk_at dksX4_clean_0 12 rfl rfl)
theorem dX4_clean_13 : decode cX4_clean 13 = .ok (.aload_n 0, 1) := dk_42 (dk_at dksX4_clean_0 13 rfl rfl)
theorem dX4_clean_14 : decode cX4_clean 14 = .ok (.getfield 34, 3) := dk_180 0 34 (dk_at dksX4_clean_0 14 rfl rfl)
theorem dX4_clean_17 : decode cX4_clean 17 = .ok (.iload_n 1, 1) := dk_27 (dk_at dksX4_clean_0 17 rfl rfl)
theorem dX4_clean_18 : decode cX4_clean 18 = .ok (.aaload, 1) := dk_50 (dk_at dksX4_clean_0 18 rfl rfl)
theorem dX4_clean_19 : decode cX4_clean 19 = .ok (.getfield 112, 3) := dk_180 0 112 (dk_at dksX4_clean_0 19 rfl rfl)
theorem dX4_clean_22 : decode cX4_clean 22 = .ok (.ifCond .ne 7, 3) := dk_154 0 7 (dk_at dksX4_clean_1 0 rfl rfl)
theorem dX4_clean_25 : decode cX4_clean 25 = .ok (.iconst 1, 1) := dk_4 (dk_at dksX4_clean_1 3 rfl rfl)
theorem dX4_clean_26 : decode cX4_clean 26 = .ok (.goto 4, 3) := dk_167 0 4 (dk_at dksX4_clean_1 4 rfl rfl)
theorem dX4_clean_29 : decode cX4_clean 29 = .ok (.iconst 0, 1) := dk_3 (dk_at dksX4_clean_1 7 rfl rfl)
theorem dX4_clean_30 : decode cX4_clean 30 = .ok (.iconst 2, 1) := dk_5 (dk_at dksX4_clean_1 8 rfl rfl)
theorem dX4_clean_31 : decode cX4_clean 31 = .ok (.invokevirtual 60, 3) := dk_182 0 60 (dk_at dksX4_clean_1 9 rfl rfl)
theorem dX4_clean_34 : decode cX4_clean 34 = .ok (.ifCond .eq 5, 3) := dk_153 0 5 (dk_at dksX4_clean_1 12 rfl rfl)
theorem dX4_clean_37 : decode cX4_clean 37 = .ok (.iconst 0, 1) := dk_3 (dk_at dksX4_clean_1 15 rfl rfl)
theorem dX4_clean_38 : decode cX4_clean 38 = .ok (.ireturn, 1) := dk_172 (dk_at dksX4_clean_1 16 rfl rfl)
theorem dX4_clean_39 : decode cX4_clean 39 = .ok (.aload_n 0, 1) := dk_42 (dk_at dksX4_clean_1 17 rfl rfl)
theorem dX4_clean_40 : decode cX4_clean 40 = .ok (.getfield 34, 3) := dk_180 0 34 (dk_at dksX4_clean_1 18 rfl rfl)
theorem dX4_clean_43 : decode cX4_clean 43 = .ok (.iload_n 1, 1) := dk_27 (dk_at dksX4_clean_1 21 rfl rfl)
theorem dX4_clean_44 : decode cX4_clean 44 = .ok (.aaload, 1) := dk_50 (dk_at dksX4_clean_1 22 rfl rfl)
theorem dX4_clean_45 : decode cX4_clean 45 = .ok (.invokevirtual 189, 3) := dk_182 0 189 (dk_at dksX4_clean_2 0 rfl rfl)
theorem dX4_clean_48 : decode cX4_clean 48 = .ok (.istore_n 2, 1) := dk_61 (dk_at dksX4_clean_2 3 rfl rfl)
theorem dX4_clean_49 : decode cX4_clean 49 = .ok (.aload_n 0, 1) := dk_42 (dk_at dksX4_clean_2 4 rfl rfl)
theorem dX4_clean_50 : decode cX4_clean 50 = .ok (.dup, 1) := dk_89 (dk_at dksX4_clean_2 5 rfl rfl)
theorem dX4_clean_51 : decode cX4_clean 51 = .ok (.getfield 84, 3) := dk_180 0 84 (dk_at dksX4_clean_2 6 rfl rfl)
theorem dX4_clean_54 : decode cX4_clean 54 = .ok (.iload_n 2, 1) := dk_28 (dk_at dksX4_clean_2 9 rfl rfl)
theorem dX4_clean_55 : decode cX4_clean 55 = .ok (.iadd, 1) := dk_96 (dk_at dksX4_clean_2 10 rfl rfl)
theorem dX4_clean_56 : decode cX4_clean 56 = .ok (.putfield 84, 3) := dk_181 0 84 (dk_at dksX4_clean_2 11 rfl rfl)
theorem dX4_clean_59 : decode cX4_clean 59 = .ok (.aload_n 0, 1) := dk_42 (dk_at dksX4_clean_2 14 rfl rfl)
theorem dX4_clean_60 : decode cX4_clean 60 = .ok (.iload_n 1, 1) := dk_27 (dk_at dksX4_clean_2 15 rfl rfl)
theorem dX4_clean_61 : decode cX4_clean 61 = .ok (.invokevirtual 127, 3) := dk_182 0 127 (dk_at dksX4_clean_2 16 rfl rfl)
theorem dX4_clean_64 : decode cX4_clean 64 = .ok (.iload_n 2, 1) := dk_28 (dk_at dksX4_clean_2 19 rfl rfl)
theorem dX4_clean_65 : decode cX4_clean 65 = .ok (.ireturn, 1) := dk_172 (dk_at dksX4_clean_2 20 rfl rfl)
abbrev cX4_part : ByteArray := prog_9_method_25_code
def yX4_part : MethodName := ⟨RX4, "part", "(III)I"⟩
def dkwX4_part_9 : List UInt8 := [16, 10, 184, 0, 137, 182, 0, 199, 96, 181, 0, 84, 42, 28, 182, 0, 127, 21, 6, 172]
abbrev dktX4_part_9 : List UInt8 := dkwX4_part_9 ++ []
def dkwX4_part_8 : List UInt8 := [180, 0, 34, 28, 25, 5, 83, 25, 5, 180, 0, 180, 158, 0, 23, 42, 89, 180, 0, 84, 25, 5, 29]
abbrev dktX4_part_8 : List UInt8 := dkwX4_part_8 ++ dktX4_part_9
def dkwX4_part_7 : List UInt8 := [25, 4, 89, 180, 0, 112, 29, 100, 181, 0, 112, 25, 4, 89, 180, 0, 174, 21, 6, 100, 181, 0, 174, 42]
abbrev dktX4_part_7 : List UInt8 := dkwX4_part_7 ++ dktX4_part_8
def dkwX4_part_6 : List UInt8 := [21, 6, 181, 0, 174, 25, 5, 3, 181, 0, 183, 25, 5, 3, 181, 0, 186, 25, 5, 3, 181, 0, 196]
abbrev dktX4_part_6 : List UInt8 := dkwX4_part_6 ++ dktX4_part_7
def dkwX4_part_5 : List UInt8 := [25, 4, 180, 0, 174, 29, 104, 25, 4, 180, 0, 112, 108, 54, 6, 25, 5, 29, 181, 0, 112, 25, 5]
abbrev dktX4_part_5 : List UInt8 := dkwX4_part_5 ++ dktX4_part_6
def dkwX4_part_4 : List UInt8 := [182, 0, 60, 153, 0, 5, 3, 172, 42, 180, 0, 34, 27, 50, 58, 4, 25, 4, 182, 0, 192, 58, 5]
abbrev dktX4_part_4 : List UInt8 := dkwX4_part_4 ++ dktX4_part_5
def dkwX4_part_3 : List UInt8 := [180, 0, 115, 154, 0, 15, 42, 180, 0, 34, 28, 50, 180, 0, 112, 158, 0, 7, 4, 167, 0, 4, 3, 6]
abbrev dktX4_part_3 : List UInt8 := dkwX4_part_3 ++ dktX4_part_4
def dkwX4_part_2 : List UInt8 := [154, 0, 53, 42, 42, 180, 0, 34, 27, 50, 180, 0, 112, 29, 164, 0, 27, 42, 180, 0, 34, 27, 50]
abbrev dktX4_part_2 : List UInt8 := dkwX4_part_2 ++ dktX4_part_3
def dkwX4_part_1 : List UInt8 := [154, 0, 76, 42, 27, 28, 159, 0, 8, 29, 4, 162, 0, 7, 4, 167, 0, 4, 3, 5, 182, 0, 60]
abbrev dktX4_part_1 : List UInt8 := dkwX4_part_1 ++ dktX4_part_2
def dkwX4_part_0 : List UInt8 := [42, 27, 184, 0, 171, 154, 0, 10, 28, 184, 0, 171, 153, 0, 7, 4, 167, 0, 4, 3, 4, 182, 0, 72]
abbrev dktX4_part_0 : List UInt8 := dkwX4_part_0 ++ dktX4_part_1
theorem dksX4_part_0 : cX4_part.data.toList.drop 0 = dktX4_part_0 := by decide +kernel
theorem dksX4_part_1 : cX4_part.data.toList.drop 24 = dktX4_part_1 := dk_seg dksX4_part_0 24 rfl rfl
theorem dksX4_part_2 : cX4_part.data.toList.drop 47 = dktX4_part_2 := dk_seg dksX4_part_1 23 rfl rfl
theorem dksX4_part_3 : cX4_part.data.toList.drop 70 = dktX4_part_3 := dk_seg dksX4_part_2 23 rfl rfl
theorem dksX4_part_4 : cX4_part.data.toList.drop 94 = dktX4_part_4 := dk_seg dksX4_part_3 24 rfl rfl
theorem dksX4_part_5 : cX4_part.data.toList.drop 117 = dktX4_part_5 := dk_seg dksX4_part_4 23 rfl rfl
theorem dksX4_part_6 : cX4_part.data.toList.drop 140 = dktX4_part_6 := dk_seg dksX4_part_5 23 rfl rfl
theorem dksX4_part_7 : cX4_part.data.toList.drop 163 = dktX4_part_7 := dk_seg dksX4_part_6 23 rfl rfl
theorem dksX4_part_8 : cX4_part.data.toList.drop 187 = dktX4_part_8 := dk_seg dksX4_part_7 24 rfl rfl
theorem dksX4_part_9 : cX4_part.data.toList.drop 210 = dktX4_part_9 := dk_seg dksX4_part_8 23 rfl rfl
theorem dX4_part_0 : decode cX4_part 0 = .ok (.aload_n 0, 1) := dk_42 (dk_at dksX4_part_0 0 rfl rfl)
theorem dX4_part_1 : decode cX4_part 1 = .ok (.iload_n 1, 1) := dk_27 (dk_at dksX4_part_0 1 rfl rfl)
theorem dX4_part_2 : decode cX4_part 2 = .ok (.invokestatic 171, 3) := dk_184 0 171 (dk_at dksX4_part_0 2 rfl rfl)
theorem dX4_part_5 : decode cX4_part 5 = .ok (.ifCond .ne 10, 3) := dk_154 0 10 (dk_at dksX4_part_0 5 rfl rfl)
theorem dX4_part_8 : decode cX4_part 8 = .ok (.iload_n 2, 1) := dk_28 (dk_at dksX4_part_0 8 rfl rfl)
theorem dX4_part_9 : decode cX4_part 9 = .ok (.invokestatic 171, 3) := dk_184 0 171 (dk_at dksX4_part_0 9 rfl rfl)
theorem dX4_part_12 : decode cX4_part 12 = .ok (.ifCond .eq 7, 3) := dk_153 0 7 (dk_at dksX4_part_0 12 rfl rfl)
theorem dX4_part_15 : decode cX4_part 15 = .ok (.iconst 1, 1) := dk_4 (dk_at dksX4_part_0 15 rfl rfl)
theorem dX4_part_16 : decode cX4_part 16 = .ok (.goto 4, 3) := dk_167 0 4 (dk_at dksX4_part_0 16 rfl rfl)
theorem dX4_part_19 : decode cX4_part 19 = .ok (.iconst 0, 1) := dk_3 (dk_at dksX4_part_0 19 rfl rfl)
theorem dX4_part_20 : decode cX4_part 20 = .ok (.iconst 1, 1) := dk_4 (dk_at dksX4_part_0 20 rfl rfl)
theorem dX4_part_21 : decode cX4_part 21 = .ok (.invokevirtual 72, 3) := dk_182 0 72 (dk_at dksX4_part_0 21 rfl rfl)
theorem dX4_part_24 : decode cX4_part 24 = .ok (.ifCond .ne 76, 3) := dk_154 0 76 (dk_at dksX4_part_1 0 rfl rfl)
theorem dX4_part_27 : decode cX4_part 27 = .ok (.aload_n 0, 1) := dk_42 (dk_at dksX4_part_1 3 rfl rfl)
theorem dX4_part_28 : decode cX4_part 28 = .ok (.iload_n 1, 1) := dk_27 (dk_at dksX4_part_1 4 rfl rfl)
theorem dX4_part_29 : decode cX4_part 29 = .ok (.iload_n 2, 1) := dk_28 (dk_at dksX4_part_1 5 rfl rfl)
theorem dX4_part_30 : decode cX4_part 30 = .ok (.if_icmp .eq 8, 3) := dk_159 0 8 (dk_at dksX4_part_1 6 rfl rfl)
theorem dX4_part_33 : decode cX4_part 33 = .ok (.iload_n 3, 1) := dk_29 (dk_at dksX4_part_1 9 rfl rfl)
theorem dX4_part_34 : decode cX4_part 34 = .ok (.iconst 1, 1) := dk_4 (dk_at dksX4_part_1 10 rfl rfl)
theorem dX4_part_35 : decode cX4_part 35 = .ok (.if_icmp .ge 7, 3) := dk_162 0 7 (dk_at dksX4_part_1 11 rfl rfl)
theorem dX4_part_38 : decode cX4_part 38 = .ok (.iconst 1, 1) := dk_4 (dk_at dksX4_part_1 14 rfl rfl)
theorem dX4_part_39 : decode cX4_part 39 = .ok (.goto 4, 3) := dk_167 0 4 (dk_at dksX4_part_1 15 rfl rfl)
theorem dX4_part_42 : decode cX4_part 42 = .ok (.iconst 0, 1) := dk_3 (dk_at dksX4_part_1 18 rfl rfl)
theorem dX4_part_43 : decode cX4_part 43 = .ok (.iconst 2, 1) := dk_5 (dk_at dksX4_part_1 19 rfl rfl)
theorem dX4_part_44 : decode cX4_part 44 = .ok (.invokevirtual 60, 3) := dk_182 0 60 (dk_at dksX4_part_1 20 rfl rfl)
theorem dX4_part_47 : decode cX4_part 47 = .ok (.ifCond .ne 53, 3) := dk_154 0 53 (dk_at dksX4_part_2 0 rfl rfl)
theorem dX4_part_50 : decode cX4_part 50 = .ok (.aload_n 0, 1) := dk_42 (dk_at dksX4_part_2 3 rfl rfl)
theorem dX4_part_51 : decode cX4_part 51 = .ok (.aload_n 0, 1) := dk_42 (dk_at dksX4_part_2 4 rfl rfl)
theorem dX4_part_52 : decode cX4_part 52 = .ok (.getfield 34, 3) := dk_180 0 34 (dk_at dksX4_part_2 5 rfl rfl)
theorem dX4_part_55 : decode cX4_part 55 = .ok (.iload_n 1, 1) := dk_27 (dk_at dksX4_part_2 8 rfl rfl)
theorem dX4_part_56 : decode cX4_part 56 = .ok (.aaload, 1) := dk_50 (dk_at dksX4_part_2 9 rfl rfl)
theorem dX4_part_57 : decode cX4_part 57 = .ok (.getfield 112, 3) := dk_180 0 112 (dk_at dksX4_part_2 10 rfl rfl)
theorem dX4_part_60 : decode cX4_part 60 = .ok (.iload_n 3, 1) := dk_29 (dk_at dksX4_part_2 13 rfl rfl)
theorem dX4_part_61 : decode cX4_part 61 = .ok (.if_icmp .le 27, 3) := dk_164 0 27 (dk_at dksX4_part_2 14 rfl rfl)
theorem dX4_part_64 : decode cX4_part 64 = .ok (.aload_n 0, 1) := dk_42 (dk_at dksX4_part_2 17 rfl rfl)
theorem dX4_part_65 : decode cX4_part 65 = .ok (.getfield 34, 3) := dk_180 0 34 (dk_at dksX4_part_2 18 rfl rfl)
theorem dX4_part_68 : decode cX4_part 68 = .ok (.iload_n 1, 1) := dk_27 (dk_at dksX4_part_2 21 rfl rfl)
theorem dX4_part_69 : decode cX4_part 69 = .ok (.aaload, 1) := dk_50 (dk_at dksX4_part_2 22 rfl rfl)
theorem dX4_part_70 : decode cX4_part 70 = .ok (.getfield 115, 3) := dk_180 0 115 (dk_at dksX4_part_3 0 rfl rfl)
theorem dX4_part_73 : decode cX4_part 73 = .ok (.ifCond .ne 15, 3) := dk_154 0 15 (dk_at dksX4_part_3 3 rfl rfl)
theorem dX4_part_76 : decode cX4_part 76 = .ok (.aload_n 0, 1) := dk_42 (dk_at dksX4_part_3 6 rfl rfl)
theorem dX4_part_77 : decode cX4_part 77 = .ok (.getfield 34, 3) := dk_180 0 34 (dk_at dksX4_part_3 7 rfl rfl)
theorem dX4_part_80 : decode cX4_part 80 = .ok (.iload_n 2, 1) := dk_28 (dk_at dksX4_part_3 10 rfl rfl)
theorem dX4_part_81 : decode cX4_part 81 = .ok (.aaload, 1) := dk_50 (dk_at dksX4_part_3 11 rfl rfl)
theorem dX4_part_82 : decode cX4_part 82 = .ok (.getfield 112, 3) := dk_180 0 112 (dk_at dksX4_part_3 12 rfl rfl)
theorem dX4_part_85 : decode cX4_part 85 = .ok (.ifCond .le 7, 3) := dk_158 0 7 (dk_at dksX4_part_3 15 rfl rfl)
theorem dX4_part_88 : decode cX4_part 88 = .ok (.iconst 1, 1) := dk_4 (dk_at dksX4_part_3 18 rfl rfl)
theorem dX4_part_89 : decode cX4_part 89 = .ok (.goto 4, 3) := dk_167 0 4 (dk_at dksX4_part_3 19 rfl rfl)
theorem dX4_part_92 : decode cX4_part 92 = .ok (.iconst 0, 1) := dk_3 (dk_at dksX4_part_3 22 rfl rfl)
theorem dX4_part_93 : decode cX4_part 93 = .ok (.iconst 3, 1) := dk_6 (dk_at dksX4_part_3 23 rfl rfl)
theorem dX4_part_94 : decode cX4_part 94 = .ok (.invokevirtual 60, 3) := dk_182 0 60 (dk_at dksX4_part_4 0 rfl rfl)
theorem dX4_part_97 : decode cX4_part 97 = .ok (.ifCond .eq 5, 3) := dk_153 0 5 (dk_at dksX4_part_4 3 rfl rfl)
theorem dX4_part_100 : decode cX4_part 100 = .ok (.iconst 0, 1) := dk_3 (dk_at dksX4_part_4 6 rfl rfl)
theorem dX4_part_101 : decode cX4_part 101 = .ok (.ireturn, 1) := dk_172 (dk_at dksX4_part_4 7 rfl rfl)
theorem dX4_part_102 : decode cX4_part 102 = .ok (.aload_n 0, 1) := dk_42 (dk_at dksX4_part_4 8 rfl rfl)
theorem dX4_part_103 : decode cX4_part 103 = .ok (.getfield 34, 3) := dk_180 0 34 (dk_at dksX4_part_4 9 rfl rfl)
theorem dX4_part_106 : decode cX4_part 106 = .ok (.iload_n 1, 1) := dk_27 (dk_at dksX4_part_4 12 rfl rfl)
theorem dX4_part_107 : decode cX4_part 107 = .ok (.aaload, 1) := dk_50 (dk_at dksX4_part_4 13 rfl rfl)
theorem dX4_part_108 : decode cX4_part 108 = .ok (.astore 4, 2) := dk_58 4 (dk_at dksX4_part_4 14 rfl rfl)
theorem dX4_part_110 : decode cX4_part 110 = .ok (.aload 4, 2) := dk_25 4 (dk_at dksX4_part_4 16 rfl rfl)
theorem dX4_part_112 : decode cX4_part 112 = .ok (.invokevirtual 192, 3) := dk_182 0 192 (dk_at dksX4_part_4 18 rfl rfl)
theorem dX4_part_115 : decode cX4_part 115 = .ok (.astore 5, 2) := dk_58 5 (dk_at dksX4_part_4 21 rfl rfl)
theorem dX4_part_117 : decode cX4_part 117 = .ok (.aload 4, 2) := dk_25 4 (dk_at dksX4_part_5 0 rfl rfl)
theorem dX4_part_119 : decode cX4_part 119 = .ok (.getfield 174, 3) := dk_180 0 174 (dk_at dksX4_part_5 2 rfl rfl)
theorem dX4_part_122 : decode cX4_part 122 = .ok (.iload_n 3, 1) := dk_29 (dk_at dksX4_part_5 5 rfl rfl)
theorem dX4_part_123 : decode cX4_part 123 = .ok (.imul, 1) := dk_104 (dk_at dksX4_part_5 6 rfl rfl)
theorem dX4_part_124 : decode cX4_part 124 = .ok (.aload 4, 2) := dk_25 4 (dk_at dksX4_part_5 7 rfl rfl)
theorem dX4_part_126 : decode cX4_part 126 = .ok (.getfield 112, 3) := dk_180 0 112 (dk_at dksX4_part_5 9 rfl rfl)
theorem dX4_part_129 : decode cX4_part 129 = .ok (.idiv, 1) := dk_108 (dk_at dksX4_part_5 12 rfl rfl)
theorem dX4_part_130 : decode cX4_part 130 = .ok (.istore 6, 2) := dk_54 6 (dk_at dksX4_part_5 13 rfl rfl)
theorem dX4_part_132 : decode cX4_part 132 = .ok (.aload 5, 2) := dk_25 5 (dk_at dksX4_part_5 15 rfl rfl)
theorem dX4_part_134 : decode cX4_part 134 = .ok (.iload_n 3, 1) := dk_29 (dk_at dksX4_part_5 17 rfl rfl)
theorem dX4_part_135 : decode cX4_part 135 = .ok (.putfield 112, 3) := dk_181 0 112 (dk_at dksX4_part_5 18 rfl rfl)
theorem dX4_part_138 : decode cX4_part 138 = .ok (.aload 5, 2) := dk_25 5 (dk_at dksX4_part_5 21 rfl rfl)
theorem dX4_part_140 : decode cX4_part 140 = .ok (.iload 6, 2) := dk_21 6 (dk_at dksX4_part_6 0 rfl rfl)
theorem dX4_part_142 : decode cX4_part 142 = .ok (.putfield 174, 3) := dk_181 0 174 (dk_at dksX4_part_6 2 rfl rfl)
theorem dX4_part_145 : decode cX4_part 145 = .ok (.aload 5, 2) := dk_25 5 (dk_at dksX4_part_6 5 rfl rfl)
theorem dX4_part_147 : decode cX4_part 147 = .ok (.iconst 0, 1) := dk_3 (dk_at dksX4_part_6 7 rfl rfl)
theorem dX4_part_148 : decode cX4_part 148 = .ok (.putfield 183, 3) := dk_181 0 183 (dk_at dksX4_part_6 8 rfl rfl)
theorem dX4_part_151 : decode cX4_part 151 = .ok (.aload 5, 2) := dk_25 5 (dk_at dksX4_part_6 11 rfl rfl)
theorem dX4_part_153 : decode cX4_part 153 = .ok (.iconst 0, 1) := dk_3 (dk_at dksX4_part_6 13 rfl rfl)
theorem dX4_part_154 : decode cX4_part 154 = .ok (.putfield 186, 3) := dk_181 0 186 (dk_at dksX4_part_6 14 rfl rfl)
theorem dX4_part_157 : decode cX4_part 157 = .ok (.aload 5, 2) := dk_25 5 (dk_at dksX4_part_6 17 rfl rfl)
theorem dX4_part_159 : decode cX4_part 159 = .ok (.iconst 0, 1) := dk_3 (dk_at dksX4_part_6 19 rfl rfl)
theorem dX4_part_160 : decode cX4_part 160 = .ok (.putfield 196, 3) := dk_181 0 196 (dk_at dksX4_part_6 20 rfl rfl)
theorem dX4_part_163 : decode cX4_part 163 = .ok (.aload 4, 2) := dk_25 4 (dk_at dksX4_part_7 0 rfl rfl)
theorem dX4_part_165 : decode cX4_part 165 = .ok (.dup, 1) := dk_89 (dk_at dksX4_part_7 2 rfl rfl)
theorem dX4_part_166 : decode cX4_part 166 = .ok (.getfield 112, 3) := dk_180 0 112 (dk_at dksX4_part_7 3 rfl rfl)
theorem dX4_part_169 : decode cX4_part 169 = .ok (.iload_n 3, 1) := dk_29 (dk_at dksX4_part_7 6 rfl rfl)
theorem dX4_part_170 : decode cX4_part 170 = .ok (.isub, 1) := dk_100 (dk_at dksX4_part_7 7 rfl rfl)
theorem dX4_part_171 : decode cX4_part 171 = .ok (.putfield 112, 3) := dk_181 0 112 (dk_at dksX4_part_7 8 rfl rfl)
theorem dX4_part_174 : decode cX4_part 174 = .ok (.aload 4, 2) := dk_25 4 (dk_at dksX4_part_7 11 rfl rfl)
theorem dX4_part_176 : decode cX4_part 176 = .ok (.dup, 1) := dk_89 (dk_at dksX4_part_7 13 rfl rfl)
theorem dX4_part_177 : decode cX4_part 177 = .ok (.getfield 174, 3) := dk_180 0 174 (dk_at dksX4_part_7 14 rfl rfl)
theorem dX4_part_180 : decode cX4_part 180 = .ok (.iload 6, 2) := dk_21 6 (dk_at dksX4_part_7 17 rfl rfl)
theorem dX4_part_182 : decode cX4_part 182 = .ok (.isub, 1) := dk_100 (dk_at dksX4_part_7 19 rfl rfl)
theorem dX4_part_183 : decode cX4_part 183 = .ok (.putfield 174, 3) := dk_181 0 174 (dk_at dksX4_part_7 20 rfl rfl)
theorem dX4_part_186 : decode cX4_part 186 = .ok (.aload_n 0, 1) := dk_42 (dk_at dksX4_part_7 23 rfl rfl)
theorem dX4_part_187 : decode cX4_part 187 = .ok (.getfield 34, 3) := dk_180 0 34 (dk_at dksX4_part_8 0 rfl rfl)
theorem dX4_part_190 : decode cX4_part 190 = .ok (.iload_n 2, 1) := dk_28 (dk_at dksX4_part_8 3 rfl rfl)
theorem dX4_part_191 : decode cX4_part 191 = .ok (.aload 5, 2) := dk_25 5 (dk_at dksX4_part_8 4 rfl rfl)
theorem dX4_part_193 : decode cX4_part 193 = .ok (.aastore, 1) := dk_83 (dk_at dksX4_part_8 6 rfl rfl)
theorem dX4_part_194 : decode cX4_part 194 = .ok (.aload 5, 2) := dk_25 5 (dk_at dksX4_part_8 7 rfl rfl)
theorem dX4_part_196 : decode cX4_part 196 = .ok (.getfield 180, 3) := dk_180 0 180 (dk_at dksX4_part_8 9 rfl rfl)
theorem dX4_part_199 : decode cX4_part 199 = .ok (.ifCond .le 23, 3) := dk_158 0 23 (dk_at dksX4_part_8 12 rfl rfl)
theorem dX4_part_202 : decode cX4_part 202 = .ok (.aload_n 0, 1) := dk_42 (dk_at dksX4_part_8 15 rfl rfl)
theorem dX4_part_203 : decode cX4_part 203 = .ok (.dup, 1) := dk_89 (dk_at dksX4_part_8 16 rfl rfl)
theorem dX4_part_204 : decode cX4_part 204 = .ok (.getfield 84, 3) := dk_180 0 84 (dk_at dksX4_part_8 17 rfl rfl)
theorem dX4_part_207 : decode cX4_part 207 = .ok (.aload 5, 2) := dk_25 5 (dk_at dksX4_part_8 20 rfl rfl)
theorem dX4_part_209 : decode cX4_part 209 = .ok (.iload_n 3, 1) := dk_29 (dk_at dksX4_part_8 22 rfl rfl)
theorem dX4_part_210 : decode cX4_part 210 = .ok (.bipush 10, 2) := dk_16 10 (dk_at dksX4_part_9 0 rfl rfl)
theorem dX4_part_212 : decode cX4_part 212 = .ok (.invokestatic 137, 3) := dk_184 0 137 (dk_at dksX4_part_9 2 rfl rfl)
theorem dX4_part_215 : decode cX4_part 215 = .ok (.invokevirtual 199, 3) := dk_182 0 199 (dk_at dksX4_part_9 5 rfl rfl)
theorem dX4_part_218 : decode cX4_part 218 = .ok (.iadd, 1) := dk_96 (dk_at dksX4_part_9 8 rfl rfl)
theorem dX4_part_219 : decode cX4_part 219 = .ok (.putfield 84, 3) := dk_181 0 84 (dk_at dksX4_part_9 9 rfl rfl)
theorem dX4_part_222 : decode cX4_part 222 = .ok (.aload_n 0, 1) := dk_42 (dk_at dksX4_part_9 12 rfl rfl)
theorem dX4_part_223 : decode cX4_part 223 = .ok (.iload_n 2, 1) := dk_28 (dk_at dksX4_part_9 13 rfl rfl)
theorem dX4_part_224 : decode cX4_part 224 = .ok (.invokevirtual 127, 3) := dk_182 0 127 (dk_at dksX4_part_9 14 rfl rfl)
theorem dX4_part_227 : decode cX4_part 227 = .ok (.iload 6, 2) := dk_21 6 (dk_at dksX4_part_9 17 rfl rfl)
theorem dX4_part_229 : decode cX4_part 229 = .ok (.ireturn, 1) := dk_172 (dk_at dksX4_part_9 19 rfl rfl)
abbrev cX4_mount : ByteArray := prog_9_method_26_code
def yX4_mount : MethodName := ⟨RX4, "mount", "(I)I"⟩
def dkwX4_mount_8 : List UInt8 := [182, 0, 64, 4, 100, 172]
abbrev dktX4_mount_8 : List UInt8 := dkwX4_mount_8 ++ []
def dkwX4_mount_7 : List UInt8 := [45, 182, 0, 80, 87, 42, 180, 0, 34, 27, 187, 0, 32, 89, 183, 0, 56, 83, 42, 180, 0, 38]
abbrev dktX4_mount_7 : List UInt8 := dkwX4_mount_7 ++ dktX4_mount_8
def dkwX4_mount_6 : List UInt8 := [180, 0, 174, 5, 108, 79, 45, 180, 0, 205, 3, 45, 180, 0, 208, 3, 6, 184, 0, 211, 42, 180, 0, 38]
abbrev dktX4_mount_6 : List UInt8 := dkwX4_mount_6 ++ dktX4_mount_7
def dkwX4_mount_5 : List UInt8 := [45, 180, 0, 205, 3, 21, 4, 5, 45, 180, 0, 205, 4, 46, 104, 100, 79, 45, 180, 0, 205, 5, 44]
abbrev dktX4_mount_5 : List UInt8 := dkwX4_mount_5 ++ dktX4_mount_6
def dkwX4_mount_4 : List UInt8 := [44, 180, 0, 112, 44, 180, 0, 174, 100, 54, 4, 45, 180, 0, 205, 4, 21, 4, 16, 10, 108, 5, 108, 79]
abbrev dktX4_mount_4 : List UInt8 := dkwX4_mount_4 ++ dktX4_mount_5
def dkwX4_mount_3 : List UInt8 := [44, 180, 0, 118, 50, 180, 0, 169, 42, 180, 0, 28, 44, 180, 0, 118, 50, 180, 0, 121, 183, 0, 202, 78]
abbrev dktX4_mount_3 : List UInt8 := dkwX4_mount_3 ++ dktX4_mount_4
def dkwX4_mount_2 : List UInt8 := [153, 0, 5, 3, 172, 42, 180, 0, 34, 27, 50, 77, 187, 0, 130, 89, 44, 180, 0, 118, 42, 180, 0, 28]
abbrev dktX4_mount_2 : List UInt8 := dkwX4_mount_2 ++ dktX4_mount_3
def dkwX4_mount_1 : List UInt8 := [153, 0, 15, 42, 180, 0, 38, 182, 0, 64, 16, 10, 160, 0, 7, 4, 167, 0, 4, 3, 5, 182, 0, 60]
abbrev dktX4_mount_1 : List UInt8 := dkwX4_mount_1 ++ dktX4_mount_2
def dkwX4_mount_0 : List UInt8 := [42, 27, 184, 0, 171, 4, 182, 0, 72, 154, 0, 40, 42, 42, 180, 0, 34, 27, 50, 180, 0, 115]
abbrev dktX4_mount_0 : List UInt8 := dkwX4_mount_0 ++ dktX4_mount_1
theorem dksX4_mount_0 : cX4_mount.data.toList.drop 0 = dktX4_mount_0 := by decide +kernel
theorem dksX4_mount_1 : cX4_mount.data.toList.drop 22 = dktX4_mount_1 := dk_seg dksX4_mount_0 22 rfl rfl
theorem dksX4_mount_2 : cX4_mount.data.toList.drop 46 = dktX4_mount_2 := dk_seg dksX4_mount_1 24 rfl rfl
theorem dksX4_mount_3 : cX4_mount.data.toList.drop 70 = dktX4_mount_3 := dk_seg dksX4_mount_2 24 rfl rfl
theorem dksX4_mount_4 : cX4_mount.data.toList.drop 94 = dktX4_mount_4 := dk_seg dksX4_mount_3 24 rfl rfl
theorem dksX4_mount_5 : cX4_mount.data.toList.drop 118 = dktX4_mount_5 := dk_seg dksX4_mount_4 24 rfl rfl
theorem dksX4_mount_6 : cX4_mount.data.toList.drop 141 = dktX4_mount_6 := dk_seg dksX4_mount_5 23 rfl rfl
theorem dksX4_mount_7 : cX4_mount.data.toList.drop 165 = dktX4_mount_7 := dk_seg dksX4_mount_6 24 rfl rfl
theorem dksX4_mount_8 : cX4_mount.data.toList.drop 187 = dktX4_mount_8 := dk_seg dksX4_mount_7 22 rfl rfl
theorem dX4_mount_0 : decode cX4_mount 0 = .ok (.aload_n 0, 1) := dk_42 (dk_at dksX4_mount_0 0 rfl rfl)
theorem dX4_mount_1 : decode cX4_mount 1 = .ok (.iload_n 1, 1) := dk_27 (dk_at dksX4_mount_0 1 rfl rfl)
theorem dX4_mount_2 : decode cX4_mount 2 = .ok (.invokestatic 171, 3) := dk_184 0 171 (dk_at dksX4_mount_0 2 rfl rfl)
theorem dX4_mount_5 : decode cX4_mount 5 = .ok (.iconst 1, 1) := dk_4 (dk_at dksX4_mount_0 5 rfl rfl)
theorem dX4_mount_6 : decode cX4_mount 6 = .ok (.invokevirtual 72, 3) := dk_182 0 72 (dk_at dksX4_mount_0 6 rfl rfl)
theorem dX4_mount_9 : decode cX4_mount 9 = .ok (.ifCond .ne 40, 3) := dk_154 0 40 (dk_at dksX4_mount_0 9 rfl rfl)
theorem dX4_mount_12 : decode cX4_mount 12 = .ok (.aload_n 0, 1) := dk_42 (dk_at dksX4_mount_0 12 rfl rfl)
theorem dX4_mount_13 : decode cX4_mount 13 = .ok (.aload_n 0, 1) := dk_42 (dk_at dksX4_mount_0 13 rfl rfl)
theorem dX4_mount_14 : decode cX4_mount 14 = .ok (.getfield 34, 3) := dk_180 0 34 (dk_at dksX4_mount_0 14 rfl rfl)
theorem dX4_mount_17 : decode cX4_mount 17 = .ok (.iload_n 1, 1) := dk_27 (dk_at dksX4_mount_0 17 rfl rfl)
theorem dX4_mount_18 : decode cX4_mount 18 = .ok (.aaload, 1) := dk_50 (dk_at dksX4_mount_0 18 rfl rfl)
theorem dX4_mount_19 : decode cX4_mount 19 = .ok (.getfield 115, 3) := dk_180 0 115 (dk_at dksX4_mount_0 19 rfl rfl)
theorem dX4_mount_22 : decode cX4_mount 22 = .ok (.ifCond .eq 15, 3) := dk_153 0 15 (dk_at dksX4_mount_1 0 rfl rfl)
theorem dX4_mount_25 : decode cX4_mount 25 = .ok (.aload_n 0, 1) := dk_42 (dk_at dksX4_mount_1 3 rfl rfl)
theorem dX4_mount_26 : decode cX4_mount 26 = .ok (.getfield 38, 3) := dk_180 0 38 (dk_at dksX4_mount_1 4 rfl rfl)
theorem dX4_mount_29 : decode cX4_mount 29 = .ok (.invokevirtual 64, 3) := dk_182 0 64 (dk_at dksX4_mount_1 7 rfl rfl)
theorem dX4_mount_32 : decode cX4_mount 32 = .ok (.bipush 10, 2) := dk_16 10 (dk_at dksX4_mount_1 10 rfl rfl)
theorem dX4_mount_34 : decode cX4_mount 34 = .ok (.if_icmp .ne 7, 3) := dk_160 0 7 (dk_at dksX4_mount_1 12 rfl rfl)
theorem dX4_mount_37 : decode cX4_mount 37 = .ok (.iconst 1, 1) := dk_4 (dk_at dksX4_mount_1 15 rfl rfl)
theorem dX4_mount_38 : decode cX4_mount 38 = .ok (.goto 4, 3) := dk_167 0 4 (dk_at dksX4_mount_1 16 rfl rfl)
theorem dX4_mount_41 : decode cX4_mount 41 = .ok (.iconst 0, 1) := dk_3 (dk_at dksX4_mount_1 19 rfl rfl)
theorem dX4_mount_42 : decode cX4_mount 42 = .ok (.iconst 2, 1) := dk_5 (dk_at dksX4_mount_1 20 rfl rfl)
theorem dX4_mount_43 : decode cX4_mount 43 = .ok (.invokevirtual 60, 3) := dk_182 0 60 (dk_at dksX4_mount_1 21 rfl rfl)
theorem dX4_mount_46 : decode cX4_mount 46 = .ok (.ifCond .eq 5, 3) := dk_153 0 5 (dk_at dksX4_mount_2 0 rfl rfl)
theorem dX4_mount_49 : decode cX4_mount 49 = .ok (.iconst 0, 1) := dk_3 (dk_at dksX4_mount_2 3 rfl rfl)
theorem dX4_mount_50 : decode cX4_mount 50 = .ok (.ireturn, 1) := dk_172 (dk_at dksX4_mount_2 4 rfl rfl)
theorem dX4_mount_51 : decode cX4_mount 51 = .ok (.aload_n 0, 1) := dk_42 (dk_at dksX4_mount_2 5 rfl rfl)
theorem dX4_mount_52 : decode cX4_mount 52 = .ok (.getfield 34, 3) := dk_180 0 34 (dk_at dksX4_mount_2 6 rfl rfl)
theorem dX4_mount_55 : decode cX4_mount 55 = .ok (.iload_n 1, 1) := dk_27 (dk_at dksX4_mount_2 9 rfl rfl)
theorem dX4_mount_56 : decode cX4_mount 56 = .ok (.aaload, 1) := dk_50 (dk_at dksX4_mount_2 10 rfl rfl)
theorem dX4_mount_57 : decode cX4_mount 57 = .ok (.astore_n 2, 1) := dk_77 (dk_at dksX4_mount_2 11 rfl rfl)
theorem dX4_mount_58 : decode cX4_mount 58 = .ok (.new 130, 3) := dk_187 0 130 (dk_at dksX4_mount_2 12 rfl rfl)
theorem dX4_mount_61 : decode cX4_mount 61 = .ok (.dup, 1) := dk_89 (dk_at dksX4_mount_2 15 rfl rfl)
theorem dX4_mount_62 : decode cX4_mount 62 = .ok (.aload_n 2, 1) := dk_44 (dk_at dksX4_mount_2 16 rfl rfl)
theorem dX4_mount_63 : decode cX4_mount 63 = .ok (.getfield 118, 3) := dk_180 0 118 (dk_at dksX4_mount_2 17 rfl rfl)
theorem dX4_mount_66 : decode cX4_mount 66 = .ok (.aload_n 0, 1) := dk_42 (dk_at dksX4_mount_2 20 rfl rfl)
theorem dX4_mount_67 : decode cX4_mount 67 = .ok (.getfield 28, 3) := dk_180 0 28 (dk_at dksX4_mount_2 21 rfl rfl)
theorem dX4_mount_70 : decode cX4_mount 70 = .ok (.aload_n 2, 1) := dk_44 (dk_at dksX4_mount_3 0 rfl rfl)
theorem dX4_mount_71 : decode cX4_mount 71 = .ok (.getfield 118, 3) := dk_180 0 118 (dk_at dksX4_mount_3 1 rfl rfl)
theorem dX4_mount_74 : decode cX4_mount 74 = .ok (.aaload, 1) := dk_50 (dk_at dksX4_mount_3 4 rfl rfl)
theorem dX4_mount_75 : decode cX4_mount 75 = .ok (.getfield 169, 3) := dk_180 0 169 (dk_at dksX4_mount_3 5 rfl rfl)
theorem dX4_mount_78 : decode cX4_mount 78 = .ok (.aload_n 0, 1) := dk_42 (dk_at dksX4_mount_3 8 rfl rfl)
theorem dX4_mount_79 : decode cX4_mount 79 = .ok (.getfield 28, 3) := dk_180 0 28 (dk_at dksX4_mount_3 9 rfl rfl)
theorem dX4_mount_82 : decode cX4_mount 82 = .ok (.aload_n 2, 1) := dk_44 (dk_at dksX4_mount_3 12 rfl rfl)
theorem dX4_mount_83 : decode cX4_mount 83 = .ok (.getfield 118, 3) := dk_180 0 118 (dk_at dksX4_mount_3 13 rfl rfl)
theorem dX4_mount_86 : decode cX4_mount 86 = .ok (.aaload, 1) := dk_50 (dk_at dksX4_mount_3 16 rfl rfl)
theorem dX4_mount_87 : decode cX4_mount 87 = .ok (.getfield 121, 3) := dk_180 0 121 (dk_at dksX4_mount_3 17 rfl rfl)
theorem dX4_mount_90 : decode cX4_mount 90 = .ok (.invokespecial 202, 3) := dk_183 0 202 (dk_at dksX4_mount_3 20 rfl rfl)
theorem dX4_mount_93 : decode cX4_mount 93 = .ok (.astore_n 3, 1) := dk_78 (dk_at dksX4_mount_3 23 rfl rfl)
theorem dX4_mount_94 : decode cX4_mount 94 = .ok (.aload_n 2, 1) := dk_44 (dk_at dksX4_mount_4 0 rfl rfl)
theorem dX4_mount_95 : decode cX4_mount 95 = .ok (.getfield 112, 3) := dk_180 0 112 (dk_at dksX4_mount_4 1 rfl rfl)
theorem dX4_mount_98 : decode cX4_mount 98 = .ok (.aload_n 2, 1) := dk_44 (dk_at dksX4_mount_4 4 rfl rfl)
theorem dX4_mount_99 : decode cX4_mount 99 = .ok (.getfield 174, 3) := dk_180 0 174 (dk_at dksX4_mount_4 5 rfl rfl)
theorem dX4_mount_102 : decode cX4_mount 102 = .ok (.isub, 1) := dk_100 (dk_at dksX4_mount_4 8 rfl rfl)
theorem dX4_mount_103 : decode cX4_mount 103 = .ok (.istore 4, 2) := dk_54 4 (dk_at dksX4_mount_4 9 rfl rfl)
theorem dX4_mount_105 : decode cX4_mount 105 = .ok (.aload_n 3, 1) := dk_45 (dk_at dksX4_mount_4 11 rfl rfl)
theorem dX4_mount_106 : decode cX4_mount 106 = .ok (.getfield 205, 3) := dk_180 0 205 (dk_at dksX4_mount_4 12 rfl rfl)
theorem dX4_mount_109 : decode cX4_mount 109 = .ok (.iconst 1, 1) := dk_4 (dk_at dksX4_mount_4 15 rfl rfl)
theorem dX4_mount_110 : decode cX4_mount 110 = .ok (.iload 4, 2) := dk_21 4 (dk_at dksX4_mount_4 16 rfl rfl)
theorem dX4_mount_112 : decode cX4_mount 112 = .ok (.bipush 10, 2) := dk_16 10 (dk_at dksX4_mount_4 18 rfl rfl)
theorem dX4_mount_114 : decode cX4_mount 114 = .ok (.idiv, 1) := dk_108 (dk_at dksX4_mount_4 20 rfl rfl)
theorem dX4_mount_115 : decode cX4_mount 115 = .ok (.iconst 2, 1) := dk_5 (dk_at dksX4_mount_4 21 rfl rfl)
theorem dX4_mount_116 : decode cX4_mount 116 = .ok (.idiv, 1) := dk_108 (dk_at dksX4_mount_4 22 rfl rfl)
theorem dX4_mount_117 : decode cX4_mount 117 = .ok (.iastore, 1) := dk_79 (dk_at dksX4_mount_4 23 rfl rfl)
theorem dX4_mount_118 : decode cX4_mount 118 = .ok (.aload_n 3, 1) := dk_45 (dk_at dksX4_mount_5 0 rfl rfl)
theorem dX4_mount_119 : decode cX4_mount 119 = .ok (.getfield 205, 3) := dk_180 0 205 (dk_at dksX4_mount_5 1 rfl rfl)
theorem dX4_mount_122 : decode cX4_mount 122 = .ok (.iconst 0, 1) := dk_3 (dk_at dksX4_mount_5 4 rfl rfl)
theorem dX4_mount_123 : decode cX4_mount 123 = .ok (.iload 4, 2) := dk_21 4 (dk_at dksX4_mount_5 5 rfl rfl)
theorem dX4_mount_125 : decode cX4_mount 125 = .ok (.iconst 2, 1) := dk_5 (dk_at dksX4_mount_5 7 rfl rfl)
theorem dX4_mount_126 : decode cX4_mount 126 = .ok (.aload_n 3, 1) := dk_45 (dk_at dksX4_mount_5 8 rfl rfl)
theorem dX4_mount_127 : decode cX4_mount 127 = .ok (.getfield 205, 3) := dk_180 0 205 (dk_at dksX4_mount_5 9 rfl rfl)
theorem dX4_mount_130 : decode cX4_mount 130 = .ok (.iconst 1, 1) := dk_4 (dk_at dksX4_mount_5 12 rfl rfl)
theorem dX4_mount_131 : decode cX4_mount 131 = .ok (.iaload, 1) := dk_46 (dk_at dksX4_mount_5 13 rfl rfl)
theorem dX4_mount_132 : decode cX4_mount 132 = .ok (.imul, 1) := dk_104 (dk_at dksX4_mount_5 14 rfl rfl)
theorem dX4_mount_133 : decode cX4_mount 133 = .ok (.isub, 1) := dk_100 (dk_at dksX4_mount_5 15 rfl rfl)
theorem dX4_mount_134 : decode cX4_mount 134 = .ok (.iastore, 1) := dk_79 (dk_at dksX4_mount_5 16 rfl rfl)
theorem dX4_mount_135 : decode cX4_mount 135 = .ok (.aload_n 3, 1) := dk_45 (dk_at dksX4_mount_5 17 rfl rfl)
theorem dX4_mount_136 : decode cX4_mount 136 = .ok (.getfield 205, 3) := dk_180 0 205 (dk_at dksX4_mount_5 18 rfl rfl)
theorem dX4_mount_139 : decode cX4_mount 139 = .ok (.iconst 2, 1) := dk_5 (dk_at dksX4_mount_5 21 rfl rfl)
theorem dX4_mount_140 : decode cX4_mount 140 = .ok (.aload_n 2, 1) := dk_44 (dk_at dksX4_mount_5 22 rfl rfl)
theorem dX4_mount_141 : decode cX4_mount 141 = .ok (.getfield 174, 3) := dk_180 0 174 (dk_at dksX4_mount_6 0 rfl rfl)
theorem dX4_mount_144 : decode cX4_mount 144 = .ok (.iconst 2, 1) := dk_5 (dk_at dksX4_mount_6 3 rfl rfl)
theorem dX4_mount_145 : decode cX4_mount 145 = .ok (.idiv, 1) := dk_108 (dk_at dksX4_mount_6 4 rfl rfl)
theorem dX4_mount_146 : decode cX4_mount 146 = .ok (.iastore, 1) := dk_79 (dk_at dksX4_mount_6 5 rfl rfl)
theorem dX4_mount_147 : decode cX4_mount 147 = .ok (.aload_n 3, 1) := dk_45 (dk_at dksX4_mount_6 6 rfl rfl)
theorem dX4_mount_148 : decode cX4_mount 148 = .ok (.getfield 205, 3) := dk_180 0 205 (dk_at dksX4_mount_6 7 rfl rfl)
theorem dX4_mount_151 : decode cX4_mount 151 = .ok (.iconst 0, 1) := dk_3 (dk_at dksX4_mount_6 10 rfl rfl)
theorem dX4_mount_152 : decode cX4_mount 152 = .ok (.aload_n 3, 1) := dk_45 (dk_at dksX4_mount_6 11 rfl rfl)
theorem dX4_mount_153 : decode cX4_mount 153 = .ok (.getfield 208, 3) := dk_180 0 208 (dk_at dksX4_mount_6 12 rfl rfl)
theorem dX4_mount_156 : decode cX4_mount 156 = .ok (.iconst 0, 1) := dk_3 (dk_at dksX4_mount_6 15 rfl rfl)
theorem dX4_mount_157 : decode cX4_mount 157 = .ok (.iconst 3, 1) := dk_6 (dk_at dksX4_mount_6 16 rfl rfl)
theorem dX4_mount_158 : decode cX4_mount 158 = .ok (.invokestatic 211, 3) := dk_184 0 211 (dk_at dksX4_mount_6 17 rfl rfl)
theorem dX4_mount_161 : decode cX4_mount 161 = .ok (.aload_n 0, 1) := dk_42 (dk_at dksX4_mount_6 20 rfl rfl)
theorem dX4_mount_162 : decode cX4_mount 162 = .ok (.getfield 38, 3) := dk_180 0 38 (dk_at dksX4_mount_6 21 rfl rfl)
theorem dX4_mount_165 : decode cX4_mount 165 = .ok (.aload_n 3, 1) := dk_45 (dk_at dksX4_mount_7 0 rfl rfl)
theorem dX4_mount_166 : decode cX4_mount 166 = .ok (.invokevirtual 80, 3) := dk_182 0 80 (dk_at dksX4_mount_7 1 rfl rfl)
theorem dX4_mount_169 : decode cX4_mount 169 = .ok (.pop, 1) := dk_87 (dk_at dksX4_mount_7 4 rfl rfl)
theorem dX4_mount_170 : decode cX4_mount 170 = .ok (.aload_n 0, 1) := dk_42 (dk_at dksX4_mount_7 5 rfl rfl)
theorem dX4_mount_171 : decode cX4_mount 171 = .ok (.getfield 34, 3) := dk_180 0 34 (dk_at dksX4_mount_7 6 rfl rfl)
theorem dX4_mount_174 : decode cX4_mount 174 = .ok (.iload_n 1, 1) := dk_27 (dk_at dksX4_mount_7 9 rfl rfl)
theorem dX4_mount_175 : decode cX4_mount 175 = .ok (.new 32, 3) := dk_187 0 32 (dk_at dksX4_mount_7 10 rfl rfl)
theorem dX4_mount_178 : decode cX4_mount 178 = .ok (.dup, 1) := dk_89 (dk_at dksX4_mount_7 13 rfl rfl)
theorem dX4_mount_179 : decode cX4_mount 179 = .ok (.invokespecial 56, 3) := dk_183 0 56 (dk_at dksX4_mount_7 14 rfl rfl)
theorem dX4_mount_182 : decode cX4_mount 182 = .ok (.aastore, 1) := dk_83 (dk_at dksX4_mount_7 17 rfl rfl)
theorem dX4_mount_183 : decode cX4_mount 183 = .ok (.aload_n 0, 1) := dk_42 (dk_at dksX4_mount_7 18 rfl rfl)
theorem dX4_mount_184 : decode cX4_mount 184 = .ok (.getfield 38, 3) := dk_180 0 38 (dk_at dksX4_mount_7 19 rfl rfl)
theorem dX4_mount_187 : decode cX4_mount 187 = .ok (.invokevirtual 64, 3) := dk_182 0 64 (dk_at dksX4_mount_8 0 rfl rfl)
theorem dX4_mount_190 : decode cX4_mount 190 = .ok (.iconst 1, 1) := dk_4 (dk_at dksX4_mount_8 3 rfl rfl)
theorem dX4_mount_191 : decode cX4_mount 191 = .ok (.isub, 1) := dk_100 (dk_at dksX4_mount_8 4 rfl rfl)
theorem dX4_mount_192 : decode cX4_mount 192 = .ok (.ireturn, 1) := dk_172 (dk_at dksX4_mount_8 5 rfl rfl)
abbrev cX4_stifle : ByteArray := prog_9_method_27_code
def yX4_stifle : MethodName := ⟨RX4, "stifle", "(I)I"⟩
def dkwX4_stifle_3 : List UInt8 := [192, 0, 130, 182, 0, 223, 172]
abbrev dktX4_stifle_3 : List UInt8 := dkwX4_stifle_3 ++ []
def dkwX4_stifle_2 : List UInt8 := [180, 0, 38, 27, 182, 0, 147, 192, 0, 130, 4, 181, 0, 220, 42, 180, 0, 38, 27, 182, 0, 147]
abbrev dktX4_stifle_2 : List UInt8 := dkwX4_stifle_2 ++ dktX4_stifle_3
def dkwX4_stifle_1 : List UInt8 := [192, 0, 130, 180, 0, 220, 153, 0, 7, 4, 167, 0, 4, 3, 5, 182, 0, 60, 153, 0, 5, 3, 172, 42]
abbrev dktX4_stifle_1 : List UInt8 := dkwX4_stifle_1 ++ dktX4_stifle_2
def dkwX4_stifle_0 : List UInt8 := [42, 42, 27, 182, 0, 217, 4, 182, 0, 72, 154, 0, 33, 42, 42, 180, 0, 38, 27, 182, 0, 147]
abbrev dktX4_stifle_0 : List UInt8 := dkwX4_stifle_0 ++ dktX4_stifle_1
theorem dksX4_stifle_0 : cX4_stifle.data.toList.drop 0 = dktX4_stifle_0 := by decide +kernel
theorem dksX4_stifle_1 : cX4_stifle.data.toList.drop 22 = dktX4_stifle_1 := dk_seg dksX4_stifle_0 22 rfl rfl
theorem dksX4_stifle_2 : cX4_stifle.data.toList.drop 46 = dktX4_stifle_2 := dk_seg dksX4_stifle_1 24 rfl rfl
theorem dksX4_stifle_3 : cX4_stifle.data.toList.drop 68 = dktX4_stifle_3 := dk_seg dksX4_stifle_2 22 rfl rfl
theorem dX4_stifle_0 : decode cX4_stifle 0 = .ok (.aload_n 0, 1) := dk_42 (dk_at dksX4_stifle_0 0 rfl rfl)
theorem dX4_stifle_1 : decode cX4_stifle 1 = .ok (.aload_n 0, 1) := dk_42 (dk_at dksX4_stifle_0 1 rfl rfl)
theorem dX4_stifle_2 : decode cX4_stifle 2 = .ok (.iload_n 1, 1) := dk_27 (dk_at dksX4_stifle_0 2 rfl rfl)
theorem dX4_stifle_3 : decode cX4_stifle 3 = .ok (.invokevirtual 217, 3) := dk_182 0 217 (dk_at dksX4_stifle_0 3 rfl rfl)
theorem dX4_stifle_6 : decode cX4_stifle 6 = .ok (.iconst 1, 1) := dk_4 (dk_at dksX4_stifle_0 6 rfl rfl)
theorem dX4_stifle_7 : decode cX4_stifle 7 = .ok (.invokevirtual 72, 3) := dk_182 0 72 (dk_at dksX4_stifle_0 7 rfl rfl)
theorem dX4_stifle_10 : decode cX4_stifle 10 = .ok (.ifCond .ne 33, 3) := dk_154 0 33 (dk_at dksX4_stifle_0 10 rfl rfl)
theorem dX4_stifle_13 : decode cX4_stifle 13 = .ok (.aload_n 0, 1) := dk_42 (dk_at dksX4_stifle_0 13 rfl rfl)
theorem dX4_stifle_14 : decode cX4_stifle 14 = .ok (.aload_n 0, 1) := dk_42 (dk_at dksX4_stifle_0 14 rfl rfl)
theorem dX4_stifle_15 : decode cX4_stifle 15 = .ok (.getfield 38, 3) := dk_180 0 38 (dk_at dksX4_stifle_0 15 rfl rfl)
theorem dX4_stifle_18 : decode cX4_stifle 18 = .ok (.iload_n 1, 1) := dk_27 (dk_at dksX4_stifle_0 18 rfl rfl)
theorem dX4_stifle_19 : decode cX4_stifle 19 = .ok (.invokevirtual 147, 3) := dk_182 0 147 (dk_at dksX4_stifle_0 19 rfl rfl)
theorem dX4_stifle_22 : decode cX4_stifle 22 = .ok (.checkcast 130, 3) := dk_192 0 130 (dk_at dksX4_stifle_1 0 rfl rfl)
theorem dX4_stifle_25 : decode cX4_stifle 25 = .ok (.getfield 220, 3) := dk_180 0 220 (dk_at dksX4_stifle_1 3 rfl rfl)
theorem dX4_stifle_28 : decode cX4_stifle 28 = .ok (.ifCond .eq 7, 3) := dk_153 0 7 (dk_at dksX4_stifle_1 6 rfl rfl)
theorem dX4_stifle_31 : decode cX4_stifle 31 = .ok (.iconst 1, 1) := dk_4 (dk_at dksX4_stifle_1 9 rfl rfl)
theorem dX4_stifle_32 : decode cX4_stifle 32 = .ok (.goto 4, 3) := dk_167 0 4 (dk_at dksX4_stifle_1 10 rfl rfl)
theorem dX4_stifle_35 : decode cX4_stifle 35 = .ok (.iconst 0, 1) := dk_3 (dk_at dksX4_stifle_1 13 rfl rfl)
theorem dX4_stifle_36 : decode cX4_stifle 36 = .ok (.iconst 2, 1) := dk_5 (dk_at dksX4_stifle_1 14 rfl rfl)
theorem dX4_stifle_37 : decode cX4_stifle 37 = .ok (.invokevirtual 60, 3) := dk_182 0 60 (dk_at dksX4_stifle_1 15 rfl rfl)
theorem dX4_stifle_40 : decode cX4_stifle 40 = .ok (.ifCond .eq 5, 3) := dk_153 0 5 (dk_at dksX4_stifle_1 18 rfl rfl)
theorem dX4_stifle_43 : decode cX4_stifle 43 = .ok (.iconst 0, 1) := dk_3 (dk_at dksX4_stifle_1 21 rfl rfl)
theorem dX4_stifle_44 : decode cX4_stifle 44 = .ok (.ireturn, 1) := dk_172 (dk_at dksX4_stifle_1 22 rfl rfl)
theorem dX4_stifle_45 : decode cX4_stifle 45 = .ok (.aload_n 0, 1) := dk_42 (dk_at dksX4_stifle_1 23 rfl rfl)
theorem dX4_stifle_46 : decode cX4_stifle 46 = .ok (.getfield 38, 3) := dk_180 0 38 (dk_at dksX4_stifle_2 0 rfl rfl)
theorem dX4_stifle_49 : decode cX4_stifle 49 = .ok (.iload_n 1, 1) := dk_27 (dk_at dksX4_stifle_2 3 rfl rfl)
theorem dX4_stifle_50 : decode cX4_stifle 50 = .ok (.invokevirtual 147, 3) := dk_182 0 147 (dk_at dksX4_stifle_2 4 rfl rfl)
theorem dX4_stifle_53 : decode cX4_stifle 53 = .ok (.checkcast 130, 3) := dk_192 0 130 (dk_at dksX4_stifle_2 7 rfl rfl)
theorem dX4_stifle_56 : decode cX4_stifle 56 = .ok (.iconst 1, 1) := dk_4 (dk_at dksX4_stifle_2 10 rfl rfl)
theorem dX4_stifle_57 : decode cX4_stifle 57 = .ok (.putfield 220, 3) := dk_181 0 220 (dk_at dksX4_stifle_2 11 rfl rfl)
theorem dX4_stifle_60 : decode cX4_stifle 60 = .ok (.aload_n 0, 1) := dk_42 (dk_at dksX4_stifle_2 14 rfl rfl)
theorem dX4_stifle_61 : decode cX4_stifle 61 = .ok (.getfield 38, 3) := dk_180 0 38 (dk_at dksX4_stifle_2 15 rfl rfl)
theorem dX4_stifle_64 : decode cX4_stifle 64 = .ok (.iload_n 1, 1) := dk_27 (dk_at dksX4_stifle_2 18 rfl rfl)
theorem dX4_stifle_65 : decode cX4_stifle 65 = .ok (.invokevirtual 147, 3) := dk_182 0 147 (dk_at dksX4_stifle_2 19 rfl rfl)
theorem dX4_stifle_68 : decode cX4_stifle 68 = .ok (.checkcast 130, 3) := dk_192 0 130 (dk_at dksX4_stifle_3 0 rfl rfl)
theorem dX4_stifle_71 : decode cX4_stifle 71 = .ok (.invokevirtual 223, 3) := dk_182 0 223 (dk_at dksX4_stifle_3 3 rfl rfl)
theorem dX4_stifle_74 : decode cX4_stifle 74 = .ok (.ireturn, 1) := dk_172 (dk_at dksX4_stifle_3 6 rfl rfl)
abbrev cX4_isNoLot : ByteArray := prog_9_method_11_code
def yX4_isNoLot : MethodName := ⟨RX4, "isNoLot", "(I)Z"⟩
def dkwX4_isNoLot_0 : List UInt8 := [27, 3, 42, 180, 0, 38, 182, 0, 64, 4, 100, 184, 0, 68, 154, 0, 7, 4, 167, 0, 4, 3, 172]
abbrev dktX4_isNoLot_0 : List UInt8 := dkwX4_isNoLot_0 ++ []
theorem dksX4_isNoLot_0 : cX4_isNoLot.data.toList.drop 0 = dktX4_isNoLot_0 := by decide +kernel
theorem dX4_isNoLot_0 : decode cX4_isNoLot 0 = .ok (.iload_n 1, 1) := dk_27 (dk_at dksX4_isNoLot_0 0 rfl rfl)
theorem dX4_isNoLot_1 : decode cX4_isNoLot 1 = .ok (.iconst 0, 1) := dk_3 (dk_at dksX4_isNoLot_0 1 rfl rfl)
theorem dX4_isNoLot_2 : decode cX4_isNoLot 2 = .ok (.aload_n 0, 1) := dk_42 (dk_at dksX4_isNoLot_0 2 rfl rfl)
theorem dX4_isNoLot_3 : decode cX4_isNoLot 3 = .ok (.getfield 38, 3) := dk_180 0 38 (dk_at dksX4_isNoLot_0 3 rfl rfl)
theorem dX4_isNoLot_6 : decode cX4_isNoLot 6 = .ok (.invokevirtual 64, 3) := dk_182 0 64 (dk_at dksX4_isNoLot_0 6 rfl rfl)
theorem dX4_isNoLot_9 : decode cX4_isNoLot 9 = .ok (.iconst 1, 1) := dk_4 (dk_at dksX4_isNoLot_0 9 rfl rfl)
theorem dX4_isNoLot_10 : decode cX4_isNoLot 10 = .ok (.isub, 1) := dk_100 (dk_at dksX4_isNoLot_0 10 rfl rfl)
theorem dX4_isNoLot_11 : decode cX4_isNoLot 11 = .ok (.invokestatic 68, 3) := dk_184 0 68 (dk_at dksX4_isNoLot_0 11 rfl rfl)
theorem dX4_isNoLot_14 : decode cX4_isNoLot 14 = .ok (.ifCond .ne 7, 3) := dk_154 0 7 (dk_at dksX4_isNoLot_0 14 rfl rfl)
theorem dX4_isNoLot_17 : decode cX4_isNoLot 17 = .ok (.iconst 1, 1) := dk_4 (dk_at dksX4_isNoLot_0 17 rfl rfl)
theorem dX4_isNoLot_18 : decode cX4_isNoLot 18 = .ok (.goto 4, 3) := dk_167 0 4 (dk_at dksX4_isNoLot_0 18 rfl rfl)
theorem dX4_isNoLot_21 : decode cX4_isNoLot 21 = .ok (.iconst 0, 1) := dk_3 (dk_at dksX4_isNoLot_0 21 rfl rfl)
theorem dX4_isNoLot_22 : decode cX4_isNoLot 22 = .ok (.ireturn, 1) := dk_172 (dk_at dksX4_isNoLot_0 22 rfl rfl)
abbrev cX4_eggs : ByteArray := prog_9_method_28_code
def yX4_eggs : MethodName := ⟨RX4, "eggs", "(IIZ)I"⟩
def dkwX4_eggs_8 : List UInt8 := [163, 0, 7, 3, 167, 0, 10, 25, 5, 180, 0, 166, 5, 108, 181, 0, 166, 25, 5, 180, 0, 166, 172]
abbrev dktX4_eggs_8 : List UInt8 := dkwX4_eggs_8 ++ []
def dkwX4_eggs_7 : List UInt8 := [25, 5, 180, 0, 166, 172, 42, 89, 180, 0, 51, 8, 100, 181, 0, 51, 25, 5, 25, 5, 180, 0, 166, 6]
abbrev dktX4_eggs_7 : List UInt8 := dkwX4_eggs_7 ++ dktX4_eggs_8
def dkwX4_eggs_6 : List UInt8 := [25, 4, 180, 0, 205, 5, 46, 104, 25, 4, 182, 0, 223, 184, 0, 137, 181, 0, 166, 29, 154, 0, 9]
abbrev dktX4_eggs_6 : List UInt8 := dkwX4_eggs_6 ++ dktX4_eggs_7
def dkwX4_eggs_5 : List UInt8 := [180, 0, 205, 5, 46, 154, 0, 7, 4, 167, 0, 4, 3, 96, 184, 0, 140, 181, 0, 121, 25, 5, 16, 10]
abbrev dktX4_eggs_5 : List UInt8 := dkwX4_eggs_5 ++ dktX4_eggs_6
def dkwX4_eggs_4 : List UInt8 := [58, 5, 25, 5, 25, 4, 180, 0, 226, 181, 0, 169, 25, 5, 16, 9, 25, 4, 180, 0, 227, 25, 4]
abbrev dktX4_eggs_4 : List UInt8 := dkwX4_eggs_4 ++ dktX4_eggs_5
def dkwX4_eggs_3 : List UInt8 := [162, 0, 7, 4, 167, 0, 4, 3, 5, 182, 0, 60, 153, 0, 5, 3, 172, 42, 180, 0, 28, 28, 50]
abbrev dktX4_eggs_3 : List UInt8 := dkwX4_eggs_3 ++ dktX4_eggs_4
def dkwX4_eggs_2 : List UInt8 := [180, 0, 220, 154, 0, 23, 25, 4, 182, 0, 223, 153, 0, 15, 29, 153, 0, 15, 42, 180, 0, 51, 8]
abbrev dktX4_eggs_2 : List UInt8 := dkwX4_eggs_2 ++ dktX4_eggs_3
def dkwX4_eggs_1 : List UInt8 := [182, 0, 72, 153, 0, 5, 3, 172, 42, 180, 0, 38, 27, 182, 0, 147, 192, 0, 130, 58, 4, 42, 25, 4]
abbrev dktX4_eggs_1 : List UInt8 := dkwX4_eggs_1 ++ dktX4_eggs_2
def dkwX4_eggs_0 : List UInt8 := [42, 42, 27, 182, 0, 217, 154, 0, 10, 28, 184, 0, 163, 153, 0, 7, 4, 167, 0, 4, 3, 4]
abbrev dktX4_eggs_0 : List UInt8 := dkwX4_eggs_0 ++ dktX4_eggs_1
theorem dksX4_eggs_0 : cX4_eggs.data.toList.drop 0 = dktX4_eggs_0 := by decide +kernel
theorem dksX4_eggs_1 : cX4_eggs.data.toList.drop 22 = dktX4_eggs_1 := dk_seg dksX4_eggs_0 22 rfl rfl
theorem dksX4_eggs_2 : cX4_eggs.data.toList.drop 46 = dktX4_eggs_2 := dk_seg dksX4_eggs_1 24 rfl rfl
theorem dksX4_eggs_3 : cX4_eggs.data.toList.drop 69 = dktX4_eggs_3 := dk_seg dksX4_eggs_2 23 rfl rfl
theorem dksX4_eggs_4 : cX4_eggs.data.toList.drop 92 = dktX4_eggs_4 := dk_seg dksX4_eggs_3 23 rfl rfl
theorem dksX4_eggs_5 : cX4_eggs.data.toList.drop 115 = dktX4_eggs_5 := dk_seg dksX4_eggs_4 23 rfl rfl
theorem dksX4_eggs_6 : cX4_eggs.data.toList.drop 139 = dktX4_eggs_6 := dk_seg dksX4_eggs_5 24 rfl rfl
theorem dksX4_eggs_7 : cX4_eggs.data.toList.drop 162 = dktX4_eggs_7 := dk_seg dksX4_eggs_6 23 rfl rfl
theorem dksX4_eggs_8 : cX4_eggs.data.toList.drop 186 = dktX4_eggs_8 := dk_seg dksX4_eggs_7 24 rfl rfl
theorem dX4_eggs_0 : decode cX4_eggs 0 = .ok (.aload_n 0, 1) := dk_42 (dk_at dksX4_eggs_0 0 rfl rfl)
theorem dX4_eggs_1 : decode cX4_eggs 1 = .ok (.aload_n 0, 1) := dk_42 (dk_at dksX4_eggs_0 1 rfl rfl)
theorem dX4_eggs_2 : decode cX4_eggs 2 = .ok (.iload_n 1, 1) := dk_27 (dk_at dksX4_eggs_0 2 rfl rfl)
theorem dX4_eggs_3 : decode cX4_eggs 3 = .ok (.invokevirtual 217, 3) := dk_182 0 217 (dk_at dksX4_eggs_0 3 rfl rfl)
theorem dX4_eggs_6 : decode cX4_eggs 6 = .ok (.ifCond .ne 10, 3) := dk_154 0 10 (dk_at dksX4_eggs_0 6 rfl rfl)
theorem dX4_eggs_9 : decode cX4_eggs 9 = .ok (.iload_n 2, 1) := dk_28 (dk_at dksX4_eggs_0 9 rfl rfl)
theorem dX4_eggs_10 : decode cX4_eggs 10 = .ok (.invokestatic 163, 3) := dk_184 0 163 (dk_at dksX4_eggs_0 10 rfl rfl)
theorem dX4_eggs_13 : decode cX4_eggs 13 = .ok (.ifCond .eq 7, 3) := dk_153 0 7 (dk_at dksX4_eggs_0 13 rfl rfl)
theorem dX4_eggs_16 : decode cX4_eggs 16 = .ok (.iconst 1, 1) := dk_4 (dk_at dksX4_eggs_0 16 rfl rfl)
theorem dX4_eggs_17 : decode cX4_eggs 17 = .ok (.goto 4, 3) := dk_167 0 4 (dk_at dksX4_eggs_0 17 rfl rfl)
theorem dX4_eggs_20 : decode cX4_eggs 20 = .ok (.iconst 0, 1) := dk_3 (dk_at dksX4_eggs_0 20 rfl rfl)
theorem dX4_eggs_21 : decode cX4_eggs 21 = .ok (.iconst 1, 1) := dk_4 (dk_at dksX4_eggs_0 21 rfl rfl)
theorem dX4_eggs_22 : decode cX4_eggs 22 = .ok (.invokevirtual 72, 3) := dk_182 0 72 (dk_at dksX4_eggs_1 0 rfl rfl)
theorem dX4_eggs_25 : decode cX4_eggs 25 = .ok (.ifCond .eq 5, 3) := dk_153 0 5 (dk_at dksX4_eggs_1 3 rfl rfl)
theorem dX4_eggs_28 : decode cX4_eggs 28 = .ok (.iconst 0, 1) := dk_3 (dk_at dksX4_eggs_1 6 rfl rfl)
theorem dX4_eggs_29 : decode cX4_eggs 29 = .ok (.ireturn, 1) := dk_172 (dk_at dksX4_eggs_1 7 rfl rfl)
theorem dX4_eggs_30 : decode cX4_eggs 30 = .ok (.aload_n 0, 1) := dk_42 (dk_at dksX4_eggs_1 8 rfl rfl)
theorem dX4_eggs_31 : decode cX4_eggs 31 = .ok (.getfield 38, 3) := dk_180 0 38 (dk_at dksX4_eggs_1 9 rfl rfl)
theorem dX4_eggs_34 : decode cX4_eggs 34 = .ok (.iload_n 1, 1) := dk_27 (dk_at dksX4_eggs_1 12 rfl rfl)
theorem dX4_eggs_35 : decode cX4_eggs 35 = .ok (.invokevirtual 147, 3) := dk_182 0 147 (dk_at dksX4_eggs_1 13 rfl rfl)
theorem dX4_eggs_38 : decode cX4_eggs 38 = .ok (.checkcast 130, 3) := dk_192 0 130 (dk_at dksX4_eggs_1 16 rfl rfl)
theorem dX4_eggs_41 : decode cX4_eggs 41 = .ok (.astore 4, 2) := dk_58 4 (dk_at dksX4_eggs_1 19 rfl rfl)
theorem dX4_eggs_43 : decode cX4_eggs 43 = .ok (.aload_n 0, 1) := dk_42 (dk_at dksX4_eggs_1 21 rfl rfl)
theorem dX4_eggs_44 : decode cX4_eggs 44 = .ok (.aload 4, 2) := dk_25 4 (dk_at dksX4_eggs_1 22 rfl rfl)
theorem dX4_eggs_46 : decode cX4_eggs 46 = .ok (.getfield 220, 3) := dk_180 0 220 (dk_at dksX4_eggs_2 0 rfl rfl)
theorem dX4_eggs_49 : decode cX4_eggs 49 = .ok (.ifCond .ne 23, 3) := dk_154 0 23 (dk_at dksX4_eggs_2 3 rfl rfl)
theorem dX4_eggs_52 : decode cX4_eggs 52 = .ok (.aload 4, 2) := dk_25 4 (dk_at dksX4_eggs_2 6 rfl rfl)
theorem dX4_eggs_54 : decode cX4_eggs 54 = .ok (.invokevirtual 223, 3) := dk_182 0 223 (dk_at dksX4_eggs_2 8 rfl rfl)
theorem dX4_eggs_57 : decode cX4_eggs 57 = .ok (.ifCond .eq 15, 3) := dk_153 0 15 (dk_at dksX4_eggs_2 11 rfl rfl)
theorem dX4_eggs_60 : decode cX4_eggs 60 = .ok (.iload_n 3, 1) := dk_29 (dk_at dksX4_eggs_2 14 rfl rfl)
theorem dX4_eggs_61 : decode cX4_eggs 61 = .ok (.ifCond .eq 15, 3) := dk_153 0 15 (dk_at dksX4_eggs_2 15 rfl rfl)
theorem dX4_eggs_64 : decode cX4_eggs 64 = .ok (.aload_n 0, 1) := dk_42 (dk_at dksX4_eggs_2 18 rfl rfl)
theorem dX4_eggs_65 : decode cX4_eggs 65 = .ok (.getfield 51, 3) := dk_180 0 51 (dk_at dksX4_eggs_2 19 rfl rfl)
theorem dX4_eggs_68 : decode cX4_eggs 68 = .ok (.iconst 5, 1) := dk_8 (dk_at dksX4_eggs_2 22 rfl rfl)
theorem dX4_eggs_69 : decode cX4_eggs 69 = .ok (.if_icmp .ge 7, 3) := dk_162 0 7 (dk_at dksX4_eggs_3 0 rfl rfl)
theorem dX4_eggs_72 : decode cX4_eggs 72 = .ok (.iconst 1, 1) := dk_4 (dk_at dksX4_eggs_3 3 rfl rfl)
theorem dX4_eggs_73 : decode cX4_eggs 73 = .ok (.goto 4, 3) := dk_167 0 4 (dk_at dksX4_eggs_3 4 rfl rfl)
theorem dX4_eggs_76 : decode cX4_eggs 76 = .ok (.iconst 0, 1) := dk_3 (dk_at dksX4_eggs_3 7 rfl rfl)
theorem dX4_eggs_77 : decode cX4_eggs 77 = .ok (.iconst 2, 1) := dk_5 (dk_at dksX4_eggs_3 8 rfl rfl)
theorem dX4_eggs_78 : decode cX4_eggs 78 = .ok (.invokevirtual 60, 3) := dk_182 0 60 (dk_at dksX4_eggs_3 9 rfl rfl)
theorem dX4_eggs_81 : decode cX4_eggs 81 = .ok (.ifCond .eq 5, 3) := dk_153 0 5 (dk_at dksX4_eggs_3 12 rfl rfl)
theorem dX4_eggs_84 : decode cX4_eggs 84 = .ok (.iconst 0, 1) := dk_3 (dk_at dksX4_eggs_3 15 rfl rfl)
theorem dX4_eggs_85 : decode cX4_eggs 85 = .ok (.ireturn, 1) := dk_172 (dk_at dksX4_eggs_3 16 rfl rfl)
theorem dX4_eggs_86 : decode cX4_eggs 86 = .ok (.aload_n 0, 1) := dk_42 (dk_at dksX4_eggs_3 17 rfl rfl)
theorem dX4_eggs_87 : decode cX4_eggs 87 = .ok (.getfield 28, 3) := dk_180 0 28 (dk_at dksX4_eggs_3 18 rfl rfl)
theorem dX4_eggs_90 : decode cX4_eggs 90 = .ok (.iload_n 2, 1) := dk_28 (dk_at dksX4_eggs_3 21 rfl rfl)
theorem dX4_eggs_91 : decode cX4_eggs 91 = .ok (.aaload, 1) := dk_50 (dk_at dksX4_eggs_3 22 rfl rfl)
theorem dX4_eggs_92 : decode cX4_eggs 92 = .ok (.astore 5, 2) := dk_58 5 (dk_at dksX4_eggs_4 0 rfl rfl)
theorem dX4_eggs_94 : decode cX4_eggs 94 = .ok (.aload 5, 2) := dk_25 5 (dk_at dksX4_eggs_4 2 rfl rfl)
theorem dX4_eggs_96 : decode cX4_eggs 96 = .ok (.aload 4, 2) := dk_25 4 (dk_at dksX4_eggs_4 4 rfl rfl)
theorem dX4_eggs_98 : decode cX4_eggs 98 = .ok (.getfield 226, 3) := dk_180 0 226 (dk_at dksX4_eggs_4 6 rfl rfl)
theorem dX4_eggs_101 : decode cX4_eggs 101 = .ok (.putfield 169, 3) := dk_181 0 169 (dk_at dksX4_eggs_4 9 rfl rfl)
theorem dX4_eggs_104 : decode cX4_eggs 104 = .ok (.aload 5, 2) := dk_25 5 (dk_at dksX4_eggs_4 12 rfl rfl)
theorem dX4_eggs_106 : decode cX4_eggs 106 = .ok (.bipush 9, 2) := dk_16 9 (dk_at dksX4_eggs_4 14 rfl rfl)
theorem dX4_eggs_108 : decode cX4_eggs 108 = .ok (.aload 4, 2) := dk_25 4 (dk_at dksX4_eggs_4 16 rfl rfl)
theorem dX4_eggs_110 : decode cX4_eggs 110 = .ok (.getfield 227, 3) := dk_180 0 227 (dk_at dksX4_eggs_4 18 rfl rfl)
theorem dX4_eggs_113 : decode cX4_eggs 113 = .ok (.aload 4, 2) := dk_25 4 (dk_at dksX4_eggs_4 21 rfl rfl)
theorem dX4_eggs_115 : decode cX4_eggs 115 = .ok (.getfield 205, 3) := dk_180 0 205 (dk_at dksX4_eggs_5 0 rfl rfl)
theorem dX4_eggs_118 : decode cX4_eggs 118 = .ok (.iconst 2, 1) := dk_5 (dk_at dksX4_eggs_5 3 rfl rfl)
theorem dX4_eggs_119 : decode cX4_eggs 119 = .ok (.iaload, 1) := dk_46 (dk_at dksX4_eggs_5 4 rfl rfl)
theorem dX4_eggs_120 : decode cX4_eggs 120 = .ok (.ifCond .ne 7, 3) := dk_154 0 7 (dk_at dksX4_eggs_5 5 rfl rfl)
theorem dX4_eggs_123 : decode cX4_eggs 123 = .ok (.iconst 1, 1) := dk_4 (dk_at dksX4_eggs_5 8 rfl rfl)
theorem dX4_eggs_124 : decode cX4_eggs 124 = .ok (.goto 4, 3) := dk_167 0 4 (dk_at dksX4_eggs_5 9 rfl rfl)
theorem dX4_eggs_127 : decode cX4_eggs 127 = .ok (.iconst 0, 1) := dk_3 (dk_at dksX4_eggs_5 12 rfl rfl)
theorem dX4_eggs_128 : decode cX4_eggs 128 = .ok (.iadd, 1) := dk_96 (dk_at dksX4_eggs_5 13 rfl rfl)
theorem dX4_eggs_129 : decode cX4_eggs 129 = .ok (.invokestatic 140, 3) := dk_184 0 140 (dk_at dksX4_eggs_5 14 rfl rfl)
theorem dX4_eggs_132 : decode cX4_eggs 132 = .ok (.putfield 121, 3) := dk_181 0 121 (dk_at dksX4_eggs_5 17 rfl rfl)
theorem dX4_eggs_135 : decode cX4_eggs 135 = .ok (.aload 5, 2) := dk_25 5 (dk_at dksX4_eggs_5 20 rfl rfl)
theorem dX4_eggs_137 : decode cX4_eggs 137 = .ok (.bipush 10, 2) := dk_16 10 (dk_at dksX4_eggs_5 22 rfl rfl)
theorem dX4_eggs_139 : decode cX4_eggs 139 = .ok (.aload 4, 2) := dk_25 4 (dk_at dksX4_eggs_6 0 rfl rfl)
theorem dX4_eggs_141 : decode cX4_eggs 141 = .ok (.getfield 205, 3) := dk_180 0 205 (dk_at dksX4_eggs_6 2 rfl rfl)
theorem dX4_eggs_144 : decode cX4_eggs 144 = .ok (.iconst 2, 1) := dk_5 (dk_at dksX4_eggs_6 5 rfl rfl)
theorem dX4_eggs_145 : decode cX4_eggs 145 = .ok (.iaload, 1) := dk_46 (dk_at dksX4_eggs_6 6 rfl rfl)
theorem dX4_eggs_146 : decode cX4_eggs 146 = .ok (.imul, 1) := dk_104 (dk_at dksX4_eggs_6 7 rfl rfl)
theorem dX4_eggs_147 : decode cX4_eggs 147 = .ok (.aload 4, 2) := dk_25 4 (dk_at dksX4_eggs_6 8 rfl rfl)
theorem dX4_eggs_149 : decode cX4_eggs 149 = .ok (.invokevirtual 223, 3) := dk_182 0 223 (dk_at dksX4_eggs_6 10 rfl rfl)
theorem dX4_eggs_152 : decode cX4_eggs 152 = .ok (.invokestatic 137, 3) := dk_184 0 137 (dk_at dksX4_eggs_6 13 rfl rfl)
theorem dX4_eggs_155 : decode cX4_eggs 155 = .ok (.putfield 166, 3) := dk_181 0 166 (dk_at dksX4_eggs_6 16 rfl rfl)
theorem dX4_eggs_158 : decode cX4_eggs 158 = .ok (.iload_n 3, 1) := dk_29 (dk_at dksX4_eggs_6 19 rfl rfl)
theorem dX4_eggs_159 : decode cX4_eggs 159 = .ok (.ifCond .ne 9, 3) := dk_154 0 9 (dk_at dksX4_eggs_6 20 rfl rfl)
theorem dX4_eggs_162 : decode cX4_eggs 162 = .ok (.aload 5, 2) := dk_25 5 (dk_at dksX4_eggs_7 0 rfl rfl)
theorem dX4_eggs_164 : decode cX4_eggs 164 = .ok (.getfield 166, 3) := dk_180 0 166 (dk_at dksX4_eggs_7 2 rfl rfl)
theorem dX4_eggs_167 : decode cX4_eggs 167 = .ok (.ireturn, 1) := dk_172 (dk_at dksX4_eggs_7 5 rfl rfl)
theorem dX4_eggs_168 : decode cX4_eggs 168 = .ok (.aload_n 0, 1) := dk_42 (dk_at dksX4_eggs_7 6 rfl rfl)
theorem dX4_eggs_169 : decode cX4_eggs 169 = .ok (.dup, 1) := dk_89 (dk_at dksX4_eggs_7 7 rfl rfl)
theorem dX4_eggs_170 : decode cX4_eggs 170 = .ok (.getfield 51, 3) := dk_180 0 51 (dk_at dksX4_eggs_7 8 rfl rfl)
theorem dX4_eggs_173 : decode cX4_eggs 173 = .ok (.iconst 5, 1) := dk_8 (dk_at dksX4_eggs_7 11 rfl rfl)
theorem dX4_eggs_174 : decode cX4_eggs 174 = .ok (.isub, 1) := dk_100 (dk_at dksX4_eggs_7 12 rfl rfl)
theorem dX4_eggs_175 : decode cX4_eggs 175 = .ok (.putfield 51, 3) := dk_181 0 51 (dk_at dksX4_eggs_7 13 rfl rfl)
theorem dX4_eggs_178 : decode cX4_eggs 178 = .ok (.aload 5, 2) := dk_25 5 (dk_at dksX4_eggs_7 16 rfl rfl)
theorem dX4_eggs_180 : decode cX4_eggs 180 = .ok (.aload 5, 2) := dk_25 5 (dk_at dksX4_eggs_7 18 rfl rfl)
theorem dX4_eggs_182 : decode cX4_eggs 182 = .ok (.getfield 166, 3) := dk_180 0 166 (dk_at dksX4_eggs_7 20 rfl rfl)
theorem dX4_eggs_185 : decode cX4_eggs 185 = .ok (.iconst 3, 1) := dk_6 (dk_at dksX4_eggs_7 23 rfl rfl)
theorem dX4_eggs_186 : decode cX4_eggs 186 = .ok (.if_icmp .gt 7, 3) := dk_163 0 7 (dk_at dksX4_eggs_8 0 rfl rfl)
theorem dX4_eggs_189 : decode cX4_eggs 189 = .ok (.iconst 0, 1) := dk_3 (dk_at dksX4_eggs_8 3 rfl rfl)
theorem dX4_eggs_190 : decode cX4_eggs 190 = .ok (.goto 10, 3) := dk_167 0 10 (dk_at dksX4_eggs_8 4 rfl rfl)
theorem dX4_eggs_193 : decode cX4_eggs 193 = .ok (.aload 5, 2) := dk_25 5 (dk_at dksX4_eggs_8 7 rfl rfl)
theorem dX4_eggs_195 : decode cX4_eggs 195 = .ok (.getfield 166, 3) := dk_180 0 166 (dk_at dksX4_eggs_8 9 rfl rfl)
theorem dX4_eggs_198 : decode cX4_eggs 198 = .ok (.iconst 2, 1) := dk_5 (dk_at dksX4_eggs_8 12 rfl rfl)
theorem dX4_eggs_199 : decode cX4_eggs 199 = .ok (.idiv, 1) := dk_108 (dk_at dksX4_eggs_8 13 rfl rfl)
theorem dX4_eggs_200 : decode cX4_eggs 200 = .ok (.putfield 166, 3) := dk_181 0 166 (dk_at dksX4_eggs_8 14 rfl rfl)
theorem dX4_eggs_203 : decode cX4_eggs 203 = .ok (.aload 5, 2) := dk_25 5 (dk_at dksX4_eggs_8 17 rfl rfl)
theorem dX4_eggs_205 : decode cX4_eggs 205 = .ok (.getfield 166, 3) := dk_180 0 166 (dk_at dksX4_eggs_8 19 rfl rfl)
theorem dX4_eggs_208 : decode cX4_eggs 208 = .ok (.ireturn, 1) := dk_172 (dk_at dksX4_eggs_8 22 rfl rfl)
abbrev cX4_reel : ByteArray := prog_9_method_29_code
def yX4_reel : MethodName := ⟨RX4, "reel", "(IIII)I"⟩
def dkwX4_reel_7 : List UInt8 := [182, 0, 80, 87, 42, 180, 0, 48, 182, 0, 64, 4, 100, 172]
abbrev dktX4_reel_7 : List UInt8 := dkwX4_reel_7 ++ []
def dkwX4_reel_6 : List UInt8 := [29, 21, 4, 182, 0, 231, 58, 5, 25, 5, 180, 0, 235, 154, 0, 5, 2, 172, 42, 180, 0, 48, 25, 5]
abbrev dktX4_reel_6 : List UInt8 := dkwX4_reel_6 ++ dktX4_reel_7
def dkwX4_reel_5 : List UInt8 := [180, 0, 38, 27, 182, 0, 147, 192, 0, 130, 42, 180, 0, 38, 27, 182, 0, 147, 192, 0, 130, 180, 0, 208]
abbrev dktX4_reel_5 : List UInt8 := dkwX4_reel_5 ++ dktX4_reel_6
def dkwX4_reel_4 : List UInt8 := [160, 0, 7, 4, 167, 0, 4, 3, 6, 182, 0, 60, 153, 0, 5, 3, 172, 42, 180, 0, 44, 28, 50, 42]
abbrev dktX4_reel_4 : List UInt8 := dkwX4_reel_4 ++ dktX4_reel_5
def dkwX4_reel_3 : List UInt8 := [182, 0, 147, 192, 0, 130, 180, 0, 220, 4, 160, 0, 15, 42, 180, 0, 48, 182, 0, 64, 16, 12]
abbrev dktX4_reel_3 : List UInt8 := dkwX4_reel_3 ++ dktX4_reel_4
def dkwX4_reel_2 : List UInt8 := [184, 0, 68, 154, 0, 7, 4, 167, 0, 4, 3, 5, 182, 0, 60, 154, 0, 46, 42, 42, 180, 0, 38, 27]
abbrev dktX4_reel_2 : List UInt8 := dkwX4_reel_2 ++ dktX4_reel_3
def dkwX4_reel_1 : List UInt8 := [182, 0, 72, 154, 0, 80, 42, 29, 4, 16, 40, 184, 0, 68, 153, 0, 14, 21, 4, 4, 16, 30]
abbrev dktX4_reel_1 : List UInt8 := dkwX4_reel_1 ++ dktX4_reel_2
def dkwX4_reel_0 : List UInt8 := [42, 42, 27, 182, 0, 217, 154, 0, 10, 28, 184, 0, 228, 153, 0, 7, 4, 167, 0, 4, 3, 4]
abbrev dktX4_reel_0 : List UInt8 := dkwX4_reel_0 ++ dktX4_reel_1
theorem dksX4_reel_0 : cX4_reel.data.toList.drop 0 = dktX4_reel_0 := by decide +kernel
theorem dksX4_reel_1 : cX4_reel.data.toList.drop 22 = dktX4_reel_1 := dk_seg dksX4_reel_0 22 rfl rfl
theorem dksX4_reel_2 : cX4_reel.data.toList.drop 44 = dktX4_reel_2 := dk_seg dksX4_reel_1 22 rfl rfl
theorem dksX4_reel_3 : cX4_reel.data.toList.drop 68 = dktX4_reel_3 := dk_seg dksX4_reel_2 24 rfl rfl
theorem dksX4_reel_4 : cX4_reel.data.toList.drop 90 = dktX4_reel_4 := dk_seg dksX4_reel_3 22 rfl rfl
theorem dksX4_reel_5 : cX4_reel.data.toList.drop 114 = dktX4_reel_5 := dk_seg dksX4_reel_4 24 rfl rfl
theorem dksX4_reel_6 : cX4_reel.data.toList.drop 138 = dktX4_reel_6 := dk_seg dksX4_reel_5 24 rfl rfl
theorem dksX4_reel_7 : cX4_reel.data.toList.drop 162 = dktX4_reel_7 := dk_seg dksX4_reel_6 24 rfl rfl
theorem dX4_reel_0 : decode cX4_reel 0 = .ok (.aload_n 0, 1) := dk_42 (dk_at dksX4_reel_0 0 rfl rfl)
theorem dX4_reel_1 : decode cX4_reel 1 = .ok (.aload_n 0, 1) := dk_42 (dk_at dksX4_reel_0 1 rfl rfl)
theorem dX4_reel_2 : decode cX4_reel 2 = .ok (.iload_n 1, 1) := dk_27 (dk_at dksX4_reel_0 2 rfl rfl)
theorem dX4_reel_3 : decode cX4_reel 3 = .ok (.invokevirtual 217, 3) := dk_182 0 217 (dk_at dksX4_reel_0 3 rfl rfl)
theorem dX4_reel_6 : decode cX4_reel 6 = .ok (.ifCond .ne 10, 3) := dk_154 0 10 (dk_at dksX4_reel_0 6 rfl rfl)
theorem dX4_reel_9 : decode cX4_reel 9 = .ok (.iload_n 2, 1) := dk_28 (dk_at dksX4_reel_0 9 rfl rfl)
theorem dX4_reel_10 : decode cX4_reel 10 = .ok (.invokestatic 228, 3) := dk_184 0 228 (dk_at dksX4_reel_0 10 rfl rfl)
theorem dX4_reel_13 : decode cX4_reel 13 = .ok (.ifCond .eq 7, 3) := dk_153 0 7 (dk_at dksX4_reel_0 13 rfl rfl)
theorem dX4_reel_16 : decode cX4_reel 16 = .ok (.iconst 1, 1) := dk_4 (dk_at dksX4_reel_0 16 rfl rfl)
theorem dX4_reel_17 : decode cX4_reel 17 = .ok (.goto 4, 3) := dk_167 0 4 (dk_at dksX4_reel_0 17 rfl rfl)
theorem dX4_reel_20 : decode cX4_reel 20 = .ok (.iconst 0, 1) := dk_3 (dk_at dksX4_reel_0 20 rfl rfl)
theorem dX4_reel_21 : decode cX4_reel 21 = .ok (.iconst 1, 1) := dk_4 (dk_at dksX4_reel_0 21 rfl rfl)
theorem dX4_reel_22 : decode cX4_reel 22 = .ok (.invokevirtual 72, 3) := dk_182 0 72 (dk_at dksX4_reel_1 0 rfl rfl)
theorem dX4_reel_25 : decode cX4_reel 25 = .ok (.ifCond .ne 80, 3) := dk_154 0 80 (dk_at dksX4_reel_1 3 rfl rfl)
theorem dX4_reel_28 : decode cX4_reel 28 = .ok (.aload_n 0, 1) := dk_42 (dk_at dksX4_reel_1 6 rfl rfl)
theorem dX4_reel_29 : decode cX4_reel 29 = .ok (.iload_n 3, 1) := dk_29 (dk_at dksX4_reel_1 7 rfl rfl)
theorem dX4_reel_30 : decode cX4_reel 30 = .ok (.iconst 1, 1) := dk_4 (dk_at dksX4_reel_1 8 rfl rfl)
theorem dX4_reel_31 : decode cX4_reel 31 = .ok (.bipush 40, 2) := dk_16 40 (dk_at dksX4_reel_1 9 rfl rfl)
theorem dX4_reel_33 : decode cX4_reel 33 = .ok (.invokestatic 68, 3) := dk_184 0 68 (dk_at dksX4_reel_1 11 rfl rfl)
theorem dX4_reel_36 : decode cX4_reel 36 = .ok (.ifCond .eq 14, 3) := dk_153 0 14 (dk_at dksX4_reel_1 14 rfl rfl)
theorem dX4_reel_39 : decode cX4_reel 39 = .ok (.iload 4, 2) := dk_21 4 (dk_at dksX4_reel_1 17 rfl rfl)
theorem dX4_reel_41 : decode cX4_reel 41 = .ok (.iconst 1, 1) := dk_4 (dk_at dksX4_reel_1 19 rfl rfl)
theorem dX4_reel_42 : decode cX4_reel 42 = .ok (.bipush 30, 2) := dk_16 30 (dk_at dksX4_reel_1 20 rfl rfl)
theorem dX4_reel_44 : decode cX4_reel 44 = .ok (.invokestatic 68, 3) := dk_184 0 68 (dk_at dksX4_reel_2 0 rfl rfl)
theorem dX4_reel_47 : decode cX4_reel 47 = .ok (.ifCond .ne 7, 3) := dk_154 0 7 (dk_at dksX4_reel_2 3 rfl rfl)
theorem dX4_reel_50 : decode cX4_reel 50 = .ok (.iconst 1, 1) := dk_4 (dk_at dksX4_reel_2 6 rfl rfl)
theorem dX4_reel_51 : decode cX4_reel 51 = .ok (.goto 4, 3) := dk_167 0 4 (dk_at dksX4_reel_2 7 rfl rfl)
theorem dX4_reel_54 : decode cX4_reel 54 = .ok (.iconst 0, 1) := dk_3 (dk_at dksX4_reel_2 10 rfl rfl)
theorem dX4_reel_55 : decode cX4_reel 55 = .ok (.iconst 2, 1) := dk_5 (dk_at dksX4_reel_2 11 rfl rfl)
theorem dX4_reel_56 : decode cX4_reel 56 = .ok (.invokevirtual 60, 3) := dk_182 0 60 (dk_at dksX4_reel_2 12 rfl rfl)
theorem dX4_reel_59 : decode cX4_reel 59 = .ok (.ifCond .ne 46, 3) := dk_154 0 46 (dk_at dksX4_reel_2 15 rfl rfl)
theorem dX4_reel_62 : decode cX4_reel 62 = .ok (.aload_n 0, 1) := dk_42 (dk_at dksX4_reel_2 18 rfl rfl)
theorem dX4_reel_63 : decode cX4_reel 63 = .ok (.aload_n 0, 1) := dk_42 (dk_at dksX4_reel_2 19 rfl rfl)
theorem dX4_reel_64 : decode cX4_reel 64 = .ok (.getfield 38, 3) := dk_180 0 38 (dk_at dksX4_reel_2 20 rfl rfl)
theorem dX4_reel_67 : decode cX4_reel 67 = .ok (.iload_n 1, 1) := dk_27 (dk_at dksX4_reel_2 23 rfl rfl)
theorem dX4_reel_68 : decode cX4_reel 68 = .ok (.invokevirtual 147, 3) := dk_182 0 147 (dk_at dksX4_reel_3 0 rfl rfl)
theorem dX4_reel_71 : decode cX4_reel 71 = .ok (.checkcast 130, 3) := dk_192 0 130 (dk_at dksX4_reel_3 3 rfl rfl)
theorem dX4_reel_74 : decode cX4_reel 74 = .ok (.getfield 220, 3) := dk_180 0 220 (dk_at dksX4_reel_3 6 rfl rfl)
theorem dX4_reel_77 : decode cX4_reel 77 = .ok (.iconst 1, 1) := dk_4 (dk_at dksX4_reel_3 9 rfl rfl)
theorem dX4_reel_78 : decode cX4_reel 78 = .ok (.if_icmp .ne 15, 3) := dk_160 0 15 (dk_at dksX4_reel_3 10 rfl rfl)
theorem dX4_reel_81 : decode cX4_reel 81 = .ok (.aload_n 0, 1) := dk_42 (dk_at dksX4_reel_3 13 rfl rfl)
theorem dX4_reel_82 : decode cX4_reel 82 = .ok (.getfield 48, 3) := dk_180 0 48 (dk_at dksX4_reel_3 14 rfl rfl)
theorem dX4_reel_85 : decode cX4_reel 85 = .ok (.invokevirtual 64, 3) := dk_182 0 64 (dk_at dksX4_reel_3 17 rfl rfl)
theorem dX4_reel_88 : decode cX4_reel 88 = .ok (.bipush 12, 2) := dk_16 12 (dk_at dksX4_reel_3 20 rfl rfl)
theorem dX4_reel_90 : decode cX4_reel 90 = .ok (.if_icmp .ne 7, 3) := dk_160 0 7 (dk_at dksX4_reel_4 0 rfl rfl)
theorem dX4_reel_93 : decode cX4_reel 93 = .ok (.iconst 1, 1) := dk_4 (dk_at dksX4_reel_4 3 rfl rfl)
theorem dX4_reel_94 : decode cX4_reel 94 = .ok (.goto 4, 3) := dk_167 0 4 (dk_at dksX4_reel_4 4 rfl rfl)
theorem dX4_reel_97 : decode cX4_reel 97 = .ok (.iconst 0, 1) := dk_3 (dk_at dksX4_reel_4 7 rfl rfl)
theorem dX4_reel_98 : decode cX4_reel 98 = .ok (.iconst 3, 1) := dk_6 (dk_at dksX4_reel_4 8 rfl rfl)
theorem dX4_reel_99 : decode cX4_reel 99 = .ok (.invokevirtual 60, 3) := dk_182 0 60 (dk_at dksX4_reel_4 9 rfl rfl)
theorem dX4_reel_102 : decode cX4_reel 102 = .ok (.ifCond .eq 5, 3) := dk_153 0 5 (dk_at dksX4_reel_4 12 rfl rfl)
theorem dX4_reel_105 : decode cX4_reel 105 = .ok (.iconst 0, 1) := dk_3 (dk_at dksX4_reel_4 15 rfl rfl)
theorem dX4_reel_106 : decode cX4_reel 106 = .ok (.ireturn, 1) := dk_172 (dk_at dksX4_reel_4 16 rfl rfl)
theorem dX4_reel_107 : decode cX4_reel 107 = .ok (.aload_n 0, 1) := dk_42 (dk_at dksX4_reel_4 17 rfl rfl)
theorem dX4_reel_108 : decode cX4_reel 108 = .ok (.getfield 44, 3) := dk_180 0 44 (dk_at dksX4_reel_4 18 rfl rfl)
theorem dX4_reel_111 : decode cX4_reel 111 = .ok (.iload_n 2, 1) := dk_28 (dk_at dksX4_reel_4 21 rfl rfl)
theorem dX4_reel_112 : decode cX4_reel 112 = .ok (.aaload, 1) := dk_50 (dk_at dksX4_reel_4 22 rfl rfl)
theorem dX4_reel_113 : decode cX4_reel 113 = .ok (.aload_n 0, 1) := dk_42 (dk_at dksX4_reel_4 23 rfl rfl)
theorem dX4_reel_114 : decode cX4_reel 114 = .ok (.getfield 38, 3) := dk_180 0 38 (dk_at dksX4_reel_5 0 rfl rfl)
theorem dX4_reel_117 : decode cX4_reel 117 = .ok (.iload_n 1, 1) := dk_27 (dk_at dksX4_reel_5 3 rfl rfl)
theorem dX4_reel_118 : decode cX4_reel 118 = .ok (.invokevirtual 147, 3) := dk_182 0 147 (dk_at dksX4_reel_5 4 rfl rfl)
theorem dX4_reel_121 : decode cX4_reel 121 = .ok (.checkcast 130, 3) := dk_192 0 130 (dk_at dksX4_reel_5 7 rfl rfl)
theorem dX4_reel_124 : decode cX4_reel 124 = .ok (.aload_n 0, 1) := dk_42 (dk_at dksX4_reel_5 10 rfl rfl)
theorem dX4_reel_125 : decode cX4_reel 125 = .ok (.getfield 38, 3) := dk_180 0 38 (dk_at dksX4_reel_5 11 rfl rfl)
theorem dX4_reel_128 : decode cX4_reel 128 = .ok (.iload_n 1, 1) := dk_27 (dk_at dksX4_reel_5 14 rfl rfl)
theorem dX4_reel_129 : decode cX4_reel 129 = .ok (.invokevirtual 147, 3) := dk_182 0 147 (dk_at dksX4_reel_5 15 rfl rfl)
theorem dX4_reel_132 : decode cX4_reel 132 = .ok (.checkcast 130, 3) := dk_192 0 130 (dk_at dksX4_reel_5 18 rfl rfl)
theorem dX4_reel_135 : decode cX4_reel 135 = .ok (.getfield 208, 3) := dk_180 0 208 (dk_at dksX4_reel_5 21 rfl rfl)
theorem dX4_reel_138 : decode cX4_reel 138 = .ok (.iload_n 3, 1) := dk_29 (dk_at dksX4_reel_6 0 rfl rfl)
theorem dX4_reel_139 : decode cX4_reel 139 = .ok (.iload 4, 2) := dk_21 4 (dk_at dksX4_reel_6 1 rfl rfl)
theorem dX4_reel_141 : decode cX4_reel 141 = .ok (.invokevirtual 231, 3) := dk_182 0 231 (dk_at dksX4_reel_6 3 rfl rfl)
theorem dX4_reel_144 : decode cX4_reel 144 = .ok (.astore 5, 2) := dk_58 5 (dk_at dksX4_reel_6 6 rfl rfl)
theorem dX4_reel_146 : decode cX4_reel 146 = .ok (.aload 5, 2) := dk_25 5 (dk_at dksX4_reel_6 8 rfl rfl)
theorem dX4_reel_148 : decode cX4_reel 148 = .ok (.getfield 235, 3) := dk_180 0 235 (dk_at dksX4_reel_6 10 rfl rfl)
theorem dX4_reel_151 : decode cX4_reel 151 = .ok (.ifCond .ne 5, 3) := dk_154 0 5 (dk_at dksX4_reel_6 13 rfl rfl)
theorem dX4_reel_154 : decode cX4_reel 154 = .ok (.iconst (-1), 1) := dk_2 (dk_at dksX4_reel_6 16 rfl rfl)
theorem dX4_reel_155 : decode cX4_reel 155 = .ok (.ireturn, 1) := dk_172 (dk_at dksX4_reel_6 17 rfl rfl)
theorem dX4_reel_156 : decode cX4_reel 156 = .ok (.aload_n 0, 1) := dk_42 (dk_at dksX4_reel_6 18 rfl rfl)
theorem dX4_reel_157 : decode cX4_reel 157 = .ok (.getfield 48, 3) := dk_180 0 48 (dk_at dksX4_reel_6 19 rfl rfl)
theorem dX4_reel_160 : decode cX4_reel 160 = .ok (.aload 5, 2) := dk_25 5 (dk_at dksX4_reel_6 22 rfl rfl)
theorem dX4_reel_162 : decode cX4_reel 162 = .ok (.invokevirtual 80, 3) := dk_182 0 80 (dk_at dksX4_reel_7 0 rfl rfl)
theorem dX4_reel_165 : decode cX4_reel 165 = .ok (.pop, 1) := dk_87 (dk_at dksX4_reel_7 3 rfl rfl)
theorem dX4_reel_166 : decode cX4_reel 166 = .ok (.aload_n 0, 1) := dk_42 (dk_at dksX4_reel_7 4 rfl rfl)
theorem dX4_reel_167 : decode cX4_reel 167 = .ok (.getfield 48, 3) := dk_180 0 48 (dk_at dksX4_reel_7 5 rfl rfl)
theorem dX4_reel_170 : decode cX4_reel 170 = .ok (.invokevirtual 64, 3) := dk_182 0 64 (dk_at dksX4_reel_7 8 rfl rfl)
theorem dX4_reel_173 : decode cX4_reel 173 = .ok (.iconst 1, 1) := dk_4 (dk_at dksX4_reel_7 11 rfl rfl)
theorem dX4_reel_174 : decode cX4_reel 174 = .ok (.isub, 1) := dk_100 (dk_at dksX4_reel_7 12 rfl rfl)
theorem dX4_reel_175 : decode cX4_reel 175 = .ok (.ireturn, 1) := dk_172 (dk_at dksX4_reel_7 13 rfl rfl)
abbrev cX4_isNoBasin : ByteArray := prog_9_method_12_code
def yX4_isNoBasin : MethodName := ⟨RX4, "isNoBasin", "(I)Z"⟩
def dkwX4_isNoBasin_0 : List UInt8 := [26, 3, 4, 184, 0, 68, 154, 0, 7, 4, 167, 0, 4, 3, 172]
abbrev dktX4_isNoBasin_0 : List UInt8 := dkwX4_isNoBasin_0 ++ []
theorem dksX4_isNoBasin_0 : cX4_isNoBasin.data.toList.drop 0 = dktX4_isNoBasin_0 := by decide +kernel
theorem dX4_isNoBasin_0 : decode cX4_isNoBasin 0 = .ok (.iload_n 0, 1) := dk_26 (dk_at dksX4_isNoBasin_0 0 rfl rfl)
theorem dX4_isNoBasin_1 : decode cX4_isNoBasin 1 = .ok (.iconst 0, 1) := dk_3 (dk_at dksX4_isNoBasin_0 1 rfl rfl)
theorem dX4_isNoBasin_2 : decode cX4_isNoBasin 2 = .ok (.iconst 1, 1) := dk_4 (dk_at dksX4_isNoBasin_0 2 rfl rfl)
theorem dX4_isNoBasin_3 : decode cX4_isNoBasin 3 = .ok (.invokestatic 68, 3) := dk_184 0 68 (dk_at dksX4_isNoBasin_0 3 rfl rfl)
theorem dX4_isNoBasin_6 : decode cX4_isNoBasin 6 = .ok (.ifCond .ne 7, 3) := dk_154 0 7 (dk_at dksX4_isNoBasin_0 6 rfl rfl)
theorem dX4_isNoBasin_9 : decode cX4_isNoBasin 9 = .ok (.iconst 1, 1) := dk_4 (dk_at dksX4_isNoBasin_0 9 rfl rfl)
theorem dX4_isNoBasin_10 : decode cX4_isNoBasin 10 = .ok (.goto 4, 3) := dk_167 0 4 (dk_at dksX4_isNoBasin_0 10 rfl rfl)
theorem dX4_isNoBasin_13 : decode cX4_isNoBasin 13 = .ok (.iconst 0, 1) := dk_3 (dk_at dksX4_isNoBasin_0 13 rfl rfl)
theorem dX4_isNoBasin_14 : decode cX4_isNoBasin 14 = .ok (.ireturn, 1) := dk_172 (dk_at dksX4_isNoBasin_0 14 rfl rfl)
abbrev cX4_piece : ByteArray := prog_9_method_3_code
def yX4_piece : MethodName := ⟨RX4, "piece", "(III)I"⟩
def dkwX4_piece_2 : List UInt8 := [184, 0, 7, 167, 0, 4, 3, 172]
abbrev dktX4_piece_2 : List UInt8 := dkwX4_piece_2 ++ []
def dkwX4_piece_1 : List UInt8 := [162, 0, 7, 27, 167, 0, 4, 3, 172, 28, 8, 162, 0, 17, 4, 27, 178, 0, 3, 28, 46, 96]
abbrev dktX4_piece_1 : List UInt8 := dkwX4_piece_1 ++ dktX4_piece_2
def dkwX4_piece_0 : List UInt8 := [26, 5, 160, 0, 14, 28, 6, 162, 0, 7, 4, 167, 0, 4, 3, 172, 26, 4, 160, 0, 14, 28, 7]
abbrev dktX4_piece_0 : List UInt8 := dkwX4_piece_0 ++ dktX4_piece_1
theorem dksX4_piece_0 : cX4_piece.data.toList.drop 0 = dktX4_piece_0 := by decide +kernel
theorem dksX4_piece_1 : cX4_piece.data.toList.drop 23 = dktX4_piece_1 := dk_seg dksX4_piece_0 23 rfl rfl
theorem dksX4_piece_2 : cX4_piece.data.toList.drop 45 = dktX4_piece_2 := dk_seg dksX4_piece_1 22 rfl rfl
theorem dX4_piece_0 : decode cX4_piece 0 = .ok (.iload_n 0, 1) := dk_26 (dk_at dksX4_piece_0 0 rfl rfl)
theorem dX4_piece_1 : decode cX4_piece 1 = .ok (.iconst 2, 1) := dk_5 (dk_at dksX4_piece_0 1 rfl rfl)
theorem dX4_piece_2 : decode cX4_piece 2 = .ok (.if_icmp .ne 14, 3) := dk_160 0 14 (dk_at dksX4_piece_0 2 rfl rfl)
theorem dX4_piece_5 : decode cX4_piece 5 = .ok (.iload_n 2, 1) := dk_28 (dk_at dksX4_piece_0 5 rfl rfl)
theorem dX4_piece_6 : decode cX4_piece 6 = .ok (.iconst 3, 1) := dk_6 (dk_at dksX4_piece_0 6 rfl rfl)
theorem dX4_piece_7 : decode cX4_piece 7 = .ok (.if_icmp .ge 7, 3) := dk_162 0 7 (dk_at dksX4_piece_0 7 rfl rfl)
theorem dX4_piece_10 : decode cX4_piece 10 = .ok (.iconst 1, 1) := dk_4 (dk_at dksX4_piece_0 10 rfl rfl)
theorem dX4_piece_11 : decode cX4_piece 11 = .ok (.goto 4, 3) := dk_167 0 4 (dk_at dksX4_piece_0 11 rfl rfl)
theorem dX4_piece_14 : decode cX4_piece 14 = .ok (.iconst 0, 1) := dk_3 (dk_at dksX4_piece_0 14 rfl rfl)
theorem dX4_piece_15 : decode cX4_piece 15 = .ok (.ireturn, 1) := dk_172 (dk_at dksX4_piece_0 15 rfl rfl)
theorem dX4_piece_16 : decode cX4_piece 16 = .ok (.iload_n 0, 1) := dk_26 (dk_at dksX4_piece_0 16 rfl rfl)
theorem dX4_piece_17 : decode cX4_piece 17 = .ok (.iconst 1, 1) := dk_4 (dk_at dksX4_piece_0 17 rfl rfl)
theorem dX4_piece_18 : decode cX4_piece 18 = .ok (.if_icmp .ne 14, 3) := dk_160 0 14 (dk_at dksX4_piece_0 18 rfl rfl)
theorem dX4_piece_21 : decode cX4_piece 21 = .ok (.iload_n 2, 1) := dk_28 (dk_at dksX4_piece_0 21 rfl rfl)
theorem dX4_piece_22 : decode cX4_piece 22 = .ok (.iconst 4, 1) := dk_7 (dk_at dksX4_piece_0 22 rfl rfl)
theorem dX4_piece_23 : decode cX4_piece 23 = .ok (.if_icmp .ge 7, 3) := dk_162 0 7 (dk_at dksX4_piece_1 0 rfl rfl)
theorem dX4_piece_26 : decode cX4_piece 26 = .ok (.iload_n 1, 1) := dk_27 (dk_at dksX4_piece_1 3 rfl rfl)
theorem dX4_piece_27 : decode cX4_piece 27 = .ok (.goto 4, 3) := dk_167 0 4 (dk_at dksX4_piece_1 4 rfl rfl)
theorem dX4_piece_30 : decode cX4_piece 30 = .ok (.iconst 0, 1) := dk_3 (dk_at dksX4_piece_1 7 rfl rfl)
theorem dX4_piece_31 : decode cX4_piece 31 = .ok (.ireturn, 1) := dk_172 (dk_at dksX4_piece_1 8 rfl rfl)
theorem dX4_piece_32 : decode cX4_piece 32 = .ok (.iload_n 2, 1) := dk_28 (dk_at dksX4_piece_1 9 rfl rfl)
theorem dX4_piece_33 : decode cX4_piece 33 = .ok (.iconst 5, 1) := dk_8 (dk_at dksX4_piece_1 10 rfl rfl)
theorem dX4_piece_34 : decode cX4_piece 34 = .ok (.if_icmp .ge 17, 3) := dk_162 0 17 (dk_at dksX4_piece_1 11 rfl rfl)
theorem dX4_piece_37 : decode cX4_piece 37 = .ok (.iconst 1, 1) := dk_4 (dk_at dksX4_piece_1 14 rfl rfl)
theorem dX4_piece_38 : decode cX4_piece 38 = .ok (.iload_n 1, 1) := dk_27 (dk_at dksX4_piece_1 15 rfl rfl)
theorem dX4_piece_39 : decode cX4_piece 39 = .ok (.getstatic 3, 3) := dk_178 0 3 (dk_at dksX4_piece_1 16 rfl rfl)
theorem dX4_piece_42 : decode cX4_piece 42 = .ok (.iload_n 2, 1) := dk_28 (dk_at dksX4_piece_1 19 rfl rfl)
theorem dX4_piece_43 : decode cX4_piece 43 = .ok (.iaload, 1) := dk_46 (dk_at dksX4_piece_1 20 rfl rfl)
theorem dX4_piece_44 : decode cX4_piece 44 = .ok (.iadd, 1) := dk_96 (dk_at dksX4_piece_1 21 rfl rfl)
theorem dX4_piece_45 : decode cX4_piece 45 = .ok (.invokestatic 7, 3) := dk_184 0 7 (dk_at dksX4_piece_2 0 rfl rfl)
theorem dX4_piece_48 : decode cX4_piece 48 = .ok (.goto 4, 3) := dk_167 0 4 (dk_at dksX4_piece_2 3 rfl rfl)
theorem dX4_piece_51 : decode cX4_piece 51 = .ok (.iconst 0, 1) := dk_3 (dk_at dksX4_piece_2 6 rfl rfl)
theorem dX4_piece_52 : decode cX4_piece 52 = .ok (.ireturn, 1) := dk_172 (dk_at dksX4_piece_2 7 rfl rfl)
abbrev cX4_sell : ByteArray := prog_9_method_30_code
def yX4_sell : MethodName := ⟨RX4, "sell", "(I)I"⟩
def dkwX4_sell_3 : List UInt8 := [104, 96, 181, 0, 51, 44, 180, 0, 235, 7, 44, 182, 0, 246, 100, 104, 172]
abbrev dktX4_sell_3 : List UInt8 := dkwX4_sell_3 ++ []
def dkwX4_sell_2 : List UInt8 := [192, 0, 236, 77, 44, 4, 181, 0, 243, 42, 89, 180, 0, 51, 44, 180, 0, 235, 7, 44, 182, 0, 246, 100]
abbrev dktX4_sell_2 : List UInt8 := dkwX4_sell_2 ++ dktX4_sell_3
def dkwX4_sell_1 : List UInt8 := [192, 0, 236, 180, 0, 243, 5, 182, 0, 60, 153, 0, 5, 3, 172, 42, 180, 0, 48, 27, 182, 0, 147]
abbrev dktX4_sell_1 : List UInt8 := dkwX4_sell_1 ++ dktX4_sell_2
def dkwX4_sell_0 : List UInt8 := [42, 42, 27, 182, 0, 240, 4, 182, 0, 72, 154, 0, 25, 42, 42, 180, 0, 48, 27, 182, 0, 147]
abbrev dktX4_sell_0 : List UInt8 := dkwX4_sell_0 ++ dktX4_sell_1
theorem dksX4_sell_0 : cX4_sell.data.toList.drop 0 = dktX4_sell_0 := by decide +kernel
theorem dksX4_sell_1 : cX4_sell.data.toList.drop 22 = dktX4_sell_1 := dk_seg dksX4_sell_0 22 rfl rfl
theorem dksX4_sell_2 : cX4_sell.data.toList.drop 45 = dktX4_sell_2 := dk_seg dksX4_sell_1 23 rfl rfl
theorem dksX4_sell_3 : cX4_sell.data.toList.drop 69 = dktX4_sell_3 := dk_seg dksX4_sell_2 24 rfl rfl
theorem dX4_sell_0 : decode cX4_sell 0 = .ok (.aload_n 0, 1) := dk_42 (dk_at dksX4_sell_0 0 rfl rfl)
theorem dX4_sell_1 : decode cX4_sell 1 = .ok (.aload_n 0, 1) := dk_42 (dk_at dksX4_sell_0 1 rfl rfl)
theorem dX4_sell_2 : decode cX4_sell 2 = .ok (.iload_n 1, 1) := dk_27 (dk_at dksX4_sell_0 2 rfl rfl)
theorem dX4_sell_3 : decode cX4_sell 3 = .ok (.invokevirtual 240, 3) := dk_182 0 240 (dk_at dksX4_sell_0 3 rfl rfl)
theorem dX4_sell_6 : decode cX4_sell 6 = .ok (.iconst 1, 1) := dk_4 (dk_at dksX4_sell_0 6 rfl rfl)
theorem dX4_sell_7 : decode cX4_sell 7 = .ok (.invokevirtual 72, 3) := dk_182 0 72 (dk_at dksX4_sell_0 7 rfl rfl)
theorem dX4_sell_10 : decode cX4_sell 10 = .ok (.ifCond .ne 25, 3) := dk_154 0 25 (dk_at dksX4_sell_0 10 rfl rfl)
theorem dX4_sell_13 : decode cX4_sell 13 = .ok (.aload_n 0, 1) := dk_42 (dk_at dksX4_sell_0 13 rfl rfl)
theorem dX4_sell_14 : decode cX4_sell 14 = .ok (.aload_n 0, 1) := dk_42 (dk_at dksX4_sell_0 14 rfl rfl)
theorem dX4_sell_15 : decode cX4_sell 15 = .ok (.getfield 48, 3) := dk_180 0 48 (dk_at dksX4_sell_0 15 rfl rfl)
theorem dX4_sell_18 : decode cX4_sell 18 = .ok (.iload_n 1, 1) := dk_27 (dk_at dksX4_sell_0 18 rfl rfl)
theorem dX4_sell_19 : decode cX4_sell 19 = .ok (.invokevirtual 147, 3) := dk_182 0 147 (dk_at dksX4_sell_0 19 rfl rfl)
theorem dX4_sell_22 : decode cX4_sell 22 = .ok (.checkcast 236, 3) := dk_192 0 236 (dk_at dksX4_sell_1 0 rfl rfl)
theorem dX4_sell_25 : decode cX4_sell 25 = .ok (.getfield 243, 3) := dk_180 0 243 (dk_at dksX4_sell_1 3 rfl rfl)
theorem dX4_sell_28 : decode cX4_sell 28 = .ok (.iconst 2, 1) := dk_5 (dk_at dksX4_sell_1 6 rfl rfl)
theorem dX4_sell_29 : decode cX4_sell 29 = .ok (.invokevirtual 60, 3) := dk_182 0 60 (dk_at dksX4_sell_1 7 rfl rfl)
theorem dX4_sell_32 : decode cX4_sell 32 = .ok (.ifCond .eq 5, 3) := dk_153 0 5 (dk_at dksX4_sell_1 10 rfl rfl)
theorem dX4_sell_35 : decode cX4_sell 35 = .ok (.iconst 0, 1) := dk_3 (dk_at dksX4_sell_1 13 rfl rfl)
theorem dX4_sell_36 : decode cX4_sell 36 = .ok (.ireturn, 1) := dk_172 (dk_at dksX4_sell_1 14 rfl rfl)
theorem dX4_sell_37 : decode cX4_sell 37 = .ok (.aload_n 0, 1) := dk_42 (dk_at dksX4_sell_1 15 rfl rfl)
theorem dX4_sell_38 : decode cX4_sell 38 = .ok (.getfield 48, 3) := dk_180 0 48 (dk_at dksX4_sell_1 16 rfl rfl)
theorem dX4_sell_41 : decode cX4_sell 41 = .ok (.iload_n 1, 1) := dk_27 (dk_at dksX4_sell_1 19 rfl rfl)
theorem dX4_sell_42 : decode cX4_sell 42 = .ok (.invokevirtual 147, 3) := dk_182 0 147 (dk_at dksX4_sell_1 20 rfl rfl)
theorem dX4_sell_45 : decode cX4_sell 45 = .ok (.checkcast 236, 3) := dk_192 0 236 (dk_at dksX4_sell_2 0 rfl rfl)
theorem dX4_sell_48 : decode cX4_sell 48 = .ok (.astore_n 2, 1) := dk_77 (dk_at dksX4_sell_2 3 rfl rfl)
theorem dX4_sell_49 : decode cX4_sell 49 = .ok (.aload_n 2, 1) := dk_44 (dk_at dksX4_sell_2 4 rfl rfl)
theorem dX4_sell_50 : decode cX4_sell 50 = .ok (.iconst 1, 1) := dk_4 (dk_at dksX4_sell_2 5 rfl rfl)
theorem dX4_sell_51 : decode cX4_sell 51 = .ok (.putfield 243, 3) := dk_181 0 243 (dk_at dksX4_sell_2 6 rfl rfl)
theorem dX4_sell_54 : decode cX4_sell 54 = .ok (.aload_n 0, 1) := dk_42 (dk_at dksX4_sell_2 9 rfl rfl)
theorem dX4_sell_55 : decode cX4_sell 55 = .ok (.dup, 1) := dk_89 (dk_at dksX4_sell_2 10 rfl rfl)
theorem dX4_sell_56 : decode cX4_sell 56 = .ok (.getfield 51, 3) := dk_180 0 51 (dk_at dksX4_sell_2 11 rfl rfl)
theorem dX4_sell_59 : decode cX4_sell 59 = .ok (.aload_n 2, 1) := dk_44 (dk_at dksX4_sell_2 14 rfl rfl)
theorem dX4_sell_60 : decode cX4_sell 60 = .ok (.getfield 235, 3) := dk_180 0 235 (dk_at dksX4_sell_2 15 rfl rfl)
theorem dX4_sell_63 : decode cX4_sell 63 = .ok (.iconst 4, 1) := dk_7 (dk_at dksX4_sell_2 18 rfl rfl)
theorem dX4_sell_64 : decode cX4_sell 64 = .ok (.aload_n 2, 1) := dk_44 (dk_at dksX4_sell_2 19 rfl rfl)
theorem dX4_sell_65 : decode cX4_sell 65 = .ok (.invokevirtual 246, 3) := dk_182 0 246 (dk_at dksX4_sell_2 20 rfl rfl)
theorem dX4_sell_68 : decode cX4_sell 68 = .ok (.isub, 1) := dk_100 (dk_at dksX4_sell_2 23 rfl rfl)
theorem dX4_sell_69 : decode cX4_sell 69 = .ok (.imul, 1) := dk_104 (dk_at dksX4_sell_3 0 rfl rfl)
theorem dX4_sell_70 : decode cX4_sell 70 = .ok (.iadd, 1) := dk_96 (dk_at dksX4_sell_3 1 rfl rfl)
theorem dX4_sell_71 : decode cX4_sell 71 = .ok (.putfield 51, 3) := dk_181 0 51 (dk_at dksX4_sell_3 2 rfl rfl)
theorem dX4_sell_74 : decode cX4_sell 74 = .ok (.aload_n 2, 1) := dk_44 (dk_at dksX4_sell_3 5 rfl rfl)
theorem dX4_sell_75 : decode cX4_sell 75 = .ok (.getfield 235, 3) := dk_180 0 235 (dk_at dksX4_sell_3 6 rfl rfl)
theorem dX4_sell_78 : decode cX4_sell 78 = .ok (.iconst 4, 1) := dk_7 (dk_at dksX4_sell_3 9 rfl rfl)
theorem dX4_sell_79 : decode cX4_sell 79 = .ok (.aload_n 2, 1) := dk_44 (dk_at dksX4_sell_3 10 rfl rfl)
theorem dX4_sell_80 : decode cX4_sell 80 = .ok (.invokevirtual 246, 3) := dk_182 0 246 (dk_at dksX4_sell_3 11 rfl rfl)
theorem dX4_sell_83 : decode cX4_sell 83 = .ok (.isub, 1) := dk_100 (dk_at dksX4_sell_3 14 rfl rfl)
theorem dX4_sell_84 : decode cX4_sell 84 = .ok (.imul, 1) := dk_104 (dk_at dksX4_sell_3 15 rfl rfl)
theorem dX4_sell_85 : decode cX4_sell 85 = .ok (.ireturn, 1) := dk_172 (dk_at dksX4_sell_3 16 rfl rfl)
abbrev cX4_isNoSkein : ByteArray := prog_9_method_13_code
def yX4_isNoSkein : MethodName := ⟨RX4, "isNoSkein", "(I)Z"⟩
def dkwX4_isNoSkein_0 : List UInt8 := [27, 3, 42, 180, 0, 48, 182, 0, 64, 4, 100, 184, 0, 68, 154, 0, 7, 4, 167, 0, 4, 3, 172]
abbrev dktX4_isNoSkein_0 : List UInt8 := dkwX4_isNoSkein_0 ++ []
theorem dksX4_isNoSkein_0 : cX4_isNoSkein.data.toList.drop 0 = dktX4_isNoSkein_0 := by decide +kernel
theorem dX4_isNoSkein_0 : decode cX4_isNoSkein 0 = .ok (.iload_n 1, 1) := dk_27 (dk_at dksX4_isNoSkein_0 0 rfl rfl)
theorem dX4_isNoSkein_1 : decode cX4_isNoSkein 1 = .ok (.iconst 0, 1) := dk_3 (dk_at dksX4_isNoSkein_0 1 rfl rfl)
theorem dX4_isNoSkein_2 : decode cX4_isNoSkein 2 = .ok (.aload_n 0, 1) := dk_42 (dk_at dksX4_isNoSkein_0 2 rfl rfl)
theorem dX4_isNoSkein_3 : decode cX4_isNoSkein 3 = .ok (.getfield 48, 3) := dk_180 0 48 (dk_at dksX4_isNoSkein_0 3 rfl rfl)
theorem dX4_isNoSkein_6 : decode cX4_isNoSkein 6 = .ok (.invokevirtual 64, 3) := dk_182 0 64 (dk_at dksX4_isNoSkein_0 6 rfl rfl)
theorem dX4_isNoSkein_9 : decode cX4_isNoSkein 9 = .ok (.iconst 1, 1) := dk_4 (dk_at dksX4_isNoSkein_0 9 rfl rfl)
theorem dX4_isNoSkein_10 : decode cX4_isNoSkein 10 = .ok (.isub, 1) := dk_100 (dk_at dksX4_isNoSkein_0 10 rfl rfl)
theorem dX4_isNoSkein_11 : decode cX4_isNoSkein 11 = .ok (.invokestatic 68, 3) := dk_184 0 68 (dk_at dksX4_isNoSkein_0 11 rfl rfl)
theorem dX4_isNoSkein_14 : decode cX4_isNoSkein 14 = .ok (.ifCond .ne 7, 3) := dk_154 0 7 (dk_at dksX4_isNoSkein_0 14 rfl rfl)
theorem dX4_isNoSkein_17 : decode cX4_isNoSkein 17 = .ok (.iconst 1, 1) := dk_4 (dk_at dksX4_isNoSkein_0 17 rfl rfl)
theorem dX4_isNoSkein_18 : decode cX4_isNoSkein 18 = .ok (.goto 4, 3) := dk_167 0 4 (dk_at dksX4_isNoSkein_0 18 rfl rfl)
theorem dX4_isNoSkein_21 : decode cX4_isNoSkein 21 = .ok (.iconst 0, 1) := dk_3 (dk_at dksX4_isNoSkein_0 21 rfl rfl)
theorem dX4_isNoSkein_22 : decode cX4_isNoSkein 22 = .ok (.ireturn, 1) := dk_172 (dk_at dksX4_isNoSkein_0 22 rfl rfl)
abbrev cX4_borrow : ByteArray := prog_9_method_31_code
def yX4_borrow : MethodName := ⟨RX4, "borrow", "(I)I"⟩
def dkwX4_borrow_3 : List UInt8 := [181, 0, 134, 42, 180, 0, 134, 172]
abbrev dktX4_borrow_3 : List UInt8 := dkwX4_borrow_3 ++ []
def dkwX4_borrow_2 : List UInt8 := [153, 0, 5, 3, 172, 42, 89, 180, 0, 51, 27, 96, 181, 0, 51, 42, 89, 180, 0, 134, 27, 96]
abbrev dktX4_borrow_2 : List UInt8 := dkwX4_borrow_2 ++ dktX4_borrow_3
def dkwX4_borrow_1 : List UInt8 := [42, 42, 180, 0, 134, 27, 96, 17, 39, 15, 164, 0, 7, 4, 167, 0, 4, 3, 5, 182, 0, 60]
abbrev dktX4_borrow_1 : List UInt8 := dkwX4_borrow_1 ++ dktX4_borrow_2
def dkwX4_borrow_0 : List UInt8 := [42, 27, 4, 17, 1, 244, 184, 0, 68, 154, 0, 7, 4, 167, 0, 4, 3, 4, 182, 0, 72, 154, 0, 28]
abbrev dktX4_borrow_0 : List UInt8 := dkwX4_borrow_0 ++ dktX4_borrow_1
theorem dksX4_borrow_0 : cX4_borrow.data.toList.drop 0 = dktX4_borrow_0 := by decide +kernel
theorem dksX4_borrow_1 : cX4_borrow.data.toList.drop 24 = dktX4_borrow_1 := dk_seg dksX4_borrow_0 24 rfl rfl
theorem dksX4_borrow_2 : cX4_borrow.data.toList.drop 46 = dktX4_borrow_2 := dk_seg dksX4_borrow_1 22 rfl rfl
theorem dksX4_borrow_3 : cX4_borrow.data.toList.drop 68 = dktX4_borrow_3 := dk_seg dksX4_borrow_2 22 rfl rfl
theorem dX4_borrow_0 : decode cX4_borrow 0 = .ok (.aload_n 0, 1) := dk_42 (dk_at dksX4_borrow_0 0 rfl rfl)
theorem dX4_borrow_1 : decode cX4_borrow 1 = .ok (.iload_n 1, 1) := dk_27 (dk_at dksX4_borrow_0 1 rfl rfl)
theorem dX4_borrow_2 : decode cX4_borrow 2 = .ok (.iconst 1, 1) := dk_4 (dk_at dksX4_borrow_0 2 rfl rfl)
theorem dX4_borrow_3 : decode cX4_borrow 3 = .ok (.sipush 500, 3) := dk_17 1 244 (dk_at dksX4_borrow_0 3 rfl rfl)
theorem dX4_borrow_6 : decode cX4_borrow 6 = .ok (.invokestatic 68, 3) := dk_184 0 68 (dk_at dksX4_borrow_0 6 rfl rfl)
theorem dX4_borrow_9 : decode cX4_borrow 9 = .ok (.ifCond .ne 7, 3) := dk_154 0 7 (dk_at dksX4_borrow_0 9 rfl rfl)
theorem dX4_borrow_12 : decode cX4_borrow 12 = .ok (.iconst 1, 1) := dk_4 (dk_at dksX4_borrow_0 12 rfl rfl)
theorem dX4_borrow_13 : decode cX4_borrow 13 = .ok (.goto 4, 3) := dk_167 0 4 (dk_at dksX4_borrow_0 13 rfl rfl)
theorem dX4_borrow_16 : decode cX4_borrow 16 = .ok (.iconst 0, 1) := dk_3 (dk_at dksX4_borrow_0 16 rfl rfl)
theorem dX4_borrow_17 : decode cX4_borrow 17 = .ok (.iconst 1, 1) := dk_4 (dk_at dksX4_borrow_0 17 rfl rfl)
theorem dX4_borrow_18 : decode cX4_borrow 18 = .ok (.invokevirtual 72, 3) := dk_182 0 72 (dk_at dksX4_borrow_0 18 rfl rfl)
theorem dX4_borrow_21 : decode cX4_borrow 21 = .ok (.ifCond .ne 28, 3) := dk_154 0 28 (dk_at dksX4_borrow_0 21 rfl rfl)
theorem dX4_borrow_24 : decode cX4_borrow 24 = .ok (.aload_n 0, 1) := dk_42 (dk_at dksX4_borrow_1 0 rfl rfl)
theorem dX4_borrow_25 : decode cX4_borrow 25 = .ok (.aload_n 0, 1) := dk_42 (dk_at dksX4_borrow_1 1 rfl rfl)
theorem dX4_borrow_26 : decode cX4_borrow 26 = .ok (.getfield 134, 3) := dk_180 0 134 (dk_at dksX4_borrow_1 2 rfl rfl)
theorem dX4_borrow_29 : decode cX4_borrow 29 = .ok (.iload_n 1, 1) := dk_27 (dk_at dksX4_borrow_1 5 rfl rfl)
theorem dX4_borrow_30 : decode cX4_borrow 30 = .ok (.iadd, 1) := dk_96 (dk_at dksX4_borrow_1 6 rfl rfl)
theorem dX4_borrow_31 : decode cX4_borrow 31 = .ok (.sipush 9999, 3) := dk_17 39 15 (dk_at dksX4_borrow_1 7 rfl rfl)
theorem dX4_borrow_34 : decode cX4_borrow 34 = .ok (.if_icmp .le 7, 3) := dk_164 0 7 (dk_at dksX4_borrow_1 10 rfl rfl)
theorem dX4_borrow_37 : decode cX4_borrow 37 = .ok (.iconst 1, 1) := dk_4 (dk_at dksX4_borrow_1 13 rfl rfl)
theorem dX4_borrow_38 : decode cX4_borrow 38 = .ok (.goto 4, 3) := dk_167 0 4 (dk_at dksX4_borrow_1 14 rfl rfl)
theorem dX4_borrow_41 : decode cX4_borrow 41 = .ok (.iconst 0, 1) := dk_3 (dk_at dksX4_borrow_1 17 rfl rfl)
theorem dX4_borrow_42 : decode cX4_borrow 42 = .ok (.iconst 2, 1) := dk_5 (dk_at dksX4_borrow_1 18 rfl rfl)
theorem dX4_borrow_43 : decode cX4_borrow 43 = .ok (.invokevirtual 60, 3) := dk_182 0 60 (dk_at dksX4_borrow_1 19 rfl rfl)
theorem dX4_borrow_46 : decode cX4_borrow 46 = .ok (.ifCond .eq 5, 3) := dk_153 0 5 (dk_at dksX4_borrow_2 0 rfl rfl)
theorem dX4_borrow_49 : decode cX4_borrow 49 = .ok (.iconst 0, 1) := dk_3 (dk_at dksX4_borrow_2 3 rfl rfl)
theorem dX4_borrow_50 : decode cX4_borrow 50 = .ok (.ireturn, 1) := dk_172 (dk_at dksX4_borrow_2 4 rfl rfl)
theorem dX4_borrow_51 : decode cX4_borrow 51 = .ok (.aload_n 0, 1) := dk_42 (dk_at dksX4_borrow_2 5 rfl rfl)
theorem dX4_borrow_52 : decode cX4_borrow 52 = .ok (.dup, 1) := dk_89 (dk_at dksX4_borrow_2 6 rfl rfl)
theorem dX4_borrow_53 : decode cX4_borrow 53 = .ok (.getfield 51, 3) := dk_180 0 51 (dk_at dksX4_borrow_2 7 rfl rfl)
theorem dX4_borrow_56 : decode cX4_borrow 56 = .ok (.iload_n 1, 1) := dk_27 (dk_at dksX4_borrow_2 10 rfl rfl)
theorem dX4_borrow_57 : decode cX4_borrow 57 = .ok (.iadd, 1) := dk_96 (dk_at dksX4_borrow_2 11 rfl rfl)
theorem dX4_borrow_58 : decode cX4_borrow 58 = .ok (.putfield 51, 3) := dk_181 0 51 (dk_at dksX4_borrow_2 12 rfl rfl)
theorem dX4_borrow_61 : decode cX4_borrow 61 = .ok (.aload_n 0, 1) := dk_42 (dk_at dksX4_borrow_2 15 rfl rfl)
theorem dX4_borrow_62 : decode cX4_borrow 62 = .ok (.dup, 1) := dk_89 (dk_at dksX4_borrow_2 16 rfl rfl)
theorem dX4_borrow_63 : decode cX4_borrow 63 = .ok (.getfield 134, 3) := dk_180 0 134 (dk_at dksX4_borrow_2 17 rfl rfl)
theorem dX4_borrow_66 : decode cX4_borrow 66 = .ok (.iload_n 1, 1) := dk_27 (dk_at dksX4_borrow_2 20 rfl rfl)
theorem dX4_borrow_67 : decode cX4_borrow 67 = .ok (.iadd, 1) := dk_96 (dk_at dksX4_borrow_2 21 rfl rfl)
theorem dX4_borrow_68 : decode cX4_borrow 68 = .ok (.putfield 134, 3) := dk_181 0 134 (dk_at dksX4_borrow_3 0 rfl rfl)
theorem dX4_borrow_71 : decode cX4_borrow 71 = .ok (.aload_n 0, 1) := dk_42 (dk_at dksX4_borrow_3 3 rfl rfl)
theorem dX4_borrow_72 : decode cX4_borrow 72 = .ok (.getfield 134, 3) := dk_180 0 134 (dk_at dksX4_borrow_3 4 rfl rfl)
theorem dX4_borrow_75 : decode cX4_borrow 75 = .ok (.ireturn, 1) := dk_172 (dk_at dksX4_borrow_3 7 rfl rfl)
abbrev cX4_pay : ByteArray := prog_9_method_32_code
def yX4_pay : MethodName := ⟨RX4, "pay", "(I)I"⟩
def dkwX4_pay_2 : List UInt8 := [100, 181, 0, 51, 42, 89, 180, 0, 134, 28, 100, 181, 0, 134, 42, 180, 0, 134, 172]
abbrev dktX4_pay_2 : List UInt8 := dkwX4_pay_2 ++ []
def dkwX4_pay_1 : List UInt8 := [3, 172, 27, 42, 180, 0, 51, 42, 180, 0, 134, 184, 0, 140, 184, 0, 140, 61, 42, 89, 180, 0, 51, 28]
abbrev dktX4_pay_1 : List UInt8 := dkwX4_pay_1 ++ dktX4_pay_2
def dkwX4_pay_0 : List UInt8 := [42, 27, 4, 17, 3, 231, 184, 0, 68, 154, 0, 7, 4, 167, 0, 4, 3, 4, 182, 0, 72, 153, 0, 5]
abbrev dktX4_pay_0 : List UInt8 := dkwX4_pay_0 ++ dktX4_pay_1
theorem dksX4_pay_0 : cX4_pay.data.toList.drop 0 = dktX4_pay_0 := by decide +kernel
theorem dksX4_pay_1 : cX4_pay.data.toList.drop 24 = dktX4_pay_1 := dk_seg dksX4_pay_0 24 rfl rfl
theorem dksX4_pay_2 : cX4_pay.data.toList.drop 48 = dktX4_pay_2 := dk_seg dksX4_pay_1 24 rfl rfl
theorem dX4_pay_0 : decode cX4_pay 0 = .ok (.aload_n 0, 1) := dk_42 (dk_at dksX4_pay_0 0 rfl rfl)
theorem dX4_pay_1 : decode cX4_pay 1 = .ok (.iload_n 1, 1) := dk_27 (dk_at dksX4_pay_0 1 rfl rfl)
theorem dX4_pay_2 : decode cX4_pay 2 = .ok (.iconst 1, 1) := dk_4 (dk_at dksX4_pay_0 2 rfl rfl)
theorem dX4_pay_3 : decode cX4_pay 3 = .ok (.sipush 999, 3) := dk_17 3 231 (dk_at dksX4_pay_0 3 rfl rfl)
theorem dX4_pay_6 : decode cX4_pay 6 = .ok (.invokestatic 68, 3) := dk_184 0 68 (dk_at dksX4_pay_0 6 rfl rfl)
theorem dX4_pay_9 : decode cX4_pay 9 = .ok (.ifCond .ne 7, 3) := dk_154 0 7 (dk_at dksX4_pay_0 9 rfl rfl)
theorem dX4_pay_12 : decode cX4_pay 12 = .ok (.iconst 1, 1) := dk_4 (dk_at dksX4_pay_0 12 rfl rfl)
theorem dX4_pay_13 : decode cX4_pay 13 = .ok (.goto 4, 3) := dk_167 0 4 (dk_at dksX4_pay_0 13 rfl rfl)
theorem dX4_pay_16 : decode cX4_pay 16 = .ok (.iconst 0, 1) := dk_3 (dk_at dksX4_pay_0 16 rfl rfl)
theorem dX4_pay_17 : decode cX4_pay 17 = .ok (.iconst 1, 1) := dk_4 (dk_at dksX4_pay_0 17 rfl rfl)
theorem dX4_pay_18 : decode cX4_pay 18 = .ok (.invokevirtual 72, 3) := dk_182 0 72 (dk_at dksX4_pay_0 18 rfl rfl)
theorem dX4_pay_21 : decode cX4_pay 21 = .ok (.ifCond .eq 5, 3) := dk_153 0 5 (dk_at dksX4_pay_0 21 rfl rfl)
theorem dX4_pay_24 : decode cX4_pay 24 = .ok (.iconst 0, 1) := dk_3 (dk_at dksX4_pay_1 0 rfl rfl)
theorem dX4_pay_25 : decode cX4_pay 25 = .ok (.ireturn, 1) := dk_172 (dk_at dksX4_pay_1 1 rfl rfl)
theorem dX4_pay_26 : decode cX4_pay 26 = .ok (.iload_n 1, 1) := dk_27 (dk_at dksX4_pay_1 2 rfl rfl)
theorem dX4_pay_27 : decode cX4_pay 27 = .ok (.aload_n 0, 1) := dk_42 (dk_at dksX4_pay_1 3 rfl rfl)
theorem dX4_pay_28 : decode cX4_pay 28 = .ok (.getfield 51, 3) := dk_180 0 51 (dk_at dksX4_pay_1 4 rfl rfl)
theorem dX4_pay_31 : decode cX4_pay 31 = .ok (.aload_n 0, 1) := dk_42 (dk_at dksX4_pay_1 7 rfl rfl)
theorem dX4_pay_32 : decode cX4_pay 32 = .ok (.getfield 134, 3) := dk_180 0 134 (dk_at dksX4_pay_1 8 rfl rfl)
theorem dX4_pay_35 : decode cX4_pay 35 = .ok (.invokestatic 140, 3) := dk_184 0 140 (dk_at dksX4_pay_1 11 rfl rfl)
theorem dX4_pay_38 : decode cX4_pay 38 = .ok (.invokestatic 140, 3) := dk_184 0 140 (dk_at dksX4_pay_1 14 rfl rfl)
theorem dX4_pay_41 : decode cX4_pay 41 = .ok (.istore_n 2, 1) := dk_61 (dk_at dksX4_pay_1 17 rfl rfl)
theorem dX4_pay_42 : decode cX4_pay 42 = .ok (.aload_n 0, 1) := dk_42 (dk_at dksX4_pay_1 18 rfl rfl)
theorem dX4_pay_43 : decode cX4_pay 43 = .ok (.dup, 1) := dk_89 (dk_at dksX4_pay_1 19 rfl rfl)
theorem dX4_pay_44 : decode cX4_pay 44 = .ok (.getfield 51, 3) := dk_180 0 51 (dk_at dksX4_pay_1 20 rfl rfl)
theorem dX4_pay_47 : decode cX4_pay 47 = .ok (.iload_n 2, 1) := dk_28 (dk_at dksX4_pay_1 23 rfl rfl)
theorem dX4_pay_48 : decode cX4_pay 48 = .ok (.isub, 1) := dk_100 (dk_at dksX4_pay_2 0 rfl rfl)
theorem dX4_pay_49 : decode cX4_pay 49 = .ok (.putfield 51, 3) := dk_181 0 51 (dk_at dksX4_pay_2 1 rfl rfl)
theorem dX4_pay_52 : decode cX4_pay 52 = .ok (.aload_n 0, 1) := dk_42 (dk_at dksX4_pay_2 4 rfl rfl)
theorem dX4_pay_53 : decode cX4_pay 53 = .ok (.dup, 1) := dk_89 (dk_at dksX4_pay_2 5 rfl rfl)
theorem dX4_pay_54 : decode cX4_pay 54 = .ok (.getfield 134, 3) := dk_180 0 134 (dk_at dksX4_pay_2 6 rfl rfl)
theorem dX4_pay_57 : decode cX4_pay 57 = .ok (.iload_n 2, 1) := dk_28 (dk_at dksX4_pay_2 9 rfl rfl)
theorem dX4_pay_58 : decode cX4_pay 58 = .ok (.isub, 1) := dk_100 (dk_at dksX4_pay_2 10 rfl rfl)
theorem dX4_pay_59 : decode cX4_pay 59 = .ok (.putfield 134, 3) := dk_181 0 134 (dk_at dksX4_pay_2 11 rfl rfl)
theorem dX4_pay_62 : decode cX4_pay 62 = .ok (.aload_n 0, 1) := dk_42 (dk_at dksX4_pay_2 14 rfl rfl)
theorem dX4_pay_63 : decode cX4_pay 63 = .ok (.getfield 134, 3) := dk_180 0 134 (dk_at dksX4_pay_2 15 rfl rfl)
theorem dX4_pay_66 : decode cX4_pay 66 = .ok (.ireturn, 1) := dk_172 (dk_at dksX4_pay_2 18 rfl rfl)
abbrev cX4_ofPlot : ByteArray := prog_9_method_34_code
def yX4_ofPlot : MethodName := ⟨RX4, "ofPlot", "(II)I"⟩
def dkwX4_ofPlot_1 : List UInt8 := [167, 0, 4, 3, 5, 182, 0, 60, 153, 0, 7, 3, 167, 0, 9, 42, 27, 28, 182, 1, 2, 172]
abbrev dktX4_ofPlot_1 : List UInt8 := dkwX4_ofPlot_1 ++ []
def dkwX4_ofPlot_0 : List UInt8 := [42, 42, 27, 182, 0, 143, 4, 182, 0, 72, 154, 0, 25, 42, 28, 3, 8, 184, 0, 68, 154, 0, 7, 4]
abbrev dktX4_ofPlot_0 : List UInt8 := dkwX4_ofPlot_0 ++ dktX4_ofPlot_1
theorem dksX4_ofPlot_0 : cX4_ofPlot.data.toList.drop 0 = dktX4_ofPlot_0 := by decide +kernel
theorem dksX4_ofPlot_1 : cX4_ofPlot.data.toList.drop 24 = dktX4_ofPlot_1 := dk_seg dksX4_ofPlot_0 24 rfl rfl
theorem dX4_ofPlot_0 : decode cX4_ofPlot 0 = .ok (.aload_n 0, 1) := dk_42 (dk_at dksX4_ofPlot_0 0 rfl rfl)
theorem dX4_ofPlot_1 : decode cX4_ofPlot 1 = .ok (.aload_n 0, 1) := dk_42 (dk_at dksX4_ofPlot_0 1 rfl rfl)
theorem dX4_ofPlot_2 : decode cX4_ofPlot 2 = .ok (.iload_n 1, 1) := dk_27 (dk_at dksX4_ofPlot_0 2 rfl rfl)
theorem dX4_ofPlot_3 : decode cX4_ofPlot 3 = .ok (.invokevirtual 143, 3) := dk_182 0 143 (dk_at dksX4_ofPlot_0 3 rfl rfl)
theorem dX4_ofPlot_6 : decode cX4_ofPlot 6 = .ok (.iconst 1, 1) := dk_4 (dk_at dksX4_ofPlot_0 6 rfl rfl)
theorem dX4_ofPlot_7 : decode cX4_ofPlot 7 = .ok (.invokevirtual 72, 3) := dk_182 0 72 (dk_at dksX4_ofPlot_0 7 rfl rfl)
theorem dX4_ofPlot_10 : decode cX4_ofPlot 10 = .ok (.ifCond .ne 25, 3) := dk_154 0 25 (dk_at dksX4_ofPlot_0 10 rfl rfl)
theorem dX4_ofPlot_13 : decode cX4_ofPlot 13 = .ok (.aload_n 0, 1) := dk_42 (dk_at dksX4_ofPlot_0 13 rfl rfl)
theorem dX4_ofPlot_14 : decode cX4_ofPlot 14 = .ok (.iload_n 2, 1) := dk_28 (dk_at dksX4_ofPlot_0 14 rfl rfl)
theorem dX4_ofPlot_15 : decode cX4_ofPlot 15 = .ok (.iconst 0, 1) := dk_3 (dk_at dksX4_ofPlot_0 15 rfl rfl)
theorem dX4_ofPlot_16 : decode cX4_ofPlot 16 = .ok (.iconst 5, 1) := dk_8 (dk_at dksX4_ofPlot_0 16 rfl rfl)
theorem dX4_ofPlot_17 : decode cX4_ofPlot 17 = .ok (.invokestatic 68, 3) := dk_184 0 68 (dk_at dksX4_ofPlot_0 17 rfl rfl)
theorem dX4_ofPlot_20 : decode cX4_ofPlot 20 = .ok (.ifCond .ne 7, 3) := dk_154 0 7 (dk_at dksX4_ofPlot_0 20 rfl rfl)
theorem dX4_ofPlot_23 : decode cX4_ofPlot 23 = .ok (.iconst 1, 1) := dk_4 (dk_at dksX4_ofPlot_0 23 rfl rfl)
theorem dX4_ofPlot_24 : decode cX4_ofPlot 24 = .ok (.goto 4, 3) := dk_167 0 4 (dk_at dksX4_ofPlot_1 0 rfl rfl)
theorem dX4_ofPlot_27 : decode cX4_ofPlot 27 = .ok (.iconst 0, 1) := dk_3 (dk_at dksX4_ofPlot_1 3 rfl rfl)
theorem dX4_ofPlot_28 : decode cX4_ofPlot 28 = .ok (.iconst 2, 1) := dk_5 (dk_at dksX4_ofPlot_1 4 rfl rfl)
theorem dX4_ofPlot_29 : decode cX4_ofPlot 29 = .ok (.invokevirtual 60, 3) := dk_182 0 60 (dk_at dksX4_ofPlot_1 5 rfl rfl)
theorem dX4_ofPlot_32 : decode cX4_ofPlot 32 = .ok (.ifCond .eq 7, 3) := dk_153 0 7 (dk_at dksX4_ofPlot_1 8 rfl rfl)
theorem dX4_ofPlot_35 : decode cX4_ofPlot 35 = .ok (.iconst 0, 1) := dk_3 (dk_at dksX4_ofPlot_1 11 rfl rfl)
theorem dX4_ofPlot_36 : decode cX4_ofPlot 36 = .ok (.goto 9, 3) := dk_167 0 9 (dk_at dksX4_ofPlot_1 12 rfl rfl)
theorem dX4_ofPlot_39 : decode cX4_ofPlot 39 = .ok (.aload_n 0, 1) := dk_42 (dk_at dksX4_ofPlot_1 15 rfl rfl)
theorem dX4_ofPlot_40 : decode cX4_ofPlot 40 = .ok (.iload_n 1, 1) := dk_27 (dk_at dksX4_ofPlot_1 16 rfl rfl)
theorem dX4_ofPlot_41 : decode cX4_ofPlot 41 = .ok (.iload_n 2, 1) := dk_28 (dk_at dksX4_ofPlot_1 17 rfl rfl)
theorem dX4_ofPlot_42 : decode cX4_ofPlot 42 = .ok (.invokevirtual 258, 3) := dk_182 1 2 (dk_at dksX4_ofPlot_1 18 rfl rfl)
theorem dX4_ofPlot_45 : decode cX4_ofPlot 45 = .ok (.ireturn, 1) := dk_172 (dk_at dksX4_ofPlot_1 21 rfl rfl)
abbrev cX4_ofPlotNow : ByteArray := prog_9_method_33_code
def yX4_ofPlotNow : MethodName := ⟨RX4, "ofPlotNow", "(II)I"⟩
def dkwX4_ofPlotNow_1 : List UInt8 := [4, 160, 0, 10, 45, 180, 0, 252, 167, 0, 11, 45, 180, 0, 255, 28, 5, 100, 46, 172]
abbrev dktX4_ofPlotNow_1 : List UInt8 := dkwX4_ofPlotNow_1 ++ []
def dkwX4_ofPlotNow_0 : List UInt8 := [42, 180, 0, 22, 27, 182, 0, 147, 192, 0, 75, 78, 28, 154, 0, 10, 45, 180, 0, 249, 167, 0, 23, 28]
abbrev dktX4_ofPlotNow_0 : List UInt8 := dkwX4_ofPlotNow_0 ++ dktX4_ofPlotNow_1
theorem dksX4_ofPlotNow_0 : cX4_ofPlotNow.data.toList.drop 0 = dktX4_ofPlotNow_0 := by decide +kernel
theorem dksX4_ofPlotNow_1 : cX4_ofPlotNow.data.toList.drop 24 = dktX4_ofPlotNow_1 := dk_seg dksX4_ofPlotNow_0 24 rfl rfl
theorem dX4_ofPlotNow_0 : decode cX4_ofPlotNow 0 = .ok (.aload_n 0, 1) := dk_42 (dk_at dksX4_ofPlotNow_0 0 rfl rfl)
theorem dX4_ofPlotNow_1 : decode cX4_ofPlotNow 1 = .ok (.getfield 22, 3) := dk_180 0 22 (dk_at dksX4_ofPlotNow_0 1 rfl rfl)
theorem dX4_ofPlotNow_4 : decode cX4_ofPlotNow 4 = .ok (.iload_n 1, 1) := dk_27 (dk_at dksX4_ofPlotNow_0 4 rfl rfl)
theorem dX4_ofPlotNow_5 : decode cX4_ofPlotNow 5 = .ok (.invokevirtual 147, 3) := dk_182 0 147 (dk_at dksX4_ofPlotNow_0 5 rfl rfl)
theorem dX4_ofPlotNow_8 : decode cX4_ofPlotNow 8 = .ok (.checkcast 75, 3) := dk_192 0 75 (dk_at dksX4_ofPlotNow_0 8 rfl rfl)
theorem dX4_ofPlotNow_11 : decode cX4_ofPlotNow 11 = .ok (.astore_n 3, 1) := dk_78 (dk_at dksX4_ofPlotNow_0 11 rfl rfl)
theorem dX4_ofPlotNow_12 : decode cX4_ofPlotNow 12 = .ok (.iload_n 2, 1) := dk_28 (dk_at dksX4_ofPlotNow_0 12 rfl rfl)
theorem dX4_ofPlotNow_13 : decode cX4_ofPlotNow 13 = .ok (.ifCond .ne 10, 3) := dk_154 0 10 (dk_at dksX4_ofPlotNow_0 13 rfl rfl)
theorem dX4_ofPlotNow_16 : decode cX4_ofPlotNow 16 = .ok (.aload_n 3, 1) := dk_45 (dk_at dksX4_ofPlotNow_0 16 rfl rfl)
theorem dX4_ofPlotNow_17 : decode cX4_ofPlotNow 17 = .ok (.getfield 249, 3) := dk_180 0 249 (dk_at dksX4_ofPlotNow_0 17 rfl rfl)
theorem dX4_ofPlotNow_20 : decode cX4_ofPlotNow 20 = .ok (.goto 23, 3) := dk_167 0 23 (dk_at dksX4_ofPlotNow_0 20 rfl rfl)
theorem dX4_ofPlotNow_23 : decode cX4_ofPlotNow 23 = .ok (.iload_n 2, 1) := dk_28 (dk_at dksX4_ofPlotNow_0 23 rfl rfl)
theorem dX4_ofPlotNow_24 : decode cX4_ofPlotNow 24 = .ok (.iconst 1, 1) := dk_4 (dk_at dksX4_ofPlotNow_1 0 rfl rfl)
theorem dX4_ofPlotNow_25 : decode cX4_ofPlotNow 25 = .ok (.if_icmp .ne 10, 3) := dk_160 0 10 (dk_at dksX4_ofPlotNow_1 1 rfl rfl)
theorem dX4_ofPlotNow_28 : decode cX4_ofPlotNow 28 = .ok (.aload_n 3, 1) := dk_45 (dk_at dksX4_ofPlotNow_1 4 rfl rfl)
theorem dX4_ofPlotNow_29 : decode cX4_ofPlotNow 29 = .ok (.getfield 252, 3) := dk_180 0 252 (dk_at dksX4_ofPlotNow_1 5 rfl rfl)
theorem dX4_ofPlotNow_32 : decode cX4_ofPlotNow 32 = .ok (.goto 11, 3) := dk_167 0 11 (dk_at dksX4_ofPlotNow_1 8 rfl rfl)
theorem dX4_ofPlotNow_35 : decode cX4_ofPlotNow 35 = .ok (.aload_n 3, 1) := dk_45 (dk_at dksX4_ofPlotNow_1 11 rfl rfl)
theorem dX4_ofPlotNow_36 : decode cX4_ofPlotNow 36 = .ok (.getfield 255, 3) := dk_180 0 255 (dk_at dksX4_ofPlotNow_1 12 rfl rfl)
theorem dX4_ofPlotNow_39 : decode cX4_ofPlotNow 39 = .ok (.iload_n 2, 1) := dk_28 (dk_at dksX4_ofPlotNow_1 15 rfl rfl)
theorem dX4_ofPlotNow_40 : decode cX4_ofPlotNow 40 = .ok (.iconst 2, 1) := dk_5 (dk_at dksX4_ofPlotNow_1 16 rfl rfl)
theorem dX4_ofPlotNow_41 : decode cX4_ofPlotNow 41 = .ok (.isub, 1) := dk_100 (dk_at dksX4_ofPlotNow_1 17 rfl rfl)
theorem dX4_ofPlotNow_42 : decode cX4_ofPlotNow 42 = .ok (.iaload, 1) := dk_46 (dk_at dksX4_ofPlotNow_1 18 rfl rfl)
theorem dX4_ofPlotNow_43 : decode cX4_ofPlotNow 43 = .ok (.ireturn, 1) := dk_172 (dk_at dksX4_ofPlotNow_1 19 rfl rfl)
abbrev cX4_ofLine : ByteArray := prog_9_method_36_code
def yX4_ofLine : MethodName := ⟨RX4, "ofLine", "(II)I"⟩
def dkwX4_ofLine_1 : List UInt8 := [167, 0, 4, 3, 5, 182, 0, 60, 153, 0, 7, 3, 167, 0, 9, 42, 27, 28, 182, 1, 5, 172]
abbrev dktX4_ofLine_1 : List UInt8 := dkwX4_ofLine_1 ++ []
def dkwX4_ofLine_0 : List UInt8 := [42, 27, 184, 0, 163, 4, 182, 0, 72, 154, 0, 25, 42, 28, 3, 5, 184, 0, 68, 154, 0, 7, 4]
abbrev dktX4_ofLine_0 : List UInt8 := dkwX4_ofLine_0 ++ dktX4_ofLine_1
theorem dksX4_ofLine_0 : cX4_ofLine.data.toList.drop 0 = dktX4_ofLine_0 := by decide +kernel
theorem dksX4_ofLine_1 : cX4_ofLine.data.toList.drop 23 = dktX4_ofLine_1 := dk_seg dksX4_ofLine_0 23 rfl rfl
theorem dX4_ofLine_0 : decode cX4_ofLine 0 = .ok (.aload_n 0, 1) := dk_42 (dk_at dksX4_ofLine_0 0 rfl rfl)
theorem dX4_ofLine_1 : decode cX4_ofLine 1 = .ok (.iload_n 1, 1) := dk_27 (dk_at dksX4_ofLine_0 1 rfl rfl)
theorem dX4_ofLine_2 : decode cX4_ofLine 2 = .ok (.invokestatic 163, 3) := dk_184 0 163 (dk_at dksX4_ofLine_0 2 rfl rfl)
theorem dX4_ofLine_5 : decode cX4_ofLine 5 = .ok (.iconst 1, 1) := dk_4 (dk_at dksX4_ofLine_0 5 rfl rfl)
theorem dX4_ofLine_6 : decode cX4_ofLine 6 = .ok (.invokevirtual 72, 3) := dk_182 0 72 (dk_at dksX4_ofLine_0 6 rfl rfl)
theorem dX4_ofLine_9 : decode cX4_ofLine 9 = .ok (.ifCond .ne 25, 3) := dk_154 0 25 (dk_at dksX4_ofLine_0 9 rfl rfl)
theorem dX4_ofLine_12 : decode cX4_ofLine 12 = .ok (.aload_n 0, 1) := dk_42 (dk_at dksX4_ofLine_0 12 rfl rfl)
theorem dX4_ofLine_13 : decode cX4_ofLine 13 = .ok (.iload_n 2, 1) := dk_28 (dk_at dksX4_ofLine_0 13 rfl rfl)
theorem dX4_ofLine_14 : decode cX4_ofLine 14 = .ok (.iconst 0, 1) := dk_3 (dk_at dksX4_ofLine_0 14 rfl rfl)
theorem dX4_ofLine_15 : decode cX4_ofLine 15 = .ok (.iconst 2, 1) := dk_5 (dk_at dksX4_ofLine_0 15 rfl rfl)
theorem dX4_ofLine_16 : decode cX4_ofLine 16 = .ok (.invokestatic 68, 3) := dk_184 0 68 (dk_at dksX4_ofLine_0 16 rfl rfl)
theorem dX4_ofLine_19 : decode cX4_ofLine 19 = .ok (.ifCond .ne 7, 3) := dk_154 0 7 (dk_at dksX4_ofLine_0 19 rfl rfl)
theorem dX4_ofLine_22 : decode cX4_ofLine 22 = .ok (.iconst 1, 1) := dk_4 (dk_at dksX4_ofLine_0 22 rfl rfl)
theorem dX4_ofLine_23 : decode cX4_ofLine 23 = .ok (.goto 4, 3) := dk_167 0 4 (dk_at dksX4_ofLine_1 0 rfl rfl)
theorem dX4_ofLine_26 : decode cX4_ofLine 26 = .ok (.iconst 0, 1) := dk_3 (dk_at dksX4_ofLine_1 3 rfl rfl)
theorem dX4_ofLine_27 : decode cX4_ofLine 27 = .ok (.iconst 2, 1) := dk_5 (dk_at dksX4_ofLine_1 4 rfl rfl)
theorem dX4_ofLine_28 : decode cX4_ofLine 28 = .ok (.invokevirtual 60, 3) := dk_182 0 60 (dk_at dksX4_ofLine_1 5 rfl rfl)
theorem dX4_ofLine_31 : decode cX4_ofLine 31 = .ok (.ifCond .eq 7, 3) := dk_153 0 7 (dk_at dksX4_ofLine_1 8 rfl rfl)
theorem dX4_ofLine_34 : decode cX4_ofLine 34 = .ok (.iconst 0, 1) := dk_3 (dk_at dksX4_ofLine_1 11 rfl rfl)
theorem dX4_ofLine_35 : decode cX4_ofLine 35 = .ok (.goto 9, 3) := dk_167 0 9 (dk_at dksX4_ofLine_1 12 rfl rfl)
theorem dX4_ofLine_38 : decode cX4_ofLine 38 = .ok (.aload_n 0, 1) := dk_42 (dk_at dksX4_ofLine_1 15 rfl rfl)
theorem dX4_ofLine_39 : decode cX4_ofLine 39 = .ok (.iload_n 1, 1) := dk_27 (dk_at dksX4_ofLine_1 16 rfl rfl)
theorem dX4_ofLine_40 : decode cX4_ofLine 40 = .ok (.iload_n 2, 1) := dk_28 (dk_at dksX4_ofLine_1 17 rfl rfl)
theorem dX4_ofLine_41 : decode cX4_ofLine 41 = .ok (.invokevirtual 261, 3) := dk_182 1 5 (dk_at dksX4_ofLine_1 18 rfl rfl)
theorem dX4_ofLine_44 : decode cX4_ofLine 44 = .ok (.ireturn, 1) := dk_172 (dk_at dksX4_ofLine_1 21 rfl rfl)
abbrev cX4_ofLineNow : ByteArray := prog_9_method_35_code
def yX4_ofLineNow : MethodName := ⟨RX4, "ofLineNow", "(II)I"⟩
def dkwX4_ofLineNow_1 : List UInt8 := [180, 0, 28, 27, 50, 180, 0, 121, 167, 0, 12, 42, 180, 0, 28, 27, 50, 180, 0, 166, 172]
abbrev dktX4_ofLineNow_1 : List UInt8 := dkwX4_ofLineNow_1 ++ []
def dkwX4_ofLineNow_0 : List UInt8 := [28, 154, 0, 15, 42, 180, 0, 28, 27, 50, 180, 0, 169, 167, 0, 29, 28, 4, 160, 0, 15, 42]
abbrev dktX4_ofLineNow_0 : List UInt8 := dkwX4_ofLineNow_0 ++ dktX4_ofLineNow_1
theorem dksX4_ofLineNow_0 : cX4_ofLineNow.data.toList.drop 0 = dktX4_ofLineNow_0 := by decide +kernel
theorem dksX4_ofLineNow_1 : cX4_ofLineNow.data.toList.drop 22 = dktX4_ofLineNow_1 := dk_seg dksX4_ofLineNow_0 22 rfl rfl
theorem dX4_ofLineNow_0 : decode cX4_ofLineNow 0 = .ok (.iload_n 2, 1) := dk_28 (dk_at dksX4_ofLineNow_0 0 rfl rfl)
theorem dX4_ofLineNow_1 : decode cX4_ofLineNow 1 = .ok (.ifCond .ne 15, 3) := dk_154 0 15 (dk_at dksX4_ofLineNow_0 1 rfl rfl)
theorem dX4_ofLineNow_4 : decode cX4_ofLineNow 4 = .ok (.aload_n 0, 1) := dk_42 (dk_at dksX4_ofLineNow_0 4 rfl rfl)
theorem dX4_ofLineNow_5 : decode cX4_ofLineNow 5 = .ok (.getfield 28, 3) := dk_180 0 28 (dk_at dksX4_ofLineNow_0 5 rfl rfl)
theorem dX4_ofLineNow_8 : decode cX4_ofLineNow 8 = .ok (.iload_n 1, 1) := dk_27 (dk_at dksX4_ofLineNow_0 8 rfl rfl)
theorem dX4_ofLineNow_9 : decode cX4_ofLineNow 9 = .ok (.aaload, 1) := dk_50 (dk_at dksX4_ofLineNow_0 9 rfl rfl)
theorem dX4_ofLineNow_10 : decode cX4_ofLineNow 10 = .ok (.getfield 169, 3) := dk_180 0 169 (dk_at dksX4_ofLineNow_0 10 rfl rfl)
theorem dX4_ofLineNow_13 : decode cX4_ofLineNow 13 = .ok (.goto 29, 3) := dk_167 0 29 (dk_at dksX4_ofLineNow_0 13 rfl rfl)
theorem dX4_ofLineNow_16 : decode cX4_ofLineNow 16 = .ok (.iload_n 2, 1) := dk_28 (dk_at dksX4_ofLineNow_0 16 rfl rfl)
theorem dX4_ofLineNow_17 : decode cX4_ofLineNow 17 = .ok (.iconst 1, 1) := dk_4 (dk_at dksX4_ofLineNow_0 17 rfl rfl)
theorem dX4_ofLineNow_18 : decode cX4_ofLineNow 18 = .ok (.if_icmp .ne 15, 3) := dk_160 0 15 (dk_at dksX4_ofLineNow_0 18 rfl rfl)
theorem dX4_ofLineNow_21 : decode cX4_ofLineNow 21 = .ok (.aload_n 0, 1) := dk_42 (dk_at dksX4_ofLineNow_0 21 rfl rfl)
theorem dX4_ofLineNow_22 : decode cX4_ofLineNow 22 = .ok (.getfield 28, 3) := dk_180 0 28 (dk_at dksX4_ofLineNow_1 0 rfl rfl)
theorem dX4_ofLineNow_25 : decode cX4_ofLineNow 25 = .ok (.iload_n 1, 1) := dk_27 (dk_at dksX4_ofLineNow_1 3 rfl rfl)
theorem dX4_ofLineNow_26 : decode cX4_ofLineNow 26 = .ok (.aaload, 1) := dk_50 (dk_at dksX4_ofLineNow_1 4 rfl rfl)
theorem dX4_ofLineNow_27 : decode cX4_ofLineNow 27 = .ok (.getfield 121, 3) := dk_180 0 121 (dk_at dksX4_ofLineNow_1 5 rfl rfl)
theorem dX4_ofLineNow_30 : decode cX4_ofLineNow 30 = .ok (.goto 12, 3) := dk_167 0 12 (dk_at dksX4_ofLineNow_1 8 rfl rfl)
theorem dX4_ofLineNow_33 : decode cX4_ofLineNow 33 = .ok (.aload_n 0, 1) := dk_42 (dk_at dksX4_ofLineNow_1 11 rfl rfl)
theorem dX4_ofLineNow_34 : decode cX4_ofLineNow 34 = .ok (.getfield 28, 3) := dk_180 0 28 (dk_at dksX4_ofLineNow_1 12 rfl rfl)
theorem dX4_ofLineNow_37 : decode cX4_ofLineNow 37 = .ok (.iload_n 1, 1) := dk_27 (dk_at dksX4_ofLineNow_1 15 rfl rfl)
theorem dX4_ofLineNow_38 : decode cX4_ofLineNow 38 = .ok (.aaload, 1) := dk_50 (dk_at dksX4_ofLineNow_1 16 rfl rfl)
theorem dX4_ofLineNow_39 : decode cX4_ofLineNow 39 = .ok (.getfield 166, 3) := dk_180 0 166 (dk_at dksX4_ofLineNow_1 17 rfl rfl)
theorem dX4_ofLineNow_42 : decode cX4_ofLineNow 42 = .ok (.ireturn, 1) := dk_172 (dk_at dksX4_ofLineNow_1 20 rfl rfl)
abbrev cX4_ofTray : ByteArray := prog_9_method_38_code
def yX4_ofTray : MethodName := ⟨RX4, "ofTray", "(II)I"⟩
def dkwX4_ofTray_1 : List UInt8 := [167, 0, 4, 3, 5, 182, 0, 60, 153, 0, 7, 3, 167, 0, 9, 42, 27, 28, 182, 1, 17, 172]
abbrev dktX4_ofTray_1 : List UInt8 := dkwX4_ofTray_1 ++ []
def dkwX4_ofTray_0 : List UInt8 := [42, 27, 184, 0, 171, 4, 182, 0, 72, 154, 0, 26, 42, 28, 3, 16, 11, 184, 0, 68, 154, 0, 7, 4]
abbrev dktX4_ofTray_0 : List UInt8 := dkwX4_ofTray_0 ++ dktX4_ofTray_1
theorem dksX4_ofTray_0 : cX4_ofTray.data.toList.drop 0 = dktX4_ofTray_0 := by decide +kernel
theorem dksX4_ofTray_1 : cX4_ofTray.data.toList.drop 24 = dktX4_ofTray_1 := dk_seg dksX4_ofTray_0 24 rfl rfl
theorem dX4_ofTray_0 : decode cX4_ofTray 0 = .ok (.aload_n 0, 1) := dk_42 (dk_at dksX4_ofTray_0 0 rfl rfl)
theorem dX4_ofTray_1 : decode cX4_ofTray 1 = .ok (.iload_n 1, 1) := dk_27 (dk_at dksX4_ofTray_0 1 rfl rfl)
theorem dX4_ofTray_2 : decode cX4_ofTray 2 = .ok (.invokestatic 171, 3) := dk_184 0 171 (dk_at dksX4_ofTray_0 2 rfl rfl)
theorem dX4_ofTray_5 : decode cX4_ofTray 5 = .ok (.iconst 1, 1) := dk_4 (dk_at dksX4_ofTray_0 5 rfl rfl)
theorem dX4_ofTray_6 : decode cX4_ofTray 6 = .ok (.invokevirtual 72, 3) := dk_182 0 72 (dk_at dksX4_ofTray_0 6 rfl rfl)
theorem dX4_ofTray_9 : decode cX4_ofTray 9 = .ok (.ifCond .ne 26, 3) := dk_154 0 26 (dk_at dksX4_ofTray_0 9 rfl rfl)
theorem dX4_ofTray_12 : decode cX4_ofTray 12 = .ok (.aload_n 0, 1) := dk_42 (dk_at dksX4_ofTray_0 12 rfl rfl)
theorem dX4_ofTray_13 : decode cX4_ofTray 13 = .ok (.iload_n 2, 1) := dk_28 (dk_at dksX4_ofTray_0 13 rfl rfl)
theorem dX4_ofTray_14 : decode cX4_ofTray 14 = .ok (.iconst 0, 1) := dk_3 (dk_at dksX4_ofTray_0 14 rfl rfl)
theorem dX4_ofTray_15 : decode cX4_ofTray 15 = .ok (.bipush 11, 2) := dk_16 11 (dk_at dksX4_ofTray_0 15 rfl rfl)
theorem dX4_ofTray_17 : decode cX4_ofTray 17 = .ok (.invokestatic 68, 3) := dk_184 0 68 (dk_at dksX4_ofTray_0 17 rfl rfl)
theorem dX4_ofTray_20 : decode cX4_ofTray 20 = .ok (.ifCond .ne 7, 3) := dk_154 0 7 (dk_at dksX4_ofTray_0 20 rfl rfl)
theorem dX4_ofTray_23 : decode cX4_ofTray 23 = .ok (.iconst 1, 1) := dk_4 (dk_at dksX4_ofTray_0 23 rfl rfl)
theorem dX4_ofTray_24 : decode cX4_ofTray 24 = .ok (.goto 4, 3) := dk_167 0 4 (dk_at dksX4_ofTray_1 0 rfl rfl)
theorem dX4_ofTray_27 : decode cX4_ofTray 27 = .ok (.iconst 0, 1) := dk_3 (dk_at dksX4_ofTray_1 3 rfl rfl)
theorem dX4_ofTray_28 : decode cX4_ofTray 28 = .ok (.iconst 2, 1) := dk_5 (dk_at dksX4_ofTray_1 4 rfl rfl)
theorem dX4_ofTray_29 : decode cX4_ofTray 29 = .ok (.invokevirtual 60, 3) := dk_182 0 60 (dk_at dksX4_ofTray_1 5 rfl rfl)
theorem dX4_ofTray_32 : decode cX4_ofTray 32 = .ok (.ifCond .eq 7, 3) := dk_153 0 7 (dk_at dksX4_ofTray_1 8 rfl rfl)
theorem dX4_ofTray_35 : decode cX4_ofTray 35 = .ok (.iconst 0, 1) := dk_3 (dk_at dksX4_ofTray_1 11 rfl rfl)
theorem dX4_ofTray_36 : decode cX4_ofTray 36 = .ok (.goto 9, 3) := dk_167 0 9 (dk_at dksX4_ofTray_1 12 rfl rfl)
theorem dX4_ofTray_39 : decode cX4_ofTray 39 = .ok (.aload_n 0, 1) := dk_42 (dk_at dksX4_ofTray_1 15 rfl rfl)
theorem dX4_ofTray_40 : decode cX4_ofTray 40 = .ok (.iload_n 1, 1) := dk_27 (dk_at dksX4_ofTray_1 16 rfl rfl)
theorem dX4_ofTray_41 : decode cX4_ofTray 41 = .ok (.iload_n 2, 1) := dk_28 (dk_at dksX4_ofTray_1 17 rfl rfl)
theorem dX4_ofTray_42 : decode cX4_ofTray 42 = .ok (.invokevirtual 273, 3) := dk_182 1 17 (dk_at dksX4_ofTray_1 18 rfl rfl)
theorem dX4_ofTray_45 : decode cX4_ofTray 45 = .ok (.ireturn, 1) := dk_172 (dk_at dksX4_ofTray_1 21 rfl rfl)
abbrev cX4_ofTrayNow : ByteArray := prog_9_method_37_code
def yX4_ofTrayNow : MethodName := ⟨RX4, "ofTrayNow", "(II)I"⟩
def dkwX4_ofTrayNow_4 : List UInt8 := [45, 180, 0, 115, 153, 0, 7, 4, 167, 0, 4, 3, 79, 58, 4, 25, 4, 28, 46, 172]
abbrev dktX4_ofTrayNow_4 : List UInt8 := dkwX4_ofTrayNow_4 ++ []
def dkwX4_ofTrayNow_3 : List UInt8 := [45, 180, 0, 183, 79, 89, 16, 9, 45, 180, 0, 186, 79, 89, 16, 10, 45, 182, 1, 14, 79, 89, 16, 11]
abbrev dktX4_ofTrayNow_3 : List UInt8 := dkwX4_ofTrayNow_3 ++ dktX4_ofTrayNow_4
def dkwX4_ofTrayNow_2 : List UInt8 := [45, 180, 0, 180, 79, 89, 16, 6, 45, 180, 1, 11, 79, 89, 16, 7, 45, 180, 0, 196, 79, 89, 16, 8]
abbrev dktX4_ofTrayNow_2 : List UInt8 := dkwX4_ofTrayNow_2 ++ dktX4_ofTrayNow_3
def dkwX4_ofTrayNow_1 : List UInt8 := [79, 89, 5, 45, 180, 0, 118, 79, 89, 6, 45, 180, 0, 177, 79, 89, 7, 45, 180, 1, 8, 79, 89, 8]
abbrev dktX4_ofTrayNow_1 : List UInt8 := dkwX4_ofTrayNow_1 ++ dktX4_ofTrayNow_2
def dkwX4_ofTrayNow_0 : List UInt8 := [42, 180, 0, 34, 27, 50, 78, 16, 12, 188, 10, 89, 3, 45, 180, 0, 112, 79, 89, 4, 45, 180, 0, 174]
abbrev dktX4_ofTrayNow_0 : List UInt8 := dkwX4_ofTrayNow_0 ++ dktX4_ofTrayNow_1
theorem dksX4_ofTrayNow_0 : cX4_ofTrayNow.data.toList.drop 0 = dktX4_ofTrayNow_0 := by decide +kernel
theorem dksX4_ofTrayNow_1 : cX4_ofTrayNow.data.toList.drop 24 = dktX4_ofTrayNow_1 := dk_seg dksX4_ofTrayNow_0 24 rfl rfl
theorem dksX4_ofTrayNow_2 : cX4_ofTrayNow.data.toList.drop 48 = dktX4_ofTrayNow_2 := dk_seg dksX4_ofTrayNow_1 24 rfl rfl
theorem dksX4_ofTrayNow_3 : cX4_ofTrayNow.data.toList.drop 72 = dktX4_ofTrayNow_3 := dk_seg dksX4_ofTrayNow_2 24 rfl rfl
theorem dksX4_ofTrayNow_4 : cX4_ofTrayNow.data.toList.drop 96 = dktX4_ofTrayNow_4 := dk_seg dksX4_ofTrayNow_3 24 rfl rfl
theorem dX4_ofTrayNow_0 : decode cX4_ofTrayNow 0 = .ok (.aload_n 0, 1) := dk_42 (dk_at dksX4_ofTrayNow_0 0 rfl rfl)
theorem dX4_ofTrayNow_1 : decode cX4_ofTrayNow 1 = .ok (.getfield 34, 3) := dk_180 0 34 (dk_at dksX4_ofTrayNow_0 1 rfl rfl)
theorem dX4_ofTrayNow_4 : decode cX4_ofTrayNow 4 = .ok (.iload_n 1, 1) := dk_27 (dk_at dksX4_ofTrayNow_0 4 rfl rfl)
theorem dX4_ofTrayNow_5 : decode cX4_ofTrayNow 5 = .ok (.aaload, 1) := dk_50 (dk_at dksX4_ofTrayNow_0 5 rfl rfl)
theorem dX4_ofTrayNow_6 : decode cX4_ofTrayNow 6 = .ok (.astore_n 3, 1) := dk_78 (dk_at dksX4_ofTrayNow_0 6 rfl rfl)
theorem dX4_ofTrayNow_7 : decode cX4_ofTrayNow 7 = .ok (.bipush 12, 2) := dk_16 12 (dk_at dksX4_ofTrayNow_0 7 rfl rfl)
theorem dX4_ofTrayNow_9 : decode cX4_ofTrayNow 9 = .ok (.newarray .int, 2) := dk_188_10 (dk_at dksX4_ofTrayNow_0 9 rfl rfl)
theorem dX4_ofTrayNow_11 : decode cX4_ofTrayNow 11 = .ok (.dup, 1) := dk_89 (dk_at dksX4_ofTrayNow_0 11 rfl rfl)
theorem dX4_ofTrayNow_12 : decode cX4_ofTrayNow 12 = .ok (.iconst 0, 1) := dk_3 (dk_at dksX4_ofTrayNow_0 12 rfl rfl)
theorem dX4_ofTrayNow_13 : decode cX4_ofTrayNow 13 = .ok (.aload_n 3, 1) := dk_45 (dk_at dksX4_ofTrayNow_0 13 rfl rfl)
theorem dX4_ofTrayNow_14 : decode cX4_ofTrayNow 14 = .ok (.getfield 112, 3) := dk_180 0 112 (dk_at dksX4_ofTrayNow_0 14 rfl rfl)
theorem dX4_ofTrayNow_17 : decode cX4_ofTrayNow 17 = .ok (.iastore, 1) := dk_79 (dk_at dksX4_ofTrayNow_0 17 rfl rfl)
theorem dX4_ofTrayNow_18 : decode cX4_ofTrayNow 18 = .ok (.dup, 1) := dk_89 (dk_at dksX4_ofTrayNow_0 18 rfl rfl)
theorem dX4_ofTrayNow_19 : decode cX4_ofTrayNow 19 = .ok (.iconst 1, 1) := dk_4 (dk_at dksX4_ofTrayNow_0 19 rfl rfl)
theorem dX4_ofTrayNow_20 : decode cX4_ofTrayNow 20 = .ok (.aload_n 3, 1) := dk_45 (dk_at dksX4_ofTrayNow_0 20 rfl rfl)
theorem dX4_ofTrayNow_21 : decode cX4_ofTrayNow 21 = .ok (.getfield 174, 3) := dk_180 0 174 (dk_at dksX4_ofTrayNow_0 21 rfl rfl)
theorem dX4_ofTrayNow_24 : decode cX4_ofTrayNow 24 = .ok (.iastore, 1) := dk_79 (dk_at dksX4_ofTrayNow_1 0 rfl rfl)
theorem dX4_ofTrayNow_25 : decode cX4_ofTrayNow 25 = .ok (.dup, 1) := dk_89 (dk_at dksX4_ofTrayNow_1 1 rfl rfl)
theorem dX4_ofTrayNow_26 : decode cX4_ofTrayNow 26 = .ok (.iconst 2, 1) := dk_5 (dk_at dksX4_ofTrayNow_1 2 rfl rfl)
theorem dX4_ofTrayNow_27 : decode cX4_ofTrayNow 27 = .ok (.aload_n 3, 1) := dk_45 (dk_at dksX4_ofTrayNow_1 3 rfl rfl)
theorem dX4_ofTrayNow_28 : decode cX4_ofTrayNow 28 = .ok (.getfield 118, 3) := dk_180 0 118 (dk_at dksX4_ofTrayNow_1 4 rfl rfl)
theorem dX4_ofTrayNow_31 : decode cX4_ofTrayNow 31 = .ok (.iastore, 1) := dk_79 (dk_at dksX4_ofTrayNow_1 7 rfl rfl)
theorem dX4_ofTrayNow_32 : decode cX4_ofTrayNow 32 = .ok (.dup, 1) := dk_89 (dk_at dksX4_ofTrayNow_1 8 rfl rfl)
theorem dX4_ofTrayNow_33 : decode cX4_ofTrayNow 33 = .ok (.iconst 3, 1) := dk_6 (dk_at dksX4_ofTrayNow_1 9 rfl rfl)
theorem dX4_ofTrayNow_34 : decode cX4_ofTrayNow 34 = .ok (.aload_n 3, 1) := dk_45 (dk_at dksX4_ofTrayNow_1 10 rfl rfl)
theorem dX4_ofTrayNow_35 : decode cX4_ofTrayNow 35 = .ok (.getfield 177, 3) := dk_180 0 177 (dk_at dksX4_ofTrayNow_1 11 rfl rfl)
theorem dX4_ofTrayNow_38 : decode cX4_ofTrayNow 38 = .ok (.iastore, 1) := dk_79 (dk_at dksX4_ofTrayNow_1 14 rfl rfl)
theorem dX4_ofTrayNow_39 : decode cX4_ofTrayNow 39 = .ok (.dup, 1) := dk_89 (dk_at dksX4_ofTrayNow_1 15 rfl rfl)
theorem dX4_ofTrayNow_40 : decode cX4_ofTrayNow 40 = .ok (.iconst 4, 1) := dk_7 (dk_at dksX4_ofTrayNow_1 16 rfl rfl)
theorem dX4_ofTrayNow_41 : decode cX4_ofTrayNow 41 = .ok (.aload_n 3, 1) := dk_45 (dk_at dksX4_ofTrayNow_1 17 rfl rfl)
theorem dX4_ofTrayNow_42 : decode cX4_ofTrayNow 42 = .ok (.getfield 264, 3) := dk_180 1 8 (dk_at dksX4_ofTrayNow_1 18 rfl rfl)
theorem dX4_ofTrayNow_45 : decode cX4_ofTrayNow 45 = .ok (.iastore, 1) := dk_79 (dk_at dksX4_ofTrayNow_1 21 rfl rfl)
theorem dX4_ofTrayNow_46 : decode cX4_ofTrayNow 46 = .ok (.dup, 1) := dk_89 (dk_at dksX4_ofTrayNow_1 22 rfl rfl)
theorem dX4_ofTrayNow_47 : decode cX4_ofTrayNow 47 = .ok (.iconst 5, 1) := dk_8 (dk_at dksX4_ofTrayNow_1 23 rfl rfl)
theorem dX4_ofTrayNow_48 : decode cX4_ofTrayNow 48 = .ok (.aload_n 3, 1) := dk_45 (dk_at dksX4_ofTrayNow_2 0 rfl rfl)
theorem dX4_ofTrayNow_49 : decode cX4_ofTrayNow 49 = .ok (.getfield 180, 3) := dk_180 0 180 (dk_at dksX4_ofTrayNow_2 1 rfl rfl)
theorem dX4_ofTrayNow_52 : decode cX4_ofTrayNow 52 = .ok (.iastore, 1) := dk_79 (dk_at dksX4_ofTrayNow_2 4 rfl rfl)
theorem dX4_ofTrayNow_53 : decode cX4_ofTrayNow 53 = .ok (.dup, 1) := dk_89 (dk_at dksX4_ofTrayNow_2 5 rfl rfl)
theorem dX4_ofTrayNow_54 : decode cX4_ofTrayNow 54 = .ok (.bipush 6, 2) := dk_16 6 (dk_at dksX4_ofTrayNow_2 6 rfl rfl)
theorem dX4_ofTrayNow_56 : decode cX4_ofTrayNow 56 = .ok (.aload_n 3, 1) := dk_45 (dk_at dksX4_ofTrayNow_2 8 rfl rfl)
theorem dX4_ofTrayNow_57 : decode cX4_ofTrayNow 57 = .ok (.getfield 267, 3) := dk_180 1 11 (dk_at dksX4_ofTrayNow_2 9 rfl rfl)
theorem dX4_ofTrayNow_60 : decode cX4_ofTrayNow 60 = .ok (.iastore, 1) := dk_79 (dk_at dksX4_ofTrayNow_2 12 rfl rfl)
theorem dX4_ofTrayNow_61 : decode cX4_ofTrayNow 61 = .ok (.dup, 1) := dk_89 (dk_at dksX4_ofTrayNow_2 13 rfl rfl)
theorem dX4_ofTrayNow_62 : decode cX4_ofTrayNow 62 = .ok (.bipush 7, 2) := dk_16 7 (dk_at dksX4_ofTrayNow_2 14 rfl rfl)
theorem dX4_ofTrayNow_64 : decode cX4_ofTrayNow 64 = .ok (.aload_n 3, 1) := dk_45 (dk_at dksX4_ofTrayNow_2 16 rfl rfl)
theorem dX4_ofTrayNow_65 : decode cX4_ofTrayNow 65 = .ok (.getfield 196, 3) := dk_180 0 196 (dk_at dksX4_ofTrayNow_2 17 rfl rfl)
theorem dX4_ofTrayNow_68 : decode cX4_ofTrayNow 68 = .ok (.iastore, 1) := dk_79 (dk_at dksX4_ofTrayNow_2 20 rfl rfl)
theorem dX4_ofTrayNow_69 : decode cX4_ofTrayNow 69 = .ok (.dup, 1) := dk_89 (dk_at dksX4_ofTrayNow_2 21 rfl rfl)
theorem dX4_ofTrayNow_70 : decode cX4_ofTrayNow 70 = .ok (.bipush 8, 2) := dk_16 8 (dk_at dksX4_ofTrayNow_2 22 rfl rfl)
theorem dX4_ofTrayNow_72 : decode cX4_ofTrayNow 72 = .ok (.aload_n 3, 1) := dk_45 (dk_at dksX4_ofTrayNow_3 0 rfl rfl)
theorem dX4_ofTrayNow_73 : decode cX4_ofTrayNow 73 = .ok (.getfield 183, 3) := dk_180 0 183 (dk_at dksX4_ofTrayNow_3 1 rfl rfl)
theorem dX4_ofTrayNow_76 : decode cX4_ofTrayNow 76 = .ok (.iastore, 1) := dk_79 (dk_at dksX4_ofTrayNow_3 4 rfl rfl)
theorem dX4_ofTrayNow_77 : decode cX4_ofTrayNow 77 = .ok (.dup, 1) := dk_89 (dk_at dksX4_ofTrayNow_3 5 rfl rfl)
theorem dX4_ofTrayNow_78 : decode cX4_ofTrayNow 78 = .ok (.bipush 9, 2) := dk_16 9 (dk_at dksX4_ofTrayNow_3 6 rfl rfl)
theorem dX4_ofTrayNow_80 : decode cX4_ofTrayNow 80 = .ok (.aload_n 3, 1) := dk_45 (dk_at dksX4_ofTrayNow_3 8 rfl rfl)
theorem dX4_ofTrayNow_81 : decode cX4_ofTrayNow 81 = .ok (.getfield 186, 3) := dk_180 0 186 (dk_at dksX4_ofTrayNow_3 9 rfl rfl)
theorem dX4_ofTrayNow_84 : decode cX4_ofTrayNow 84 = .ok (.iastore, 1) := dk_79 (dk_at dksX4_ofTrayNow_3 12 rfl rfl)
theorem dX4_ofTrayNow_85 : decode cX4_ofTrayNow 85 = .ok (.dup, 1) := dk_89 (dk_at dksX4_ofTrayNow_3 13 rfl rfl)
theorem dX4_ofTrayNow_86 : decode cX4_ofTrayNow 86 = .ok (.bipush 10, 2) := dk_16 10 (dk_at dksX4_ofTrayNow_3 14 rfl rfl)
theorem dX4_ofTrayNow_88 : decode cX4_ofTrayNow 88 = .ok (.aload_n 3, 1) := dk_45 (dk_at dksX4_ofTrayNow_3 16 rfl rfl)
theorem dX4_ofTrayNow_89 : decode cX4_ofTrayNow 89 = .ok (.invokevirtual 270, 3) := dk_182 1 14 (dk_at dksX4_ofTrayNow_3 17 rfl rfl)
theorem dX4_ofTrayNow_92 : decode cX4_ofTrayNow 92 = .ok (.iastore, 1) := dk_79 (dk_at dksX4_ofTrayNow_3 20 rfl rfl)
theorem dX4_ofTrayNow_93 : decode cX4_ofTrayNow 93 = .ok (.dup, 1) := dk_89 (dk_at dksX4_ofTrayNow_3 21 rfl rfl)
theorem dX4_ofTrayNow_94 : decode cX4_ofTrayNow 94 = .ok (.bipush 11, 2) := dk_16 11 (dk_at dksX4_ofTrayNow_3 22 rfl rfl)
theorem dX4_ofTrayNow_96 : decode cX4_ofTrayNow 96 = .ok (.aload_n 3, 1) := dk_45 (dk_at dksX4_ofTrayNow_4 0 rfl rfl)
theorem dX4_ofTrayNow_97 : decode cX4_ofTrayNow 97 = .ok (.getfield 115, 3) := dk_180 0 115 (dk_at dksX4_ofTrayNow_4 1 rfl rfl)
theorem dX4_ofTrayNow_100 : decode cX4_ofTrayNow 100 = .ok (.ifCond .eq 7, 3) := dk_153 0 7 (dk_at dksX4_ofTrayNow_4 4 rfl rfl)
theorem dX4_ofTrayNow_103 : decode cX4_ofTrayNow 103 = .ok (.iconst 1, 1) := dk_4 (dk_at dksX4_ofTrayNow_4 7 rfl rfl)
theorem dX4_ofTrayNow_104 : decode cX4_ofTrayNow 104 = .ok (.goto 4, 3) := dk_167 0 4 (dk_at dksX4_ofTrayNow_4 8 rfl rfl)
theorem dX4_ofTrayNow_107 : decode cX4_ofTrayNow 107 = .ok (.iconst 0, 1) := dk_3 (dk_at dksX4_ofTrayNow_4 11 rfl rfl)
theorem dX4_ofTrayNow_108 : decode cX4_ofTrayNow 108 = .ok (.iastore, 1) := dk_79 (dk_at dksX4_ofTrayNow_4 12 rfl rfl)
theorem dX4_ofTrayNow_109 : decode cX4_ofTrayNow 109 = .ok (.astore 4, 2) := dk_58 4 (dk_at dksX4_ofTrayNow_4 13 rfl rfl)
theorem dX4_ofTrayNow_111 : decode cX4_ofTrayNow 111 = .ok (.aload 4, 2) := dk_25 4 (dk_at dksX4_ofTrayNow_4 15 rfl rfl)
theorem dX4_ofTrayNow_113 : decode cX4_ofTrayNow 113 = .ok (.iload_n 2, 1) := dk_28 (dk_at dksX4_ofTrayNow_4 17 rfl rfl)
theorem dX4_ofTrayNow_114 : decode cX4_ofTrayNow 114 = .ok (.iaload, 1) := dk_46 (dk_at dksX4_ofTrayNow_4 18 rfl rfl)
theorem dX4_ofTrayNow_115 : decode cX4_ofTrayNow 115 = .ok (.ireturn, 1) := dk_172 (dk_at dksX4_ofTrayNow_4 19 rfl rfl)
abbrev cX4_ofLot : ByteArray := prog_9_method_40_code
def yX4_ofLot : MethodName := ⟨RX4, "ofLot", "(II)I"⟩
def dkwX4_ofLot_1 : List UInt8 := [4, 167, 0, 4, 3, 5, 182, 0, 60, 153, 0, 7, 3, 167, 0, 9, 42, 27, 28, 182, 1, 24, 172]
abbrev dktX4_ofLot_1 : List UInt8 := dkwX4_ofLot_1 ++ []
def dkwX4_ofLot_0 : List UInt8 := [42, 42, 27, 182, 0, 217, 4, 182, 0, 72, 154, 0, 26, 42, 28, 3, 16, 8, 184, 0, 68, 154, 0, 7]
abbrev dktX4_ofLot_0 : List UInt8 := dkwX4_ofLot_0 ++ dktX4_ofLot_1
theorem dksX4_ofLot_0 : cX4_ofLot.data.toList.drop 0 = dktX4_ofLot_0 := by decide +kernel
theorem dksX4_ofLot_1 : cX4_ofLot.data.toList.drop 24 = dktX4_ofLot_1 := dk_seg dksX4_ofLot_0 24 rfl rfl
theorem dX4_ofLot_0 : decode cX4_ofLot 0 = .ok (.aload_n 0, 1) := dk_42 (dk_at dksX4_ofLot_0 0 rfl rfl)
theorem dX4_ofLot_1 : decode cX4_ofLot 1 = .ok (.aload_n 0, 1) := dk_42 (dk_at dksX4_ofLot_0 1 rfl rfl)
theorem dX4_ofLot_2 : decode cX4_ofLot 2 = .ok (.iload_n 1, 1) := dk_27 (dk_at dksX4_ofLot_0 2 rfl rfl)
theorem dX4_ofLot_3 : decode cX4_ofLot 3 = .ok (.invokevirtual 217, 3) := dk_182 0 217 (dk_at dksX4_ofLot_0 3 rfl rfl)
theorem dX4_ofLot_6 : decode cX4_ofLot 6 = .ok (.iconst 1, 1) := dk_4 (dk_at dksX4_ofLot_0 6 rfl rfl)
theorem dX4_ofLot_7 : decode cX4_ofLot 7 = .ok (.invokevirtual 72, 3) := dk_182 0 72 (dk_at dksX4_ofLot_0 7 rfl rfl)
theorem dX4_ofLot_10 : decode cX4_ofLot 10 = .ok (.ifCond .ne 26, 3) := dk_154 0 26 (dk_at dksX4_ofLot_0 10 rfl rfl)
theorem dX4_ofLot_13 : decode cX4_ofLot 13 = .ok (.aload_n 0, 1) := dk_42 (dk_at dksX4_ofLot_0 13 rfl rfl)
theorem dX4_ofLot_14 : decode cX4_ofLot 14 = .ok (.iload_n 2, 1) := dk_28 (dk_at dksX4_ofLot_0 14 rfl rfl)
theorem dX4_ofLot_15 : decode cX4_ofLot 15 = .ok (.iconst 0, 1) := dk_3 (dk_at dksX4_ofLot_0 15 rfl rfl)
theorem dX4_ofLot_16 : decode cX4_ofLot 16 = .ok (.bipush 8, 2) := dk_16 8 (dk_at dksX4_ofLot_0 16 rfl rfl)
theorem dX4_ofLot_18 : decode cX4_ofLot 18 = .ok (.invokestatic 68, 3) := dk_184 0 68 (dk_at dksX4_ofLot_0 18 rfl rfl)
theorem dX4_ofLot_21 : decode cX4_ofLot 21 = .ok (.ifCond .ne 7, 3) := dk_154 0 7 (dk_at dksX4_ofLot_0 21 rfl rfl)
theorem dX4_ofLot_24 : decode cX4_ofLot 24 = .ok (.iconst 1, 1) := dk_4 (dk_at dksX4_ofLot_1 0 rfl rfl)
theorem dX4_ofLot_25 : decode cX4_ofLot 25 = .ok (.goto 4, 3) := dk_167 0 4 (dk_at dksX4_ofLot_1 1 rfl rfl)
theorem dX4_ofLot_28 : decode cX4_ofLot 28 = .ok (.iconst 0, 1) := dk_3 (dk_at dksX4_ofLot_1 4 rfl rfl)
theorem dX4_ofLot_29 : decode cX4_ofLot 29 = .ok (.iconst 2, 1) := dk_5 (dk_at dksX4_ofLot_1 5 rfl rfl)
theorem dX4_ofLot_30 : decode cX4_ofLot 30 = .ok (.invokevirtual 60, 3) := dk_182 0 60 (dk_at dksX4_ofLot_1 6 rfl rfl)
theorem dX4_ofLot_33 : decode cX4_ofLot 33 = .ok (.ifCond .eq 7, 3) := dk_153 0 7 (dk_at dksX4_ofLot_1 9 rfl rfl)
theorem dX4_ofLot_36 : decode cX4_ofLot 36 = .ok (.iconst 0, 1) := dk_3 (dk_at dksX4_ofLot_1 12 rfl rfl)
theorem dX4_ofLot_37 : decode cX4_ofLot 37 = .ok (.goto 9, 3) := dk_167 0 9 (dk_at dksX4_ofLot_1 13 rfl rfl)
theorem dX4_ofLot_40 : decode cX4_ofLot 40 = .ok (.aload_n 0, 1) := dk_42 (dk_at dksX4_ofLot_1 16 rfl rfl)
theorem dX4_ofLot_41 : decode cX4_ofLot 41 = .ok (.iload_n 1, 1) := dk_27 (dk_at dksX4_ofLot_1 17 rfl rfl)
theorem dX4_ofLot_42 : decode cX4_ofLot 42 = .ok (.iload_n 2, 1) := dk_28 (dk_at dksX4_ofLot_1 18 rfl rfl)
theorem dX4_ofLot_43 : decode cX4_ofLot 43 = .ok (.invokevirtual 280, 3) := dk_182 1 24 (dk_at dksX4_ofLot_1 19 rfl rfl)
theorem dX4_ofLot_46 : decode cX4_ofLot 46 = .ok (.ireturn, 1) := dk_172 (dk_at dksX4_ofLot_1 22 rfl rfl)
abbrev cX4_ofLotNow : ByteArray := prog_9_method_39_code
def yX4_ofLotNow : MethodName := ⟨RX4, "ofLotNow", "(II)I"⟩
def dkwX4_ofLotNow_4 : List UInt8 := [58, 4, 25, 4, 28, 46, 172]
abbrev dktX4_ofLotNow_4 : List UInt8 := dkwX4_ofLotNow_4 ++ []
def dkwX4_ofLotNow_3 : List UInt8 := [180, 0, 208, 4, 46, 79, 89, 16, 7, 45, 180, 0, 208, 5, 46, 79, 89, 16, 8, 45, 180, 1, 21, 79]
abbrev dktX4_ofLotNow_3 : List UInt8 := dkwX4_ofLotNow_3 ++ dktX4_ofLotNow_4
def dkwX4_ofLotNow_2 : List UInt8 := [89, 7, 45, 180, 0, 205, 5, 46, 79, 89, 8, 45, 180, 0, 208, 3, 46, 79, 89, 16, 6, 45]
abbrev dktX4_ofLotNow_2 : List UInt8 := dkwX4_ofLotNow_2 ++ dktX4_ofLotNow_3
def dkwX4_ofLotNow_1 : List UInt8 := [4, 45, 180, 1, 20, 79, 89, 5, 45, 180, 0, 205, 3, 46, 79, 89, 6, 45, 180, 0, 205, 4, 46, 79]
abbrev dktX4_ofLotNow_1 : List UInt8 := dkwX4_ofLotNow_1 ++ dktX4_ofLotNow_2
def dkwX4_ofLotNow_0 : List UInt8 := [42, 180, 0, 38, 27, 182, 0, 147, 192, 0, 130, 78, 16, 9, 188, 10, 89, 3, 45, 180, 0, 220, 79, 89]
abbrev dktX4_ofLotNow_0 : List UInt8 := dkwX4_ofLotNow_0 ++ dktX4_ofLotNow_1
theorem dksX4_ofLotNow_0 : cX4_ofLotNow.data.toList.drop 0 = dktX4_ofLotNow_0 := by decide +kernel
theorem dksX4_ofLotNow_1 : cX4_ofLotNow.data.toList.drop 24 = dktX4_ofLotNow_1 := dk_seg dksX4_ofLotNow_0 24 rfl rfl
theorem dksX4_ofLotNow_2 : cX4_ofLotNow.data.toList.drop 48 = dktX4_ofLotNow_2 := dk_seg dksX4_ofLotNow_1 24 rfl rfl
theorem dksX4_ofLotNow_3 : cX4_ofLotNow.data.toList.drop 70 = dktX4_ofLotNow_3 := dk_seg dksX4_ofLotNow_2 22 rfl rfl
theorem dksX4_ofLotNow_4 : cX4_ofLotNow.data.toList.drop 94 = dktX4_ofLotNow_4 := dk_seg dksX4_ofLotNow_3 24 rfl rfl
theorem dX4_ofLotNow_0 : decode cX4_ofLotNow 0 = .ok (.aload_n 0, 1) := dk_42 (dk_at dksX4_ofLotNow_0 0 rfl rfl)
theorem dX4_ofLotNow_1 : decode cX4_ofLotNow 1 = .ok (.getfield 38, 3) := dk_180 0 38 (dk_at dksX4_ofLotNow_0 1 rfl rfl)
theorem dX4_ofLotNow_4 : decode cX4_ofLotNow 4 = .ok (.iload_n 1, 1) := dk_27 (dk_at dksX4_ofLotNow_0 4 rfl rfl)
theorem dX4_ofLotNow_5 : decode cX4_ofLotNow 5 = .ok (.invokevirtual 147, 3) := dk_182 0 147 (dk_at dksX4_ofLotNow_0 5 rfl rfl)
theorem dX4_ofLotNow_8 : decode cX4_ofLotNow 8 = .ok (.checkcast 130, 3) := dk_192 0 130 (dk_at dksX4_ofLotNow_0 8 rfl rfl)
theorem dX4_ofLotNow_11 : decode cX4_ofLotNow 11 = .ok (.astore_n 3, 1) := dk_78 (dk_at dksX4_ofLotNow_0 11 rfl rfl)
theorem dX4_ofLotNow_12 : decode cX4_ofLotNow 12 = .ok (.bipush 9, 2) := dk_16 9 (dk_at dksX4_ofLotNow_0 12 rfl rfl)
theorem dX4_ofLotNow_14 : decode cX4_ofLotNow 14 = .ok (.newarray .int, 2) := dk_188_10 (dk_at dksX4_ofLotNow_0 14 rfl rfl)
theorem dX4_ofLotNow_16 : decode cX4_ofLotNow 16 = .ok (.dup, 1) := dk_89 (dk_at dksX4_ofLotNow_0 16 rfl rfl)
theorem dX4_ofLotNow_17 : decode cX4_ofLotNow 17 = .ok (.iconst 0, 1) := dk_3 (dk_at dksX4_ofLotNow_0 17 rfl rfl)
theorem dX4_ofLotNow_18 : decode cX4_ofLotNow 18 = .ok (.aload_n 3, 1) := dk_45 (dk_at dksX4_ofLotNow_0 18 rfl rfl)
theorem dX4_ofLotNow_19 : decode cX4_ofLotNow 19 = .ok (.getfield 220, 3) := dk_180 0 220 (dk_at dksX4_ofLotNow_0 19 rfl rfl)
theorem dX4_ofLotNow_22 : decode cX4_ofLotNow 22 = .ok (.iastore, 1) := dk_79 (dk_at dksX4_ofLotNow_0 22 rfl rfl)
theorem dX4_ofLotNow_23 : decode cX4_ofLotNow 23 = .ok (.dup, 1) := dk_89 (dk_at dksX4_ofLotNow_0 23 rfl rfl)
theorem dX4_ofLotNow_24 : decode cX4_ofLotNow 24 = .ok (.iconst 1, 1) := dk_4 (dk_at dksX4_ofLotNow_1 0 rfl rfl)
theorem dX4_ofLotNow_25 : decode cX4_ofLotNow 25 = .ok (.aload_n 3, 1) := dk_45 (dk_at dksX4_ofLotNow_1 1 rfl rfl)
theorem dX4_ofLotNow_26 : decode cX4_ofLotNow 26 = .ok (.getfield 276, 3) := dk_180 1 20 (dk_at dksX4_ofLotNow_1 2 rfl rfl)
theorem dX4_ofLotNow_29 : decode cX4_ofLotNow 29 = .ok (.iastore, 1) := dk_79 (dk_at dksX4_ofLotNow_1 5 rfl rfl)
theorem dX4_ofLotNow_30 : decode cX4_ofLotNow 30 = .ok (.dup, 1) := dk_89 (dk_at dksX4_ofLotNow_1 6 rfl rfl)
theorem dX4_ofLotNow_31 : decode cX4_ofLotNow 31 = .ok (.iconst 2, 1) := dk_5 (dk_at dksX4_ofLotNow_1 7 rfl rfl)
theorem dX4_ofLotNow_32 : decode cX4_ofLotNow 32 = .ok (.aload_n 3, 1) := dk_45 (dk_at dksX4_ofLotNow_1 8 rfl rfl)
theorem dX4_ofLotNow_33 : decode cX4_ofLotNow 33 = .ok (.getfield 205, 3) := dk_180 0 205 (dk_at dksX4_ofLotNow_1 9 rfl rfl)
theorem dX4_ofLotNow_36 : decode cX4_ofLotNow 36 = .ok (.iconst 0, 1) := dk_3 (dk_at dksX4_ofLotNow_1 12 rfl rfl)
theorem dX4_ofLotNow_37 : decode cX4_ofLotNow 37 = .ok (.iaload, 1) := dk_46 (dk_at dksX4_ofLotNow_1 13 rfl rfl)
theorem dX4_ofLotNow_38 : decode cX4_ofLotNow 38 = .ok (.iastore, 1) := dk_79 (dk_at dksX4_ofLotNow_1 14 rfl rfl)
theorem dX4_ofLotNow_39 : decode cX4_ofLotNow 39 = .ok (.dup, 1) := dk_89 (dk_at dksX4_ofLotNow_1 15 rfl rfl)
theorem dX4_ofLotNow_40 : decode cX4_ofLotNow 40 = .ok (.iconst 3, 1) := dk_6 (dk_at dksX4_ofLotNow_1 16 rfl rfl)
theorem dX4_ofLotNow_41 : decode cX4_ofLotNow 41 = .ok (.aload_n 3, 1) := dk_45 (dk_at dksX4_ofLotNow_1 17 rfl rfl)
theorem dX4_ofLotNow_42 : decode cX4_ofLotNow 42 = .ok (.getfield 205, 3) := dk_180 0 205 (dk_at dksX4_ofLotNow_1 18 rfl rfl)
theorem dX4_ofLotNow_45 : decode cX4_ofLotNow 45 = .ok (.iconst 1, 1) := dk_4 (dk_at dksX4_ofLotNow_1 21 rfl rfl)
theorem dX4_ofLotNow_46 : decode cX4_ofLotNow 46 = .ok (.iaload, 1) := dk_46 (dk_at dksX4_ofLotNow_1 22 rfl rfl)
theorem dX4_ofLotNow_47 : decode cX4_ofLotNow 47 = .ok (.iastore, 1) := dk_79 (dk_at dksX4_ofLotNow_1 23 rfl rfl)
theorem dX4_ofLotNow_48 : decode cX4_ofLotNow 48 = .ok (.dup, 1) := dk_89 (dk_at dksX4_ofLotNow_2 0 rfl rfl)
theorem dX4_ofLotNow_49 : decode cX4_ofLotNow 49 = .ok (.iconst 4, 1) := dk_7 (dk_at dksX4_ofLotNow_2 1 rfl rfl)
theorem dX4_ofLotNow_50 : decode cX4_ofLotNow 50 = .ok (.aload_n 3, 1) := dk_45 (dk_at dksX4_ofLotNow_2 2 rfl rfl)
theorem dX4_ofLotNow_51 : decode cX4_ofLotNow 51 = .ok (.getfield 205, 3) := dk_180 0 205 (dk_at dksX4_ofLotNow_2 3 rfl rfl)
theorem dX4_ofLotNow_54 : decode cX4_ofLotNow 54 = .ok (.iconst 2, 1) := dk_5 (dk_at dksX4_ofLotNow_2 6 rfl rfl)
theorem dX4_ofLotNow_55 : decode cX4_ofLotNow 55 = .ok (.iaload, 1) := dk_46 (dk_at dksX4_ofLotNow_2 7 rfl rfl)
theorem dX4_ofLotNow_56 : decode cX4_ofLotNow 56 = .ok (.iastore, 1) := dk_79 (dk_at dksX4_ofLotNow_2 8 rfl rfl)
theorem dX4_ofLotNow_57 : decode cX4_ofLotNow 57 = .ok (.dup, 1) := dk_89 (dk_at dksX4_ofLotNow_2 9 rfl rfl)
theorem dX4_ofLotNow_58 : decode cX4_ofLotNow 58 = .ok (.iconst 5, 1) := dk_8 (dk_at dksX4_ofLotNow_2 10 rfl rfl)
theorem dX4_ofLotNow_59 : decode cX4_ofLotNow 59 = .ok (.aload_n 3, 1) := dk_45 (dk_at dksX4_ofLotNow_2 11 rfl rfl)
theorem dX4_ofLotNow_60 : decode cX4_ofLotNow 60 = .ok (.getfield 208, 3) := dk_180 0 208 (dk_at dksX4_ofLotNow_2 12 rfl rfl)
theorem dX4_ofLotNow_63 : decode cX4_ofLotNow 63 = .ok (.iconst 0, 1) := dk_3 (dk_at dksX4_ofLotNow_2 15 rfl rfl)
theorem dX4_ofLotNow_64 : decode cX4_ofLotNow 64 = .ok (.iaload, 1) := dk_46 (dk_at dksX4_ofLotNow_2 16 rfl rfl)
theorem dX4_ofLotNow_65 : decode cX4_ofLotNow 65 = .ok (.iastore, 1) := dk_79 (dk_at dksX4_ofLotNow_2 17 rfl rfl)
theorem dX4_ofLotNow_66 : decode cX4_ofLotNow 66 = .ok (.dup, 1) := dk_89 (dk_at dksX4_ofLotNow_2 18 rfl rfl)
theorem dX4_ofLotNow_67 : decode cX4_ofLotNow 67 = .ok (.bipush 6, 2) := dk_16 6 (dk_at dksX4_ofLotNow_2 19 rfl rfl)
theorem dX4_ofLotNow_69 : decode cX4_ofLotNow 69 = .ok (.aload_n 3, 1) := dk_45 (dk_at dksX4_ofLotNow_2 21 rfl rfl)
theorem dX4_ofLotNow_70 : decode cX4_ofLotNow 70 = .ok (.getfield 208, 3) := dk_180 0 208 (dk_at dksX4_ofLotNow_3 0 rfl rfl)
theorem dX4_ofLotNow_73 : decode cX4_ofLotNow 73 = .ok (.iconst 1, 1) := dk_4 (dk_at dksX4_ofLotNow_3 3 rfl rfl)
theorem dX4_ofLotNow_74 : decode cX4_ofLotNow 74 = .ok (.iaload, 1) := dk_46 (dk_at dksX4_ofLotNow_3 4 rfl rfl)
theorem dX4_ofLotNow_75 : decode cX4_ofLotNow 75 = .ok (.iastore, 1) := dk_79 (dk_at dksX4_ofLotNow_3 5 rfl rfl)
theorem dX4_ofLotNow_76 : decode cX4_ofLotNow 76 = .ok (.dup, 1) := dk_89 (dk_at dksX4_ofLotNow_3 6 rfl rfl)
theorem dX4_ofLotNow_77 : decode cX4_ofLotNow 77 = .ok (.bipush 7, 2) := dk_16 7 (dk_at dksX4_ofLotNow_3 7 rfl rfl)
theorem dX4_ofLotNow_79 : decode cX4_ofLotNow 79 = .ok (.aload_n 3, 1) := dk_45 (dk_at dksX4_ofLotNow_3 9 rfl rfl)
theorem dX4_ofLotNow_80 : decode cX4_ofLotNow 80 = .ok (.getfield 208, 3) := dk_180 0 208 (dk_at dksX4_ofLotNow_3 10 rfl rfl)
theorem dX4_ofLotNow_83 : decode cX4_ofLotNow 83 = .ok (.iconst 2, 1) := dk_5 (dk_at dksX4_ofLotNow_3 13 rfl rfl)
theorem dX4_ofLotNow_84 : decode cX4_ofLotNow 84 = .ok (.iaload, 1) := dk_46 (dk_at dksX4_ofLotNow_3 14 rfl rfl)
theorem dX4_ofLotNow_85 : decode cX4_ofLotNow 85 = .ok (.iastore, 1) := dk_79 (dk_at dksX4_ofLotNow_3 15 rfl rfl)
theorem dX4_ofLotNow_86 : decode cX4_ofLotNow 86 = .ok (.dup, 1) := dk_89 (dk_at dksX4_ofLotNow_3 16 rfl rfl)
theorem dX4_ofLotNow_87 : decode cX4_ofLotNow 87 = .ok (.bipush 8, 2) := dk_16 8 (dk_at dksX4_ofLotNow_3 17 rfl rfl)
theorem dX4_ofLotNow_89 : decode cX4_ofLotNow 89 = .ok (.aload_n 3, 1) := dk_45 (dk_at dksX4_ofLotNow_3 19 rfl rfl)
theorem dX4_ofLotNow_90 : decode cX4_ofLotNow 90 = .ok (.getfield 277, 3) := dk_180 1 21 (dk_at dksX4_ofLotNow_3 20 rfl rfl)
theorem dX4_ofLotNow_93 : decode cX4_ofLotNow 93 = .ok (.iastore, 1) := dk_79 (dk_at dksX4_ofLotNow_3 23 rfl rfl)
theorem dX4_ofLotNow_94 : decode cX4_ofLotNow 94 = .ok (.astore 4, 2) := dk_58 4 (dk_at dksX4_ofLotNow_4 0 rfl rfl)
theorem dX4_ofLotNow_96 : decode cX4_ofLotNow 96 = .ok (.aload 4, 2) := dk_25 4 (dk_at dksX4_ofLotNow_4 2 rfl rfl)
theorem dX4_ofLotNow_98 : decode cX4_ofLotNow 98 = .ok (.iload_n 2, 1) := dk_28 (dk_at dksX4_ofLotNow_4 4 rfl rfl)
theorem dX4_ofLotNow_99 : decode cX4_ofLotNow 99 = .ok (.iaload, 1) := dk_46 (dk_at dksX4_ofLotNow_4 5 rfl rfl)
theorem dX4_ofLotNow_100 : decode cX4_ofLotNow 100 = .ok (.ireturn, 1) := dk_172 (dk_at dksX4_ofLotNow_4 6 rfl rfl)
abbrev cX4_inBasin : ByteArray := prog_9_method_42_code
def yX4_inBasin : MethodName := ⟨RX4, "inBasin", "(II)I"⟩
def dkwX4_inBasin_1 : List UInt8 := [182, 0, 60, 153, 0, 7, 3, 167, 0, 9, 42, 27, 28, 182, 1, 34, 172]
abbrev dktX4_inBasin_1 : List UInt8 := dkwX4_inBasin_1 ++ []
def dkwX4_inBasin_0 : List UInt8 := [42, 27, 184, 0, 228, 4, 182, 0, 72, 154, 0, 20, 42, 28, 156, 0, 7, 4, 167, 0, 4, 3, 5]
abbrev dktX4_inBasin_0 : List UInt8 := dkwX4_inBasin_0 ++ dktX4_inBasin_1
theorem dksX4_inBasin_0 : cX4_inBasin.data.toList.drop 0 = dktX4_inBasin_0 := by decide +kernel
theorem dksX4_inBasin_1 : cX4_inBasin.data.toList.drop 23 = dktX4_inBasin_1 := dk_seg dksX4_inBasin_0 23 rfl rfl
theorem dX4_inBasin_0 : decode cX4_inBasin 0 = .ok (.aload_n 0, 1) := dk_42 (dk_at dksX4_inBasin_0 0 rfl rfl)
theorem dX4_inBasin_1 : decode cX4_inBasin 1 = .ok (.iload_n 1, 1) := dk_27 (dk_at dksX4_inBasin_0 1 rfl rfl)
theorem dX4_inBasin_2 : decode cX4_inBasin 2 = .ok (.invokestatic 228, 3) := dk_184 0 228 (dk_at dksX4_inBasin_0 2 rfl rfl)
theorem dX4_inBasin_5 : decode cX4_inBasin 5 = .ok (.iconst 1, 1) := dk_4 (dk_at dksX4_inBasin_0 5 rfl rfl)
theorem dX4_inBasin_6 : decode cX4_inBasin 6 = .ok (.invokevirtual 72, 3) := dk_182 0 72 (dk_at dksX4_inBasin_0 6 rfl rfl)
theorem dX4_inBasin_9 : decode cX4_inBasin 9 = .ok (.ifCond .ne 20, 3) := dk_154 0 20 (dk_at dksX4_inBasin_0 9 rfl rfl)
theorem dX4_inBasin_12 : decode cX4_inBasin 12 = .ok (.aload_n 0, 1) := dk_42 (dk_at dksX4_inBasin_0 12 rfl rfl)
theorem dX4_inBasin_13 : decode cX4_inBasin 13 = .ok (.iload_n 2, 1) := dk_28 (dk_at dksX4_inBasin_0 13 rfl rfl)
theorem dX4_inBasin_14 : decode cX4_inBasin 14 = .ok (.ifCond .ge 7, 3) := dk_156 0 7 (dk_at dksX4_inBasin_0 14 rfl rfl)
theorem dX4_inBasin_17 : decode cX4_inBasin 17 = .ok (.iconst 1, 1) := dk_4 (dk_at dksX4_inBasin_0 17 rfl rfl)
theorem dX4_inBasin_18 : decode cX4_inBasin 18 = .ok (.goto 4, 3) := dk_167 0 4 (dk_at dksX4_inBasin_0 18 rfl rfl)
theorem dX4_inBasin_21 : decode cX4_inBasin 21 = .ok (.iconst 0, 1) := dk_3 (dk_at dksX4_inBasin_0 21 rfl rfl)
theorem dX4_inBasin_22 : decode cX4_inBasin 22 = .ok (.iconst 2, 1) := dk_5 (dk_at dksX4_inBasin_0 22 rfl rfl)
theorem dX4_inBasin_23 : decode cX4_inBasin 23 = .ok (.invokevirtual 60, 3) := dk_182 0 60 (dk_at dksX4_inBasin_1 0 rfl rfl)
theorem dX4_inBasin_26 : decode cX4_inBasin 26 = .ok (.ifCond .eq 7, 3) := dk_153 0 7 (dk_at dksX4_inBasin_1 3 rfl rfl)
theorem dX4_inBasin_29 : decode cX4_inBasin 29 = .ok (.iconst 0, 1) := dk_3 (dk_at dksX4_inBasin_1 6 rfl rfl)
theorem dX4_inBasin_30 : decode cX4_inBasin 30 = .ok (.goto 9, 3) := dk_167 0 9 (dk_at dksX4_inBasin_1 7 rfl rfl)
theorem dX4_inBasin_33 : decode cX4_inBasin 33 = .ok (.aload_n 0, 1) := dk_42 (dk_at dksX4_inBasin_1 10 rfl rfl)
theorem dX4_inBasin_34 : decode cX4_inBasin 34 = .ok (.iload_n 1, 1) := dk_27 (dk_at dksX4_inBasin_1 11 rfl rfl)
theorem dX4_inBasin_35 : decode cX4_inBasin 35 = .ok (.iload_n 2, 1) := dk_28 (dk_at dksX4_inBasin_1 12 rfl rfl)
theorem dX4_inBasin_36 : decode cX4_inBasin 36 = .ok (.invokevirtual 290, 3) := dk_182 1 34 (dk_at dksX4_inBasin_1 13 rfl rfl)
theorem dX4_inBasin_39 : decode cX4_inBasin 39 = .ok (.ireturn, 1) := dk_172 (dk_at dksX4_inBasin_1 16 rfl rfl)
abbrev cX4_inBasinNow : ByteArray := prog_9_method_41_code
def yX4_inBasinNow : MethodName := ⟨RX4, "inBasinNow", "(II)I"⟩
def dkwX4_inBasinNow_1 : List UInt8 := [180, 1, 27, 28, 182, 0, 147, 192, 1, 30, 184, 1, 31, 167, 0, 4, 2, 172]
abbrev dktX4_inBasinNow_1 : List UInt8 := dkwX4_inBasinNow_1 ++ []
def dkwX4_inBasinNow_0 : List UInt8 := [28, 42, 180, 0, 44, 27, 50, 180, 1, 27, 182, 0, 64, 162, 0, 25, 42, 180, 0, 44, 27, 50]
abbrev dktX4_inBasinNow_0 : List UInt8 := dkwX4_inBasinNow_0 ++ dktX4_inBasinNow_1
theorem dksX4_inBasinNow_0 : cX4_inBasinNow.data.toList.drop 0 = dktX4_inBasinNow_0 := by decide +kernel
theorem dksX4_inBasinNow_1 : cX4_inBasinNow.data.toList.drop 22 = dktX4_inBasinNow_1 := dk_seg dksX4_inBasinNow_0 22 rfl rfl
theorem dX4_inBasinNow_0 : decode cX4_inBasinNow 0 = .ok (.iload_n 2, 1) := dk_28 (dk_at dksX4_inBasinNow_0 0 rfl rfl)
theorem dX4_inBasinNow_1 : decode cX4_inBasinNow 1 = .ok (.aload_n 0, 1) := dk_42 (dk_at dksX4_inBasinNow_0 1 rfl rfl)
theorem dX4_inBasinNow_2 : decode cX4_inBasinNow 2 = .ok (.getfield 44, 3) := dk_180 0 44 (dk_at dksX4_inBasinNow_0 2 rfl rfl)
theorem dX4_inBasinNow_5 : decode cX4_inBasinNow 5 = .ok (.iload_n 1, 1) := dk_27 (dk_at dksX4_inBasinNow_0 5 rfl rfl)
theorem dX4_inBasinNow_6 : decode cX4_inBasinNow 6 = .ok (.aaload, 1) := dk_50 (dk_at dksX4_inBasinNow_0 6 rfl rfl)
theorem dX4_inBasinNow_7 : decode cX4_inBasinNow 7 = .ok (.getfield 283, 3) := dk_180 1 27 (dk_at dksX4_inBasinNow_0 7 rfl rfl)
theorem dX4_inBasinNow_10 : decode cX4_inBasinNow 10 = .ok (.invokevirtual 64, 3) := dk_182 0 64 (dk_at dksX4_inBasinNow_0 10 rfl rfl)
theorem dX4_inBasinNow_13 : decode cX4_inBasinNow 13 = .ok (.if_icmp .ge 25, 3) := dk_162 0 25 (dk_at dksX4_inBasinNow_0 13 rfl rfl)
theorem dX4_inBasinNow_16 : decode cX4_inBasinNow 16 = .ok (.aload_n 0, 1) := dk_42 (dk_at dksX4_inBasinNow_0 16 rfl rfl)
theorem dX4_inBasinNow_17 : decode cX4_inBasinNow 17 = .ok (.getfield 44, 3) := dk_180 0 44 (dk_at dksX4_inBasinNow_0 17 rfl rfl)
theorem dX4_inBasinNow_20 : decode cX4_inBasinNow 20 = .ok (.iload_n 1, 1) := dk_27 (dk_at dksX4_inBasinNow_0 20 rfl rfl)
theorem dX4_inBasinNow_21 : decode cX4_inBasinNow 21 = .ok (.aaload, 1) := dk_50 (dk_at dksX4_inBasinNow_0 21 rfl rfl)
theorem dX4_inBasinNow_22 : decode cX4_inBasinNow 22 = .ok (.getfield 283, 3) := dk_180 1 27 (dk_at dksX4_inBasinNow_1 0 rfl rfl)
theorem dX4_inBasinNow_25 : decode cX4_inBasinNow 25 = .ok (.iload_n 2, 1) := dk_28 (dk_at dksX4_inBasinNow_1 3 rfl rfl)
theorem dX4_inBasinNow_26 : decode cX4_inBasinNow 26 = .ok (.invokevirtual 147, 3) := dk_182 0 147 (dk_at dksX4_inBasinNow_1 4 rfl rfl)
theorem dX4_inBasinNow_29 : decode cX4_inBasinNow 29 = .ok (.checkcast 286, 3) := dk_192 1 30 (dk_at dksX4_inBasinNow_1 7 rfl rfl)
theorem dX4_inBasinNow_32 : decode cX4_inBasinNow 32 = .ok (.invokestatic 287, 3) := dk_184 1 31 (dk_at dksX4_inBasinNow_1 10 rfl rfl)
theorem dX4_inBasinNow_35 : decode cX4_inBasinNow 35 = .ok (.goto 4, 3) := dk_167 0 4 (dk_at dksX4_inBasinNow_1 13 rfl rfl)
theorem dX4_inBasinNow_38 : decode cX4_inBasinNow 38 = .ok (.iconst (-1), 1) := dk_2 (dk_at dksX4_inBasinNow_1 16 rfl rfl)
theorem dX4_inBasinNow_39 : decode cX4_inBasinNow 39 = .ok (.ireturn, 1) := dk_172 (dk_at dksX4_inBasinNow_1 17 rfl rfl)
abbrev cX4_ofSkein : ByteArray := prog_9_method_44_code
def yX4_ofSkein : MethodName := ⟨RX4, "ofSkein", "(II)I"⟩
def dkwX4_ofSkein_1 : List UInt8 := [4, 167, 0, 4, 3, 5, 182, 0, 60, 153, 0, 7, 3, 167, 0, 9, 42, 27, 28, 182, 1, 49, 172]
abbrev dktX4_ofSkein_1 : List UInt8 := dkwX4_ofSkein_1 ++ []
def dkwX4_ofSkein_0 : List UInt8 := [42, 42, 27, 182, 0, 240, 4, 182, 0, 72, 154, 0, 26, 42, 28, 3, 16, 9, 184, 0, 68, 154, 0, 7]
abbrev dktX4_ofSkein_0 : List UInt8 := dkwX4_ofSkein_0 ++ dktX4_ofSkein_1
theorem dksX4_ofSkein_0 : cX4_ofSkein.data.toList.drop 0 = dktX4_ofSkein_0 := by decide +kernel
theorem dksX4_ofSkein_1 : cX4_ofSkein.data.toList.drop 24 = dktX4_ofSkein_1 := dk_seg dksX4_ofSkein_0 24 rfl rfl
theorem dX4_ofSkein_0 : decode cX4_ofSkein 0 = .ok (.aload_n 0, 1) := dk_42 (dk_at dksX4_ofSkein_0 0 rfl rfl)
theorem dX4_ofSkein_1 : decode cX4_ofSkein 1 = .ok (.aload_n 0, 1) := dk_42 (dk_at dksX4_ofSkein_0 1 rfl rfl)
theorem dX4_ofSkein_2 : decode cX4_ofSkein 2 = .ok (.iload_n 1, 1) := dk_27 (dk_at dksX4_ofSkein_0 2 rfl rfl)
theorem dX4_ofSkein_3 : decode cX4_ofSkein 3 = .ok (.invokevirtual 240, 3) := dk_182 0 240 (dk_at dksX4_ofSkein_0 3 rfl rfl)
theorem dX4_ofSkein_6 : decode cX4_ofSkein 6 = .ok (.iconst 1, 1) := dk_4 (dk_at dksX4_ofSkein_0 6 rfl rfl)
theorem dX4_ofSkein_7 : decode cX4_ofSkein 7 = .ok (.invokevirtual 72, 3) := dk_182 0 72 (dk_at dksX4_ofSkein_0 7 rfl rfl)
theorem dX4_ofSkein_10 : decode cX4_ofSkein 10 = .ok (.ifCond .ne 26, 3) := dk_154 0 26 (dk_at dksX4_ofSkein_0 10 rfl rfl)
theorem dX4_ofSkein_13 : decode cX4_ofSkein 13 = .ok (.aload_n 0, 1) := dk_42 (dk_at dksX4_ofSkein_0 13 rfl rfl)
theorem dX4_ofSkein_14 : decode cX4_ofSkein 14 = .ok (.iload_n 2, 1) := dk_28 (dk_at dksX4_ofSkein_0 14 rfl rfl)
theorem dX4_ofSkein_15 : decode cX4_ofSkein 15 = .ok (.iconst 0, 1) := dk_3 (dk_at dksX4_ofSkein_0 15 rfl rfl)
theorem dX4_ofSkein_16 : decode cX4_ofSkein 16 = .ok (.bipush 9, 2) := dk_16 9 (dk_at dksX4_ofSkein_0 16 rfl rfl)
theorem dX4_ofSkein_18 : decode cX4_ofSkein 18 = .ok (.invokestatic 68, 3) := dk_184 0 68 (dk_at dksX4_ofSkein_0 18 rfl rfl)
theorem dX4_ofSkein_21 : decode cX4_ofSkein 21 = .ok (.ifCond .ne 7, 3) := dk_154 0 7 (dk_at dksX4_ofSkein_0 21 rfl rfl)
theorem dX4_ofSkein_24 : decode cX4_ofSkein 24 = .ok (.iconst 1, 1) := dk_4 (dk_at dksX4_ofSkein_1 0 rfl rfl)
theorem dX4_ofSkein_25 : decode cX4_ofSkein 25 = .ok (.goto 4, 3) := dk_167 0 4 (dk_at dksX4_ofSkein_1 1 rfl rfl)
theorem dX4_ofSkein_28 : decode cX4_ofSkein 28 = .ok (.iconst 0, 1) := dk_3 (dk_at dksX4_ofSkein_1 4 rfl rfl)
theorem dX4_ofSkein_29 : decode cX4_ofSkein 29 = .ok (.iconst 2, 1) := dk_5 (dk_at dksX4_ofSkein_1 5 rfl rfl)
theorem dX4_ofSkein_30 : decode cX4_ofSkein 30 = .ok (.invokevirtual 60, 3) := dk_182 0 60 (dk_at dksX4_ofSkein_1 6 rfl rfl)
theorem dX4_ofSkein_33 : decode cX4_ofSkein 33 = .ok (.ifCond .eq 7, 3) := dk_153 0 7 (dk_at dksX4_ofSkein_1 9 rfl rfl)
theorem dX4_ofSkein_36 : decode cX4_ofSkein 36 = .ok (.iconst 0, 1) := dk_3 (dk_at dksX4_ofSkein_1 12 rfl rfl)
theorem dX4_ofSkein_37 : decode cX4_ofSkein 37 = .ok (.goto 9, 3) := dk_167 0 9 (dk_at dksX4_ofSkein_1 13 rfl rfl)
theorem dX4_ofSkein_40 : decode cX4_ofSkein 40 = .ok (.aload_n 0, 1) := dk_42 (dk_at dksX4_ofSkein_1 16 rfl rfl)
theorem dX4_ofSkein_41 : decode cX4_ofSkein 41 = .ok (.iload_n 1, 1) := dk_27 (dk_at dksX4_ofSkein_1 17 rfl rfl)
theorem dX4_ofSkein_42 : decode cX4_ofSkein 42 = .ok (.iload_n 2, 1) := dk_28 (dk_at dksX4_ofSkein_1 18 rfl rfl)
theorem dX4_ofSkein_43 : decode cX4_ofSkein 43 = .ok (.invokevirtual 305, 3) := dk_182 1 49 (dk_at dksX4_ofSkein_1 19 rfl rfl)
theorem dX4_ofSkein_46 : decode cX4_ofSkein 46 = .ok (.ireturn, 1) := dk_172 (dk_at dksX4_ofSkein_1 22 rfl rfl)
abbrev cX4_ofSkeinNow : ByteArray := prog_9_method_43_code
def yX4_ofSkeinNow : MethodName := ⟨RX4, "ofSkeinNow", "(II)I"⟩
def dkwX4_ofSkeinNow_3 : List UInt8 := [162, 0, 10, 25, 4, 28, 46, 167, 0, 12, 45, 180, 1, 46, 28, 16, 6, 100, 46, 172]
abbrev dktX4_ofSkeinNow_3 : List UInt8 := dkwX4_ofSkeinNow_3 ++ []
def dkwX4_ofSkeinNow_2 : List UInt8 := [182, 0, 246, 79, 89, 8, 45, 180, 0, 243, 153, 0, 7, 4, 167, 0, 4, 3, 79, 58, 4, 28, 16, 6]
abbrev dktX4_ofSkeinNow_2 : List UInt8 := dkwX4_ofSkeinNow_2 ++ dktX4_ofSkeinNow_3
def dkwX4_ofSkeinNow_1 : List UInt8 := [4, 45, 180, 1, 37, 79, 89, 5, 45, 180, 1, 40, 79, 89, 6, 45, 180, 1, 43, 79, 89, 7, 45]
abbrev dktX4_ofSkeinNow_1 : List UInt8 := dkwX4_ofSkeinNow_1 ++ dktX4_ofSkeinNow_2
def dkwX4_ofSkeinNow_0 : List UInt8 := [42, 180, 0, 48, 27, 182, 0, 147, 192, 0, 236, 78, 16, 6, 188, 10, 89, 3, 45, 180, 0, 235, 79, 89]
abbrev dktX4_ofSkeinNow_0 : List UInt8 := dkwX4_ofSkeinNow_0 ++ dktX4_ofSkeinNow_1
theorem dksX4_ofSkeinNow_0 : cX4_ofSkeinNow.data.toList.drop 0 = dktX4_ofSkeinNow_0 := by decide +kernel
theorem dksX4_ofSkeinNow_1 : cX4_ofSkeinNow.data.toList.drop 24 = dktX4_ofSkeinNow_1 := dk_seg dksX4_ofSkeinNow_0 24 rfl rfl
theorem dksX4_ofSkeinNow_2 : cX4_ofSkeinNow.data.toList.drop 47 = dktX4_ofSkeinNow_2 := dk_seg dksX4_ofSkeinNow_1 23 rfl rfl
theorem dksX4_ofSkeinNow_3 : cX4_ofSkeinNow.data.toList.drop 71 = dktX4_ofSkeinNow_3 := dk_seg dksX4_ofSkeinNow_2 24 rfl rfl
theorem dX4_ofSkeinNow_0 : decode cX4_ofSkeinNow 0 = .ok (.aload_n 0, 1) := dk_42 (dk_at dksX4_ofSkeinNow_0 0 rfl rfl)
theorem dX4_ofSkeinNow_1 : decode cX4_ofSkeinNow 1 = .ok (.getfield 48, 3) := dk_180 0 48 (dk_at dksX4_ofSkeinNow_0 1 rfl rfl)
theorem dX4_ofSkeinNow_4 : decode cX4_ofSkeinNow 4 = .ok (.iload_n 1, 1) := dk_27 (dk_at dksX4_ofSkeinNow_0 4 rfl rfl)
theorem dX4_ofSkeinNow_5 : decode cX4_ofSkeinNow 5 = .ok (.invokevirtual 147, 3) := dk_182 0 147 (dk_at dksX4_ofSkeinNow_0 5 rfl rfl)
theorem dX4_ofSkeinNow_8 : decode cX4_ofSkeinNow 8 = .ok (.checkcast 236, 3) := dk_192 0 236 (dk_at dksX4_ofSkeinNow_0 8 rfl rfl)
theorem dX4_ofSkeinNow_11 : decode cX4_ofSkeinNow 11 = .ok (.astore_n 3, 1) := dk_78 (dk_at dksX4_ofSkeinNow_0 11 rfl rfl)
theorem dX4_ofSkeinNow_12 : decode cX4_ofSkeinNow 12 = .ok (.bipush 6, 2) := dk_16 6 (dk_at dksX4_ofSkeinNow_0 12 rfl rfl)
theorem dX4_ofSkeinNow_14 : decode cX4_ofSkeinNow 14 = .ok (.newarray .int, 2) := dk_188_10 (dk_at dksX4_ofSkeinNow_0 14 rfl rfl)
theorem dX4_ofSkeinNow_16 : decode cX4_ofSkeinNow 16 = .ok (.dup, 1) := dk_89 (dk_at dksX4_ofSkeinNow_0 16 rfl rfl)
theorem dX4_ofSkeinNow_17 : decode cX4_ofSkeinNow 17 = .ok (.iconst 0, 1) := dk_3 (dk_at dksX4_ofSkeinNow_0 17 rfl rfl)
theorem dX4_ofSkeinNow_18 : decode cX4_ofSkeinNow 18 = .ok (.aload_n 3, 1) := dk_45 (dk_at dksX4_ofSkeinNow_0 18 rfl rfl)
theorem dX4_ofSkeinNow_19 : decode cX4_ofSkeinNow 19 = .ok (.getfield 235, 3) := dk_180 0 235 (dk_at dksX4_ofSkeinNow_0 19 rfl rfl)
theorem dX4_ofSkeinNow_22 : decode cX4_ofSkeinNow 22 = .ok (.iastore, 1) := dk_79 (dk_at dksX4_ofSkeinNow_0 22 rfl rfl)
theorem dX4_ofSkeinNow_23 : decode cX4_ofSkeinNow 23 = .ok (.dup, 1) := dk_89 (dk_at dksX4_ofSkeinNow_0 23 rfl rfl)
theorem dX4_ofSkeinNow_24 : decode cX4_ofSkeinNow 24 = .ok (.iconst 1, 1) := dk_4 (dk_at dksX4_ofSkeinNow_1 0 rfl rfl)
theorem dX4_ofSkeinNow_25 : decode cX4_ofSkeinNow 25 = .ok (.aload_n 3, 1) := dk_45 (dk_at dksX4_ofSkeinNow_1 1 rfl rfl)
theorem dX4_ofSkeinNow_26 : decode cX4_ofSkeinNow 26 = .ok (.getfield 293, 3) := dk_180 1 37 (dk_at dksX4_ofSkeinNow_1 2 rfl rfl)
theorem dX4_ofSkeinNow_29 : decode cX4_ofSkeinNow 29 = .ok (.iastore, 1) := dk_79 (dk_at dksX4_ofSkeinNow_1 5 rfl rfl)
theorem dX4_ofSkeinNow_30 : decode cX4_ofSkeinNow 30 = .ok (.dup, 1) := dk_89 (dk_at dksX4_ofSkeinNow_1 6 rfl rfl)
theorem dX4_ofSkeinNow_31 : decode cX4_ofSkeinNow 31 = .ok (.iconst 2, 1) := dk_5 (dk_at dksX4_ofSkeinNow_1 7 rfl rfl)
theorem dX4_ofSkeinNow_32 : decode cX4_ofSkeinNow 32 = .ok (.aload_n 3, 1) := dk_45 (dk_at dksX4_ofSkeinNow_1 8 rfl rfl)
theorem dX4_ofSkeinNow_33 : decode cX4_ofSkeinNow 33 = .ok (.getfield 296, 3) := dk_180 1 40 (dk_at dksX4_ofSkeinNow_1 9 rfl rfl)
theorem dX4_ofSkeinNow_36 : decode cX4_ofSkeinNow 36 = .ok (.iastore, 1) := dk_79 (dk_at dksX4_ofSkeinNow_1 12 rfl rfl)
theorem dX4_ofSkeinNow_37 : decode cX4_ofSkeinNow 37 = .ok (.dup, 1) := dk_89 (dk_at dksX4_ofSkeinNow_1 13 rfl rfl)
theorem dX4_ofSkeinNow_38 : decode cX4_ofSkeinNow 38 = .ok (.iconst 3, 1) := dk_6 (dk_at dksX4_ofSkeinNow_1 14 rfl rfl)
theorem dX4_ofSkeinNow_39 : decode cX4_ofSkeinNow 39 = .ok (.aload_n 3, 1) := dk_45 (dk_at dksX4_ofSkeinNow_1 15 rfl rfl)
theorem dX4_ofSkeinNow_40 : decode cX4_ofSkeinNow 40 = .ok (.getfield 299, 3) := dk_180 1 43 (dk_at dksX4_ofSkeinNow_1 16 rfl rfl)
theorem dX4_ofSkeinNow_43 : decode cX4_ofSkeinNow 43 = .ok (.iastore, 1) := dk_79 (dk_at dksX4_ofSkeinNow_1 19 rfl rfl)
theorem dX4_ofSkeinNow_44 : decode cX4_ofSkeinNow 44 = .ok (.dup, 1) := dk_89 (dk_at dksX4_ofSkeinNow_1 20 rfl rfl)
theorem dX4_ofSkeinNow_45 : decode cX4_ofSkeinNow 45 = .ok (.iconst 4, 1) := dk_7 (dk_at dksX4_ofSkeinNow_1 21 rfl rfl)
theorem dX4_ofSkeinNow_46 : decode cX4_ofSkeinNow 46 = .ok (.aload_n 3, 1) := dk_45 (dk_at dksX4_ofSkeinNow_1 22 rfl rfl)
theorem dX4_ofSkeinNow_47 : decode cX4_ofSkeinNow 47 = .ok (.invokevirtual 246, 3) := dk_182 0 246 (dk_at dksX4_ofSkeinNow_2 0 rfl rfl)
theorem dX4_ofSkeinNow_50 : decode cX4_ofSkeinNow 50 = .ok (.iastore, 1) := dk_79 (dk_at dksX4_ofSkeinNow_2 3 rfl rfl)
theorem dX4_ofSkeinNow_51 : decode cX4_ofSkeinNow 51 = .ok (.dup, 1) := dk_89 (dk_at dksX4_ofSkeinNow_2 4 rfl rfl)
theorem dX4_ofSkeinNow_52 : decode cX4_ofSkeinNow 52 = .ok (.iconst 5, 1) := dk_8 (dk_at dksX4_ofSkeinNow_2 5 rfl rfl)
theorem dX4_ofSkeinNow_53 : decode cX4_ofSkeinNow 53 = .ok (.aload_n 3, 1) := dk_45 (dk_at dksX4_ofSkeinNow_2 6 rfl rfl)
theorem dX4_ofSkeinNow_54 : decode cX4_ofSkeinNow 54 = .ok (.getfield 243, 3) := dk_180 0 243 (dk_at dksX4_ofSkeinNow_2 7 rfl rfl)
theorem dX4_ofSkeinNow_57 : decode cX4_ofSkeinNow 57 = .ok (.ifCond .eq 7, 3) := dk_153 0 7 (dk_at dksX4_ofSkeinNow_2 10 rfl rfl)
theorem dX4_ofSkeinNow_60 : decode cX4_ofSkeinNow 60 = .ok (.iconst 1, 1) := dk_4 (dk_at dksX4_ofSkeinNow_2 13 rfl rfl)
theorem dX4_ofSkeinNow_61 : decode cX4_ofSkeinNow 61 = .ok (.goto 4, 3) := dk_167 0 4 (dk_at dksX4_ofSkeinNow_2 14 rfl rfl)
theorem dX4_ofSkeinNow_64 : decode cX4_ofSkeinNow 64 = .ok (.iconst 0, 1) := dk_3 (dk_at dksX4_ofSkeinNow_2 17 rfl rfl)
theorem dX4_ofSkeinNow_65 : decode cX4_ofSkeinNow 65 = .ok (.iastore, 1) := dk_79 (dk_at dksX4_ofSkeinNow_2 18 rfl rfl)
theorem dX4_ofSkeinNow_66 : decode cX4_ofSkeinNow 66 = .ok (.astore 4, 2) := dk_58 4 (dk_at dksX4_ofSkeinNow_2 19 rfl rfl)
theorem dX4_ofSkeinNow_68 : decode cX4_ofSkeinNow 68 = .ok (.iload_n 2, 1) := dk_28 (dk_at dksX4_ofSkeinNow_2 21 rfl rfl)
theorem dX4_ofSkeinNow_69 : decode cX4_ofSkeinNow 69 = .ok (.bipush 6, 2) := dk_16 6 (dk_at dksX4_ofSkeinNow_2 22 rfl rfl)
theorem dX4_ofSkeinNow_71 : decode cX4_ofSkeinNow 71 = .ok (.if_icmp .ge 10, 3) := dk_162 0 10 (dk_at dksX4_ofSkeinNow_3 0 rfl rfl)
theorem dX4_ofSkeinNow_74 : decode cX4_ofSkeinNow 74 = .ok (.aload 4, 2) := dk_25 4 (dk_at dksX4_ofSkeinNow_3 3 rfl rfl)
theorem dX4_ofSkeinNow_76 : decode cX4_ofSkeinNow 76 = .ok (.iload_n 2, 1) := dk_28 (dk_at dksX4_ofSkeinNow_3 5 rfl rfl)
theorem dX4_ofSkeinNow_77 : decode cX4_ofSkeinNow 77 = .ok (.iaload, 1) := dk_46 (dk_at dksX4_ofSkeinNow_3 6 rfl rfl)
theorem dX4_ofSkeinNow_78 : decode cX4_ofSkeinNow 78 = .ok (.goto 12, 3) := dk_167 0 12 (dk_at dksX4_ofSkeinNow_3 7 rfl rfl)
theorem dX4_ofSkeinNow_81 : decode cX4_ofSkeinNow 81 = .ok (.aload_n 3, 1) := dk_45 (dk_at dksX4_ofSkeinNow_3 10 rfl rfl)
theorem dX4_ofSkeinNow_82 : decode cX4_ofSkeinNow 82 = .ok (.getfield 302, 3) := dk_180 1 46 (dk_at dksX4_ofSkeinNow_3 11 rfl rfl)
theorem dX4_ofSkeinNow_85 : decode cX4_ofSkeinNow 85 = .ok (.iload_n 2, 1) := dk_28 (dk_at dksX4_ofSkeinNow_3 14 rfl rfl)
theorem dX4_ofSkeinNow_86 : decode cX4_ofSkeinNow 86 = .ok (.bipush 6, 2) := dk_16 6 (dk_at dksX4_ofSkeinNow_3 15 rfl rfl)
theorem dX4_ofSkeinNow_88 : decode cX4_ofSkeinNow 88 = .ok (.isub, 1) := dk_100 (dk_at dksX4_ofSkeinNow_3 17 rfl rfl)
theorem dX4_ofSkeinNow_89 : decode cX4_ofSkeinNow 89 = .ok (.iaload, 1) := dk_46 (dk_at dksX4_ofSkeinNow_3 18 rfl rfl)
theorem dX4_ofSkeinNow_90 : decode cX4_ofSkeinNow 90 = .ok (.ireturn, 1) := dk_172 (dk_at dksX4_ofSkeinNow_3 19 rfl rfl)
abbrev cX4_many : ByteArray := prog_9_method_46_code
def yX4_many : MethodName := ⟨RX4, "many", "(I)I"⟩
def dkwX4_many_1 : List UInt8 := [167, 0, 8, 42, 27, 182, 1, 52, 172]
abbrev dktX4_many_1 : List UInt8 := dkwX4_many_1 ++ []
def dkwX4_many_0 : List UInt8 := [42, 27, 3, 16, 11, 184, 0, 68, 154, 0, 7, 4, 167, 0, 4, 3, 4, 182, 0, 72, 153, 0, 7, 3]
abbrev dktX4_many_0 : List UInt8 := dkwX4_many_0 ++ dktX4_many_1
theorem dksX4_many_0 : cX4_many.data.toList.drop 0 = dktX4_many_0 := by decide +kernel
theorem dksX4_many_1 : cX4_many.data.toList.drop 24 = dktX4_many_1 := dk_seg dksX4_many_0 24 rfl rfl
theorem dX4_many_0 : decode cX4_many 0 = .ok (.aload_n 0, 1) := dk_42 (dk_at dksX4_many_0 0 rfl rfl)
theorem dX4_many_1 : decode cX4_many 1 = .ok (.iload_n 1, 1) := dk_27 (dk_at dksX4_many_0 1 rfl rfl)
theorem dX4_many_2 : decode cX4_many 2 = .ok (.iconst 0, 1) := dk_3 (dk_at dksX4_many_0 2 rfl rfl)
theorem dX4_many_3 : decode cX4_many 3 = .ok (.bipush 11, 2) := dk_16 11 (dk_at dksX4_many_0 3 rfl rfl)
theorem dX4_many_5 : decode cX4_many 5 = .ok (.invokestatic 68, 3) := dk_184 0 68 (dk_at dksX4_many_0 5 rfl rfl)
theorem dX4_many_8 : decode cX4_many 8 = .ok (.ifCond .ne 7, 3) := dk_154 0 7 (dk_at dksX4_many_0 8 rfl rfl)
theorem dX4_many_11 : decode cX4_many 11 = .ok (.iconst 1, 1) := dk_4 (dk_at dksX4_many_0 11 rfl rfl)
theorem dX4_many_12 : decode cX4_many 12 = .ok (.goto 4, 3) := dk_167 0 4 (dk_at dksX4_many_0 12 rfl rfl)
theorem dX4_many_15 : decode cX4_many 15 = .ok (.iconst 0, 1) := dk_3 (dk_at dksX4_many_0 15 rfl rfl)
theorem dX4_many_16 : decode cX4_many 16 = .ok (.iconst 1, 1) := dk_4 (dk_at dksX4_many_0 16 rfl rfl)
theorem dX4_many_17 : decode cX4_many 17 = .ok (.invokevirtual 72, 3) := dk_182 0 72 (dk_at dksX4_many_0 17 rfl rfl)
theorem dX4_many_20 : decode cX4_many 20 = .ok (.ifCond .eq 7, 3) := dk_153 0 7 (dk_at dksX4_many_0 20 rfl rfl)
theorem dX4_many_23 : decode cX4_many 23 = .ok (.iconst 0, 1) := dk_3 (dk_at dksX4_many_0 23 rfl rfl)
theorem dX4_many_24 : decode cX4_many 24 = .ok (.goto 8, 3) := dk_167 0 8 (dk_at dksX4_many_1 0 rfl rfl)
theorem dX4_many_27 : decode cX4_many 27 = .ok (.aload_n 0, 1) := dk_42 (dk_at dksX4_many_1 3 rfl rfl)
theorem dX4_many_28 : decode cX4_many 28 = .ok (.iload_n 1, 1) := dk_27 (dk_at dksX4_many_1 4 rfl rfl)
theorem dX4_many_29 : decode cX4_many 29 = .ok (.invokevirtual 308, 3) := dk_182 1 52 (dk_at dksX4_many_1 5 rfl rfl)
theorem dX4_many_32 : decode cX4_many 32 = .ok (.ireturn, 1) := dk_172 (dk_at dksX4_many_1 8 rfl rfl)
abbrev cX4_manyNow : ByteArray := prog_9_method_45_code
def yX4_manyNow : MethodName := ⟨RX4, "manyNow", "(I)I"⟩
def dkwX4_manyNow_7 : List UInt8 := [89, 16, 11, 21, 4, 79, 58, 5, 25, 5, 27, 46, 172]
abbrev dktX4_manyNow_7 : List UInt8 := dkwX4_manyNow_7 ++ []
def dkwX4_manyNow_6 : List UInt8 := [42, 180, 0, 48, 182, 0, 64, 79, 89, 16, 9, 42, 180, 0, 51, 79, 89, 16, 10, 42, 180, 0, 134, 79]
abbrev dktX4_manyNow_6 : List UInt8 := dkwX4_manyNow_6 ++ dktX4_manyNow_7
def dkwX4_manyNow_5 : List UInt8 := [29, 79, 89, 16, 6, 42, 180, 0, 84, 79, 89, 16, 7, 42, 180, 0, 38, 182, 0, 64, 79, 89, 16, 8]
abbrev dktX4_manyNow_5 : List UInt8 := dkwX4_manyNow_5 ++ dktX4_manyNow_6
def dkwX4_manyNow_4 : List UInt8 := [180, 0, 94, 79, 89, 5, 42, 180, 0, 154, 79, 89, 6, 42, 180, 0, 157, 79, 89, 7, 28, 79, 89, 8]
abbrev dktX4_manyNow_4 : List UInt8 := dkwX4_manyNow_4 ++ dktX4_manyNow_5
def dkwX4_manyNow_3 : List UInt8 := [132, 7, 1, 167, 255, 205, 16, 12, 188, 10, 89, 3, 42, 180, 0, 22, 182, 0, 64, 79, 89, 4, 42]
abbrev dktX4_manyNow_3 : List UInt8 := dkwX4_manyNow_3 ++ dktX4_manyNow_4
def dkwX4_manyNow_2 : List UInt8 := [180, 0, 174, 96, 62, 21, 4, 25, 8, 180, 0, 115, 153, 0, 7, 4, 167, 0, 4, 3, 96, 54, 4]
abbrev dktX4_manyNow_2 : List UInt8 := dkwX4_manyNow_2 ++ dktX4_manyNow_3
def dkwX4_manyNow_1 : List UInt8 := [21, 6, 162, 0, 50, 25, 5, 21, 7, 50, 58, 8, 28, 25, 8, 180, 0, 112, 96, 61, 29, 25, 8]
abbrev dktX4_manyNow_1 : List UInt8 := dkwX4_manyNow_1 ++ dktX4_manyNow_2
def dkwX4_manyNow_0 : List UInt8 := [3, 61, 3, 62, 3, 54, 4, 42, 180, 0, 34, 58, 5, 25, 5, 190, 54, 6, 3, 54, 7, 21, 7]
abbrev dktX4_manyNow_0 : List UInt8 := dkwX4_manyNow_0 ++ dktX4_manyNow_1
theorem dksX4_manyNow_0 : cX4_manyNow.data.toList.drop 0 = dktX4_manyNow_0 := by decide +kernel
theorem dksX4_manyNow_1 : cX4_manyNow.data.toList.drop 23 = dktX4_manyNow_1 := dk_seg dksX4_manyNow_0 23 rfl rfl
theorem dksX4_manyNow_2 : cX4_manyNow.data.toList.drop 46 = dktX4_manyNow_2 := dk_seg dksX4_manyNow_1 23 rfl rfl
theorem dksX4_manyNow_3 : cX4_manyNow.data.toList.drop 69 = dktX4_manyNow_3 := dk_seg dksX4_manyNow_2 23 rfl rfl
theorem dksX4_manyNow_4 : cX4_manyNow.data.toList.drop 92 = dktX4_manyNow_4 := dk_seg dksX4_manyNow_3 23 rfl rfl
theorem dksX4_manyNow_5 : cX4_manyNow.data.toList.drop 116 = dktX4_manyNow_5 := dk_seg dksX4_manyNow_4 24 rfl rfl
theorem dksX4_manyNow_6 : cX4_manyNow.data.toList.drop 140 = dktX4_manyNow_6 := dk_seg dksX4_manyNow_5 24 rfl rfl
theorem dksX4_manyNow_7 : cX4_manyNow.data.toList.drop 164 = dktX4_manyNow_7 := dk_seg dksX4_manyNow_6 24 rfl rfl
theorem dX4_manyNow_0 : decode cX4_manyNow 0 = .ok (.iconst 0, 1) := dk_3 (dk_at dksX4_manyNow_0 0 rfl rfl)
theorem dX4_manyNow_1 : decode cX4_manyNow 1 = .ok (.istore_n 2, 1) := dk_61 (dk_at dksX4_manyNow_0 1 rfl rfl)
theorem dX4_manyNow_2 : decode cX4_manyNow 2 = .ok (.iconst 0, 1) := dk_3 (dk_at dksX4_manyNow_0 2 rfl rfl)
theorem dX4_manyNow_3 : decode cX4_manyNow 3 = .ok (.istore_n 3, 1) := dk_62 (dk_at dksX4_manyNow_0 3 rfl rfl)
theorem dX4_manyNow_4 : decode cX4_manyNow 4 = .ok (.iconst 0, 1) := dk_3 (dk_at dksX4_manyNow_0 4 rfl rfl)
theorem dX4_manyNow_5 : decode cX4_manyNow 5 = .ok (.istore 4, 2) := dk_54 4 (dk_at dksX4_manyNow_0 5 rfl rfl)
theorem dX4_manyNow_7 : decode cX4_manyNow 7 = .ok (.aload_n 0, 1) := dk_42 (dk_at dksX4_manyNow_0 7 rfl rfl)
theorem dX4_manyNow_8 : decode cX4_manyNow 8 = .ok (.getfield 34, 3) := dk_180 0 34 (dk_at dksX4_manyNow_0 8 rfl rfl)
theorem dX4_manyNow_11 : decode cX4_manyNow 11 = .ok (.astore 5, 2) := dk_58 5 (dk_at dksX4_manyNow_0 11 rfl rfl)
theorem dX4_manyNow_13 : decode cX4_manyNow 13 = .ok (.aload 5, 2) := dk_25 5 (dk_at dksX4_manyNow_0 13 rfl rfl)
theorem dX4_manyNow_15 : decode cX4_manyNow 15 = .ok (.arraylength, 1) := dk_190 (dk_at dksX4_manyNow_0 15 rfl rfl)
theorem dX4_manyNow_16 : decode cX4_manyNow 16 = .ok (.istore 6, 2) := dk_54 6 (dk_at dksX4_manyNow_0 16 rfl rfl)
theorem dX4_manyNow_18 : decode cX4_manyNow 18 = .ok (.iconst 0, 1) := dk_3 (dk_at dksX4_manyNow_0 18 rfl rfl)
theorem dX4_manyNow_19 : decode cX4_manyNow 19 = .ok (.istore 7, 2) := dk_54 7 (dk_at dksX4_manyNow_0 19 rfl rfl)
theorem dX4_manyNow_21 : decode cX4_manyNow 21 = .ok (.iload 7, 2) := dk_21 7 (dk_at dksX4_manyNow_0 21 rfl rfl)
theorem dX4_manyNow_23 : decode cX4_manyNow 23 = .ok (.iload 6, 2) := dk_21 6 (dk_at dksX4_manyNow_1 0 rfl rfl)
theorem dX4_manyNow_25 : decode cX4_manyNow 25 = .ok (.if_icmp .ge 50, 3) := dk_162 0 50 (dk_at dksX4_manyNow_1 2 rfl rfl)
theorem dX4_manyNow_28 : decode cX4_manyNow 28 = .ok (.aload 5, 2) := dk_25 5 (dk_at dksX4_manyNow_1 5 rfl rfl)
theorem dX4_manyNow_30 : decode cX4_manyNow 30 = .ok (.iload 7, 2) := dk_21 7 (dk_at dksX4_manyNow_1 7 rfl rfl)
theorem dX4_manyNow_32 : decode cX4_manyNow 32 = .ok (.aaload, 1) := dk_50 (dk_at dksX4_manyNow_1 9 rfl rfl)
theorem dX4_manyNow_33 : decode cX4_manyNow 33 = .ok (.astore 8, 2) := dk_58 8 (dk_at dksX4_manyNow_1 10 rfl rfl)
theorem dX4_manyNow_35 : decode cX4_manyNow 35 = .ok (.iload_n 2, 1) := dk_28 (dk_at dksX4_manyNow_1 12 rfl rfl)
theorem dX4_manyNow_36 : decode cX4_manyNow 36 = .ok (.aload 8, 2) := dk_25 8 (dk_at dksX4_manyNow_1 13 rfl rfl)
theorem dX4_manyNow_38 : decode cX4_manyNow 38 = .ok (.getfield 112, 3) := dk_180 0 112 (dk_at dksX4_manyNow_1 15 rfl rfl)
theorem dX4_manyNow_41 : decode cX4_manyNow 41 = .ok (.iadd, 1) := dk_96 (dk_at dksX4_manyNow_1 18 rfl rfl)
theorem dX4_manyNow_42 : decode cX4_manyNow 42 = .ok (.istore_n 2, 1) := dk_61 (dk_at dksX4_manyNow_1 19 rfl rfl)
theorem dX4_manyNow_43 : decode cX4_manyNow 43 = .ok (.iload_n 3, 1) := dk_29 (dk_at dksX4_manyNow_1 20 rfl rfl)
theorem dX4_manyNow_44 : decode cX4_manyNow 44 = .ok (.aload 8, 2) := dk_25 8 (dk_at dksX4_manyNow_1 21 rfl rfl)
theorem dX4_manyNow_46 : decode cX4_manyNow 46 = .ok (.getfield 174, 3) := dk_180 0 174 (dk_at dksX4_manyNow_2 0 rfl rfl)
theorem dX4_manyNow_49 : decode cX4_manyNow 49 = .ok (.iadd, 1) := dk_96 (dk_at dksX4_manyNow_2 3 rfl rfl)
theorem dX4_manyNow_50 : decode cX4_manyNow 50 = .ok (.istore_n 3, 1) := dk_62 (dk_at dksX4_manyNow_2 4 rfl rfl)
theorem dX4_manyNow_51 : decode cX4_manyNow 51 = .ok (.iload 4, 2) := dk_21 4 (dk_at dksX4_manyNow_2 5 rfl rfl)
theorem dX4_manyNow_53 : decode cX4_manyNow 53 = .ok (.aload 8, 2) := dk_25 8 (dk_at dksX4_manyNow_2 7 rfl rfl)
theorem dX4_manyNow_55 : decode cX4_manyNow 55 = .ok (.getfield 115, 3) := dk_180 0 115 (dk_at dksX4_manyNow_2 9 rfl rfl)
theorem dX4_manyNow_58 : decode cX4_manyNow 58 = .ok (.ifCond .eq 7, 3) := dk_153 0 7 (dk_at dksX4_manyNow_2 12 rfl rfl)
theorem dX4_manyNow_61 : decode cX4_manyNow 61 = .ok (.iconst 1, 1) := dk_4 (dk_at dksX4_manyNow_2 15 rfl rfl)
theorem dX4_manyNow_62 : decode cX4_manyNow 62 = .ok (.goto 4, 3) := dk_167 0 4 (dk_at dksX4_manyNow_2 16 rfl rfl)
theorem dX4_manyNow_65 : decode cX4_manyNow 65 = .ok (.iconst 0, 1) := dk_3 (dk_at dksX4_manyNow_2 19 rfl rfl)
theorem dX4_manyNow_66 : decode cX4_manyNow 66 = .ok (.iadd, 1) := dk_96 (dk_at dksX4_manyNow_2 20 rfl rfl)
theorem dX4_manyNow_67 : decode cX4_manyNow 67 = .ok (.istore 4, 2) := dk_54 4 (dk_at dksX4_manyNow_2 21 rfl rfl)
theorem dX4_manyNow_69 : decode cX4_manyNow 69 = .ok (.iinc 7 1, 3) := dk_132 7 1 (dk_at dksX4_manyNow_3 0 rfl rfl)
theorem dX4_manyNow_72 : decode cX4_manyNow 72 = .ok (.goto (-51), 3) := dk_167 255 205 (dk_at dksX4_manyNow_3 3 rfl rfl)
theorem dX4_manyNow_75 : decode cX4_manyNow 75 = .ok (.bipush 12, 2) := dk_16 12 (dk_at dksX4_manyNow_3 6 rfl rfl)
theorem dX4_manyNow_77 : decode cX4_manyNow 77 = .ok (.newarray .int, 2) := dk_188_10 (dk_at dksX4_manyNow_3 8 rfl rfl)
theorem dX4_manyNow_79 : decode cX4_manyNow 79 = .ok (.dup, 1) := dk_89 (dk_at dksX4_manyNow_3 10 rfl rfl)
theorem dX4_manyNow_80 : decode cX4_manyNow 80 = .ok (.iconst 0, 1) := dk_3 (dk_at dksX4_manyNow_3 11 rfl rfl)
theorem dX4_manyNow_81 : decode cX4_manyNow 81 = .ok (.aload_n 0, 1) := dk_42 (dk_at dksX4_manyNow_3 12 rfl rfl)
theorem dX4_manyNow_82 : decode cX4_manyNow 82 = .ok (.getfield 22, 3) := dk_180 0 22 (dk_at dksX4_manyNow_3 13 rfl rfl)
theorem dX4_manyNow_85 : decode cX4_manyNow 85 = .ok (.invokevirtual 64, 3) := dk_182 0 64 (dk_at dksX4_manyNow_3 16 rfl rfl)
theorem dX4_manyNow_88 : decode cX4_manyNow 88 = .ok (.iastore, 1) := dk_79 (dk_at dksX4_manyNow_3 19 rfl rfl)
theorem dX4_manyNow_89 : decode cX4_manyNow 89 = .ok (.dup, 1) := dk_89 (dk_at dksX4_manyNow_3 20 rfl rfl)
theorem dX4_manyNow_90 : decode cX4_manyNow 90 = .ok (.iconst 1, 1) := dk_4 (dk_at dksX4_manyNow_3 21 rfl rfl)
theorem dX4_manyNow_91 : decode cX4_manyNow 91 = .ok (.aload_n 0, 1) := dk_42 (dk_at dksX4_manyNow_3 22 rfl rfl)
theorem dX4_manyNow_92 : decode cX4_manyNow 92 = .ok (.getfield 94, 3) := dk_180 0 94 (dk_at dksX4_manyNow_4 0 rfl rfl)
theorem dX4_manyNow_95 : decode cX4_manyNow 95 = .ok (.iastore, 1) := dk_79 (dk_at dksX4_manyNow_4 3 rfl rfl)
theorem dX4_manyNow_96 : decode cX4_manyNow 96 = .ok (.dup, 1) := dk_89 (dk_at dksX4_manyNow_4 4 rfl rfl)
theorem dX4_manyNow_97 : decode cX4_manyNow 97 = .ok (.iconst 2, 1) := dk_5 (dk_at dksX4_manyNow_4 5 rfl rfl)
theorem dX4_manyNow_98 : decode cX4_manyNow 98 = .ok (.aload_n 0, 1) := dk_42 (dk_at dksX4_manyNow_4 6 rfl rfl)
theorem dX4_manyNow_99 : decode cX4_manyNow 99 = .ok (.getfield 154, 3) := dk_180 0 154 (dk_at dksX4_manyNow_4 7 rfl rfl)
theorem dX4_manyNow_102 : decode cX4_manyNow 102 = .ok (.iastore, 1) := dk_79 (dk_at dksX4_manyNow_4 10 rfl rfl)
theorem dX4_manyNow_103 : decode cX4_manyNow 103 = .ok (.dup, 1) := dk_89 (dk_at dksX4_manyNow_4 11 rfl rfl)
theorem dX4_manyNow_104 : decode cX4_manyNow 104 = .ok (.iconst 3, 1) := dk_6 (dk_at dksX4_manyNow_4 12 rfl rfl)
theorem dX4_manyNow_105 : decode cX4_manyNow 105 = .ok (.aload_n 0, 1) := dk_42 (dk_at dksX4_manyNow_4 13 rfl rfl)
theorem dX4_manyNow_106 : decode cX4_manyNow 106 = .ok (.getfield 157, 3) := dk_180 0 157 (dk_at dksX4_manyNow_4 14 rfl rfl)
theorem dX4_manyNow_109 : decode cX4_manyNow 109 = .ok (.iastore, 1) := dk_79 (dk_at dksX4_manyNow_4 17 rfl rfl)
theorem dX4_manyNow_110 : decode cX4_manyNow 110 = .ok (.dup, 1) := dk_89 (dk_at dksX4_manyNow_4 18 rfl rfl)
theorem dX4_manyNow_111 : decode cX4_manyNow 111 = .ok (.iconst 4, 1) := dk_7 (dk_at dksX4_manyNow_4 19 rfl rfl)
theorem dX4_manyNow_112 : decode cX4_manyNow 112 = .ok (.iload_n 2, 1) := dk_28 (dk_at dksX4_manyNow_4 20 rfl rfl)
theorem dX4_manyNow_113 : decode cX4_manyNow 113 = .ok (.iastore, 1) := dk_79 (dk_at dksX4_manyNow_4 21 rfl rfl)
theorem dX4_manyNow_114 : decode cX4_manyNow 114 = .ok (.dup, 1) := dk_89 (dk_at dksX4_manyNow_4 22 rfl rfl)
theorem dX4_manyNow_115 : decode cX4_manyNow 115 = .ok (.iconst 5, 1) := dk_8 (dk_at dksX4_manyNow_4 23 rfl rfl)
theorem dX4_manyNow_116 : decode cX4_manyNow 116 = .ok (.iload_n 3, 1) := dk_29 (dk_at dksX4_manyNow_5 0 rfl rfl)
theorem dX4_manyNow_117 : decode cX4_manyNow 117 = .ok (.iastore, 1) := dk_79 (dk_at dksX4_manyNow_5 1 rfl rfl)
theorem dX4_manyNow_118 : decode cX4_manyNow 118 = .ok (.dup, 1) := dk_89 (dk_at dksX4_manyNow_5 2 rfl rfl)
theorem dX4_manyNow_119 : decode cX4_manyNow 119 = .ok (.bipush 6, 2) := dk_16 6 (dk_at dksX4_manyNow_5 3 rfl rfl)
theorem dX4_manyNow_121 : decode cX4_manyNow 121 = .ok (.aload_n 0, 1) := dk_42 (dk_at dksX4_manyNow_5 5 rfl rfl)
theorem dX4_manyNow_122 : decode cX4_manyNow 122 = .ok (.getfield 84, 3) := dk_180 0 84 (dk_at dksX4_manyNow_5 6 rfl rfl)
theorem dX4_manyNow_125 : decode cX4_manyNow 125 = .ok (.iastore, 1) := dk_79 (dk_at dksX4_manyNow_5 9 rfl rfl)
theorem dX4_manyNow_126 : decode cX4_manyNow 126 = .ok (.dup, 1) := dk_89 (dk_at dksX4_manyNow_5 10 rfl rfl)
theorem dX4_manyNow_127 : decode cX4_manyNow 127 = .ok (.bipush 7, 2) := dk_16 7 (dk_at dksX4_manyNow_5 11 rfl rfl)
theorem dX4_manyNow_129 : decode cX4_manyNow 129 = .ok (.aload_n 0, 1) := dk_42 (dk_at dksX4_manyNow_5 13 rfl rfl)
theorem dX4_manyNow_130 : decode cX4_manyNow 130 = .ok (.getfield 38, 3) := dk_180 0 38 (dk_at dksX4_manyNow_5 14 rfl rfl)
theorem dX4_manyNow_133 : decode cX4_manyNow 133 = .ok (.invokevirtual 64, 3) := dk_182 0 64 (dk_at dksX4_manyNow_5 17 rfl rfl)
theorem dX4_manyNow_136 : decode cX4_manyNow 136 = .ok (.iastore, 1) := dk_79 (dk_at dksX4_manyNow_5 20 rfl rfl)
theorem dX4_manyNow_137 : decode cX4_manyNow 137 = .ok (.dup, 1) := dk_89 (dk_at dksX4_manyNow_5 21 rfl rfl)
theorem dX4_manyNow_138 : decode cX4_manyNow 138 = .ok (.bipush 8, 2) := dk_16 8 (dk_at dksX4_manyNow_5 22 rfl rfl)
theorem dX4_manyNow_140 : decode cX4_manyNow 140 = .ok (.aload_n 0, 1) := dk_42 (dk_at dksX4_manyNow_6 0 rfl rfl)
theorem dX4_manyNow_141 : decode cX4_manyNow 141 = .ok (.getfield 48, 3) := dk_180 0 48 (dk_at dksX4_manyNow_6 1 rfl rfl)
theorem dX4_manyNow_144 : decode cX4_manyNow 144 = .ok (.invokevirtual 64, 3) := dk_182 0 64 (dk_at dksX4_manyNow_6 4 rfl rfl)
theorem dX4_manyNow_147 : decode cX4_manyNow 147 = .ok (.iastore, 1) := dk_79 (dk_at dksX4_manyNow_6 7 rfl rfl)
theorem dX4_manyNow_148 : decode cX4_manyNow 148 = .ok (.dup, 1) := dk_89 (dk_at dksX4_manyNow_6 8 rfl rfl)
theorem dX4_manyNow_149 : decode cX4_manyNow 149 = .ok (.bipush 9, 2) := dk_16 9 (dk_at dksX4_manyNow_6 9 rfl rfl)
theorem dX4_manyNow_151 : decode cX4_manyNow 151 = .ok (.aload_n 0, 1) := dk_42 (dk_at dksX4_manyNow_6 11 rfl rfl)
theorem dX4_manyNow_152 : decode cX4_manyNow 152 = .ok (.getfield 51, 3) := dk_180 0 51 (dk_at dksX4_manyNow_6 12 rfl rfl)
theorem dX4_manyNow_155 : decode cX4_manyNow 155 = .ok (.iastore, 1) := dk_79 (dk_at dksX4_manyNow_6 15 rfl rfl)
theorem dX4_manyNow_156 : decode cX4_manyNow 156 = .ok (.dup, 1) := dk_89 (dk_at dksX4_manyNow_6 16 rfl rfl)
theorem dX4_manyNow_157 : decode cX4_manyNow 157 = .ok (.bipush 10, 2) := dk_16 10 (dk_at dksX4_manyNow_6 17 rfl rfl)
theorem dX4_manyNow_159 : decode cX4_manyNow 159 = .ok (.aload_n 0, 1) := dk_42 (dk_at dksX4_manyNow_6 19 rfl rfl)
theorem dX4_manyNow_160 : decode cX4_manyNow 160 = .ok (.getfield 134, 3) := dk_180 0 134 (dk_at dksX4_manyNow_6 20 rfl rfl)
theorem dX4_manyNow_163 : decode cX4_manyNow 163 = .ok (.iastore, 1) := dk_79 (dk_at dksX4_manyNow_6 23 rfl rfl)
theorem dX4_manyNow_164 : decode cX4_manyNow 164 = .ok (.dup, 1) := dk_89 (dk_at dksX4_manyNow_7 0 rfl rfl)
theorem dX4_manyNow_165 : decode cX4_manyNow 165 = .ok (.bipush 11, 2) := dk_16 11 (dk_at dksX4_manyNow_7 1 rfl rfl)
theorem dX4_manyNow_167 : decode cX4_manyNow 167 = .ok (.iload 4, 2) := dk_21 4 (dk_at dksX4_manyNow_7 3 rfl rfl)
theorem dX4_manyNow_169 : decode cX4_manyNow 169 = .ok (.iastore, 1) := dk_79 (dk_at dksX4_manyNow_7 5 rfl rfl)
theorem dX4_manyNow_170 : decode cX4_manyNow 170 = .ok (.astore 5, 2) := dk_58 5 (dk_at dksX4_manyNow_7 6 rfl rfl)
theorem dX4_manyNow_172 : decode cX4_manyNow 172 = .ok (.aload 5, 2) := dk_25 5 (dk_at dksX4_manyNow_7 8 rfl rfl)
theorem dX4_manyNow_174 : decode cX4_manyNow 174 = .ok (.iload_n 1, 1) := dk_27 (dk_at dksX4_manyNow_7 10 rfl rfl)
theorem dX4_manyNow_175 : decode cX4_manyNow 175 = .ok (.iaload, 1) := dk_46 (dk_at dksX4_manyNow_7 11 rfl rfl)
theorem dX4_manyNow_176 : decode cX4_manyNow 176 = .ok (.ireturn, 1) := dk_172 (dk_at dksX4_manyNow_7 12 rfl rfl)
abbrev cX4_meanGrade : ByteArray := prog_9_method_47_code
def yX4_meanGrade : MethodName := ⟨RX4, "meanGrade", "()D"⟩
def dkwX4_meanGrade_3 : List UInt8 := [28, 135, 27, 135, 111, 175]
abbrev dktX4_meanGrade_3 : List UInt8 := dkwX4_meanGrade_3 ++ []
def dkwX4_meanGrade_2 : List UInt8 := [25, 4, 180, 0, 235, 25, 4, 182, 0, 246, 104, 96, 61, 167, 255, 214, 27, 154, 0, 7, 14, 167, 0, 8]
abbrev dktX4_meanGrade_2 : List UInt8 := dkwX4_meanGrade_2 ++ dktX4_meanGrade_3
def dkwX4_meanGrade_1 : List UInt8 := [153, 0, 39, 45, 185, 0, 107, 1, 0, 192, 0, 236, 58, 4, 27, 25, 4, 180, 0, 235, 96, 60, 28]
abbrev dktX4_meanGrade_1 : List UInt8 := dkwX4_meanGrade_1 ++ dktX4_meanGrade_2
def dkwX4_meanGrade_0 : List UInt8 := [42, 3, 181, 0, 57, 3, 60, 3, 61, 42, 180, 0, 48, 182, 0, 97, 78, 45, 185, 0, 101, 1, 0]
abbrev dktX4_meanGrade_0 : List UInt8 := dkwX4_meanGrade_0 ++ dktX4_meanGrade_1
theorem dksX4_meanGrade_0 : cX4_meanGrade.data.toList.drop 0 = dktX4_meanGrade_0 := by decide +kernel
theorem dksX4_meanGrade_1 : cX4_meanGrade.data.toList.drop 23 = dktX4_meanGrade_1 := dk_seg dksX4_meanGrade_0 23 rfl rfl
theorem dksX4_meanGrade_2 : cX4_meanGrade.data.toList.drop 46 = dktX4_meanGrade_2 := dk_seg dksX4_meanGrade_1 23 rfl rfl
theorem dksX4_meanGrade_3 : cX4_meanGrade.data.toList.drop 70 = dktX4_meanGrade_3 := dk_seg dksX4_meanGrade_2 24 rfl rfl
theorem dX4_meanGrade_0 : decode cX4_meanGrade 0 = .ok (.aload_n 0, 1) := dk_42 (dk_at dksX4_meanGrade_0 0 rfl rfl)
theorem dX4_meanGrade_1 : decode cX4_meanGrade 1 = .ok (.iconst 0, 1) := dk_3 (dk_at dksX4_meanGrade_0 1 rfl rfl)
theorem dX4_meanGrade_2 : decode cX4_meanGrade 2 = .ok (.putfield 57, 3) := dk_181 0 57 (dk_at dksX4_meanGrade_0 2 rfl rfl)
theorem dX4_meanGrade_5 : decode cX4_meanGrade 5 = .ok (.iconst 0, 1) := dk_3 (dk_at dksX4_meanGrade_0 5 rfl rfl)
theorem dX4_meanGrade_6 : decode cX4_meanGrade 6 = .ok (.istore_n 1, 1) := dk_60 (dk_at dksX4_meanGrade_0 6 rfl rfl)
theorem dX4_meanGrade_7 : decode cX4_meanGrade 7 = .ok (.iconst 0, 1) := dk_3 (dk_at dksX4_meanGrade_0 7 rfl rfl)
theorem dX4_meanGrade_8 : decode cX4_meanGrade 8 = .ok (.istore_n 2, 1) := dk_61 (dk_at dksX4_meanGrade_0 8 rfl rfl)
theorem dX4_meanGrade_9 : decode cX4_meanGrade 9 = .ok (.aload_n 0, 1) := dk_42 (dk_at dksX4_meanGrade_0 9 rfl rfl)
theorem dX4_meanGrade_10 : decode cX4_meanGrade 10 = .ok (.getfield 48, 3) := dk_180 0 48 (dk_at dksX4_meanGrade_0 10 rfl rfl)
theorem dX4_meanGrade_13 : decode cX4_meanGrade 13 = .ok (.invokevirtual 97, 3) := dk_182 0 97 (dk_at dksX4_meanGrade_0 13 rfl rfl)
theorem dX4_meanGrade_16 : decode cX4_meanGrade 16 = .ok (.astore_n 3, 1) := dk_78 (dk_at dksX4_meanGrade_0 16 rfl rfl)
theorem dX4_meanGrade_17 : decode cX4_meanGrade 17 = .ok (.aload_n 3, 1) := dk_45 (dk_at dksX4_meanGrade_0 17 rfl rfl)
theorem dX4_meanGrade_18 : decode cX4_meanGrade 18 = .ok (.invokeinterface 101 1, 5) := by decide +kernel
theorem dX4_meanGrade_23 : decode cX4_meanGrade 23 = .ok (.ifCond .eq 39, 3) := dk_153 0 39 (dk_at dksX4_meanGrade_1 0 rfl rfl)
theorem dX4_meanGrade_26 : decode cX4_meanGrade 26 = .ok (.aload_n 3, 1) := dk_45 (dk_at dksX4_meanGrade_1 3 rfl rfl)
theorem dX4_meanGrade_27 : decode cX4_meanGrade 27 = .ok (.invokeinterface 107 1, 5) := by decide +kernel
theorem dX4_meanGrade_32 : decode cX4_meanGrade 32 = .ok (.checkcast 236, 3) := dk_192 0 236 (dk_at dksX4_meanGrade_1 9 rfl rfl)
theorem dX4_meanGrade_35 : decode cX4_meanGrade 35 = .ok (.astore 4, 2) := dk_58 4 (dk_at dksX4_meanGrade_1 12 rfl rfl)
theorem dX4_meanGrade_37 : decode cX4_meanGrade 37 = .ok (.iload_n 1, 1) := dk_27 (dk_at dksX4_meanGrade_1 14 rfl rfl)
theorem dX4_meanGrade_38 : decode cX4_meanGrade 38 = .ok (.aload 4, 2) := dk_25 4 (dk_at dksX4_meanGrade_1 15 rfl rfl)
theorem dX4_meanGrade_40 : decode cX4_meanGrade 40 = .ok (.getfield 235, 3) := dk_180 0 235 (dk_at dksX4_meanGrade_1 17 rfl rfl)
theorem dX4_meanGrade_43 : decode cX4_meanGrade 43 = .ok (.iadd, 1) := dk_96 (dk_at dksX4_meanGrade_1 20 rfl rfl)
theorem dX4_meanGrade_44 : decode cX4_meanGrade 44 = .ok (.istore_n 1, 1) := dk_60 (dk_at dksX4_meanGrade_1 21 rfl rfl)
theorem dX4_meanGrade_45 : decode cX4_meanGrade 45 = .ok (.iload_n 2, 1) := dk_28 (dk_at dksX4_meanGrade_1 22 rfl rfl)
theorem dX4_meanGrade_46 : decode cX4_meanGrade 46 = .ok (.aload 4, 2) := dk_25 4 (dk_at dksX4_meanGrade_2 0 rfl rfl)
theorem dX4_meanGrade_48 : decode cX4_meanGrade 48 = .ok (.getfield 235, 3) := dk_180 0 235 (dk_at dksX4_meanGrade_2 2 rfl rfl)
theorem dX4_meanGrade_51 : decode cX4_meanGrade 51 = .ok (.aload 4, 2) := dk_25 4 (dk_at dksX4_meanGrade_2 5 rfl rfl)
theorem dX4_meanGrade_53 : decode cX4_meanGrade 53 = .ok (.invokevirtual 246, 3) := dk_182 0 246 (dk_at dksX4_meanGrade_2 7 rfl rfl)
theorem dX4_meanGrade_56 : decode cX4_meanGrade 56 = .ok (.imul, 1) := dk_104 (dk_at dksX4_meanGrade_2 10 rfl rfl)
theorem dX4_meanGrade_57 : decode cX4_meanGrade 57 = .ok (.iadd, 1) := dk_96 (dk_at dksX4_meanGrade_2 11 rfl rfl)
theorem dX4_meanGrade_58 : decode cX4_meanGrade 58 = .ok (.istore_n 2, 1) := dk_61 (dk_at dksX4_meanGrade_2 12 rfl rfl)
theorem dX4_meanGrade_59 : decode cX4_meanGrade 59 = .ok (.goto (-42), 3) := dk_167 255 214 (dk_at dksX4_meanGrade_2 13 rfl rfl)
theorem dX4_meanGrade_62 : decode cX4_meanGrade 62 = .ok (.iload_n 1, 1) := dk_27 (dk_at dksX4_meanGrade_2 16 rfl rfl)
theorem dX4_meanGrade_63 : decode cX4_meanGrade 63 = .ok (.ifCond .ne 7, 3) := dk_154 0 7 (dk_at dksX4_meanGrade_2 17 rfl rfl)
theorem dX4_meanGrade_66 : decode cX4_meanGrade 66 = .ok (.dconst 0, 1) := dk_14 (dk_at dksX4_meanGrade_2 20 rfl rfl)
theorem dX4_meanGrade_67 : decode cX4_meanGrade 67 = .ok (.goto 8, 3) := dk_167 0 8 (dk_at dksX4_meanGrade_2 21 rfl rfl)
theorem dX4_meanGrade_70 : decode cX4_meanGrade 70 = .ok (.iload_n 2, 1) := dk_28 (dk_at dksX4_meanGrade_3 0 rfl rfl)
theorem dX4_meanGrade_71 : decode cX4_meanGrade 71 = .ok (.i2d, 1) := dk_135 (dk_at dksX4_meanGrade_3 1 rfl rfl)
theorem dX4_meanGrade_72 : decode cX4_meanGrade 72 = .ok (.iload_n 1, 1) := dk_27 (dk_at dksX4_meanGrade_3 2 rfl rfl)
theorem dX4_meanGrade_73 : decode cX4_meanGrade 73 = .ok (.i2d, 1) := dk_135 (dk_at dksX4_meanGrade_3 3 rfl rfl)
theorem dX4_meanGrade_74 : decode cX4_meanGrade 74 = .ok (.ddiv, 1) := dk_111 (dk_at dksX4_meanGrade_3 4 rfl rfl)
theorem dX4_meanGrade_75 : decode cX4_meanGrade 75 = .ok (.dreturn, 1) := dk_175 (dk_at dksX4_meanGrade_3 5 rfl rfl)
abbrev cX4_ripeIn : ByteArray := prog_9_method_49_code
def yX4_ripeIn : MethodName := ⟨RX4, "ripeIn", "(I)I"⟩
def dkwX4_ripeIn_0 : List UInt8 := [42, 27, 184, 0, 171, 4, 182, 0, 72, 153, 0, 7, 3, 167, 0, 8, 42, 27, 182, 1, 55, 172]
abbrev dktX4_ripeIn_0 : List UInt8 := dkwX4_ripeIn_0 ++ []
theorem dksX4_ripeIn_0 : cX4_ripeIn.data.toList.drop 0 = dktX4_ripeIn_0 := by decide +kernel
theorem dX4_ripeIn_0 : decode cX4_ripeIn 0 = .ok (.aload_n 0, 1) := dk_42 (dk_at dksX4_ripeIn_0 0 rfl rfl)
theorem dX4_ripeIn_1 : decode cX4_ripeIn 1 = .ok (.iload_n 1, 1) := dk_27 (dk_at dksX4_ripeIn_0 1 rfl rfl)
theorem dX4_ripeIn_2 : decode cX4_ripeIn 2 = .ok (.invokestatic 171, 3) := dk_184 0 171 (dk_at dksX4_ripeIn_0 2 rfl rfl)
theorem dX4_ripeIn_5 : decode cX4_ripeIn 5 = .ok (.iconst 1, 1) := dk_4 (dk_at dksX4_ripeIn_0 5 rfl rfl)
theorem dX4_ripeIn_6 : decode cX4_ripeIn 6 = .ok (.invokevirtual 72, 3) := dk_182 0 72 (dk_at dksX4_ripeIn_0 6 rfl rfl)
theorem dX4_ripeIn_9 : decode cX4_ripeIn 9 = .ok (.ifCond .eq 7, 3) := dk_153 0 7 (dk_at dksX4_ripeIn_0 9 rfl rfl)
theorem dX4_ripeIn_12 : decode cX4_ripeIn 12 = .ok (.iconst 0, 1) := dk_3 (dk_at dksX4_ripeIn_0 12 rfl rfl)
theorem dX4_ripeIn_13 : decode cX4_ripeIn 13 = .ok (.goto 8, 3) := dk_167 0 8 (dk_at dksX4_ripeIn_0 13 rfl rfl)
theorem dX4_ripeIn_16 : decode cX4_ripeIn 16 = .ok (.aload_n 0, 1) := dk_42 (dk_at dksX4_ripeIn_0 16 rfl rfl)
theorem dX4_ripeIn_17 : decode cX4_ripeIn 17 = .ok (.iload_n 1, 1) := dk_27 (dk_at dksX4_ripeIn_0 17 rfl rfl)
theorem dX4_ripeIn_18 : decode cX4_ripeIn 18 = .ok (.invokevirtual 311, 3) := dk_182 1 55 (dk_at dksX4_ripeIn_0 18 rfl rfl)
theorem dX4_ripeIn_21 : decode cX4_ripeIn 21 = .ok (.ireturn, 1) := dk_172 (dk_at dksX4_ripeIn_0 21 rfl rfl)
abbrev cX4_ripeInNow : ByteArray := prog_9_method_48_code
def yX4_ripeInNow : MethodName := ⟨RX4, "ripeInNow", "(I)I"⟩
def dkwX4_ripeInNow_4 : List UInt8 := [167, 255, 193, 29, 172]
abbrev dktX4_ripeInNow_4 : List UInt8 := dkwX4_ripeInNow_4 ++ []
def dkwX4_ripeInNow_3 : List UInt8 := [180, 0, 118, 50, 180, 0, 121, 182, 0, 124, 87, 44, 180, 0, 112, 154, 0, 5, 2, 172, 132, 3, 1]
abbrev dktX4_ripeInNow_3 : List UInt8 := dkwX4_ripeInNow_3 ++ dktX4_ripeInNow_4
def dkwX4_ripeInNow_2 : List UInt8 := [181, 0, 196, 44, 44, 180, 0, 183, 44, 182, 1, 14, 184, 0, 7, 181, 0, 183, 44, 42, 180, 0, 28, 44]
abbrev dktX4_ripeInNow_2 : List UInt8 := dkwX4_ripeInNow_2 ++ dktX4_ripeInNow_3
def dkwX4_ripeInNow_1 : List UInt8 := [44, 3, 181, 0, 186, 3, 62, 44, 180, 0, 115, 154, 0, 62, 44, 180, 0, 180, 154, 0, 23, 44, 3]
abbrev dktX4_ripeInNow_1 : List UInt8 := dkwX4_ripeInNow_1 ++ dktX4_ripeInNow_2
def dkwX4_ripeInNow_0 : List UInt8 := [42, 180, 0, 34, 27, 50, 180, 0, 112, 154, 0, 5, 2, 172, 42, 180, 0, 34, 27, 50, 182, 0, 192, 77]
abbrev dktX4_ripeInNow_0 : List UInt8 := dkwX4_ripeInNow_0 ++ dktX4_ripeInNow_1
theorem dksX4_ripeInNow_0 : cX4_ripeInNow.data.toList.drop 0 = dktX4_ripeInNow_0 := by decide +kernel
theorem dksX4_ripeInNow_1 : cX4_ripeInNow.data.toList.drop 24 = dktX4_ripeInNow_1 := dk_seg dksX4_ripeInNow_0 24 rfl rfl
theorem dksX4_ripeInNow_2 : cX4_ripeInNow.data.toList.drop 47 = dktX4_ripeInNow_2 := dk_seg dksX4_ripeInNow_1 23 rfl rfl
theorem dksX4_ripeInNow_3 : cX4_ripeInNow.data.toList.drop 71 = dktX4_ripeInNow_3 := dk_seg dksX4_ripeInNow_2 24 rfl rfl
theorem dksX4_ripeInNow_4 : cX4_ripeInNow.data.toList.drop 94 = dktX4_ripeInNow_4 := dk_seg dksX4_ripeInNow_3 23 rfl rfl
theorem dX4_ripeInNow_0 : decode cX4_ripeInNow 0 = .ok (.aload_n 0, 1) := dk_42 (dk_at dksX4_ripeInNow_0 0 rfl rfl)
theorem dX4_ripeInNow_1 : decode cX4_ripeInNow 1 = .ok (.getfield 34, 3) := dk_180 0 34 (dk_at dksX4_ripeInNow_0 1 rfl rfl)
theorem dX4_ripeInNow_4 : decode cX4_ripeInNow 4 = .ok (.iload_n 1, 1) := dk_27 (dk_at dksX4_ripeInNow_0 4 rfl rfl)
theorem dX4_ripeInNow_5 : decode cX4_ripeInNow 5 = .ok (.aaload, 1) := dk_50 (dk_at dksX4_ripeInNow_0 5 rfl rfl)
theorem dX4_ripeInNow_6 : decode cX4_ripeInNow 6 = .ok (.getfield 112, 3) := dk_180 0 112 (dk_at dksX4_ripeInNow_0 6 rfl rfl)
theorem dX4_ripeInNow_9 : decode cX4_ripeInNow 9 = .ok (.ifCond .ne 5, 3) := dk_154 0 5 (dk_at dksX4_ripeInNow_0 9 rfl rfl)
theorem dX4_ripeInNow_12 : decode cX4_ripeInNow 12 = .ok (.iconst (-1), 1) := dk_2 (dk_at dksX4_ripeInNow_0 12 rfl rfl)
theorem dX4_ripeInNow_13 : decode cX4_ripeInNow 13 = .ok (.ireturn, 1) := dk_172 (dk_at dksX4_ripeInNow_0 13 rfl rfl)
theorem dX4_ripeInNow_14 : decode cX4_ripeInNow 14 = .ok (.aload_n 0, 1) := dk_42 (dk_at dksX4_ripeInNow_0 14 rfl rfl)
theorem dX4_ripeInNow_15 : decode cX4_ripeInNow 15 = .ok (.getfield 34, 3) := dk_180 0 34 (dk_at dksX4_ripeInNow_0 15 rfl rfl)
theorem dX4_ripeInNow_18 : decode cX4_ripeInNow 18 = .ok (.iload_n 1, 1) := dk_27 (dk_at dksX4_ripeInNow_0 18 rfl rfl)
theorem dX4_ripeInNow_19 : decode cX4_ripeInNow 19 = .ok (.aaload, 1) := dk_50 (dk_at dksX4_ripeInNow_0 19 rfl rfl)
theorem dX4_ripeInNow_20 : decode cX4_ripeInNow 20 = .ok (.invokevirtual 192, 3) := dk_182 0 192 (dk_at dksX4_ripeInNow_0 20 rfl rfl)
theorem dX4_ripeInNow_23 : decode cX4_ripeInNow 23 = .ok (.astore_n 2, 1) := dk_77 (dk_at dksX4_ripeInNow_0 23 rfl rfl)
theorem dX4_ripeInNow_24 : decode cX4_ripeInNow 24 = .ok (.aload_n 2, 1) := dk_44 (dk_at dksX4_ripeInNow_1 0 rfl rfl)
theorem dX4_ripeInNow_25 : decode cX4_ripeInNow 25 = .ok (.iconst 0, 1) := dk_3 (dk_at dksX4_ripeInNow_1 1 rfl rfl)
theorem dX4_ripeInNow_26 : decode cX4_ripeInNow 26 = .ok (.putfield 186, 3) := dk_181 0 186 (dk_at dksX4_ripeInNow_1 2 rfl rfl)
theorem dX4_ripeInNow_29 : decode cX4_ripeInNow 29 = .ok (.iconst 0, 1) := dk_3 (dk_at dksX4_ripeInNow_1 5 rfl rfl)
theorem dX4_ripeInNow_30 : decode cX4_ripeInNow 30 = .ok (.istore_n 3, 1) := dk_62 (dk_at dksX4_ripeInNow_1 6 rfl rfl)
theorem dX4_ripeInNow_31 : decode cX4_ripeInNow 31 = .ok (.aload_n 2, 1) := dk_44 (dk_at dksX4_ripeInNow_1 7 rfl rfl)
theorem dX4_ripeInNow_32 : decode cX4_ripeInNow 32 = .ok (.getfield 115, 3) := dk_180 0 115 (dk_at dksX4_ripeInNow_1 8 rfl rfl)
theorem dX4_ripeInNow_35 : decode cX4_ripeInNow 35 = .ok (.ifCond .ne 62, 3) := dk_154 0 62 (dk_at dksX4_ripeInNow_1 11 rfl rfl)
theorem dX4_ripeInNow_38 : decode cX4_ripeInNow 38 = .ok (.aload_n 2, 1) := dk_44 (dk_at dksX4_ripeInNow_1 14 rfl rfl)
theorem dX4_ripeInNow_39 : decode cX4_ripeInNow 39 = .ok (.getfield 180, 3) := dk_180 0 180 (dk_at dksX4_ripeInNow_1 15 rfl rfl)
theorem dX4_ripeInNow_42 : decode cX4_ripeInNow 42 = .ok (.ifCond .ne 23, 3) := dk_154 0 23 (dk_at dksX4_ripeInNow_1 18 rfl rfl)
theorem dX4_ripeInNow_45 : decode cX4_ripeInNow 45 = .ok (.aload_n 2, 1) := dk_44 (dk_at dksX4_ripeInNow_1 21 rfl rfl)
theorem dX4_ripeInNow_46 : decode cX4_ripeInNow 46 = .ok (.iconst 0, 1) := dk_3 (dk_at dksX4_ripeInNow_1 22 rfl rfl)
theorem dX4_ripeInNow_47 : decode cX4_ripeInNow 47 = .ok (.putfield 196, 3) := dk_181 0 196 (dk_at dksX4_ripeInNow_2 0 rfl rfl)
theorem dX4_ripeInNow_50 : decode cX4_ripeInNow 50 = .ok (.aload_n 2, 1) := dk_44 (dk_at dksX4_ripeInNow_2 3 rfl rfl)
theorem dX4_ripeInNow_51 : decode cX4_ripeInNow 51 = .ok (.aload_n 2, 1) := dk_44 (dk_at dksX4_ripeInNow_2 4 rfl rfl)
theorem dX4_ripeInNow_52 : decode cX4_ripeInNow 52 = .ok (.getfield 183, 3) := dk_180 0 183 (dk_at dksX4_ripeInNow_2 5 rfl rfl)
theorem dX4_ripeInNow_55 : decode cX4_ripeInNow 55 = .ok (.aload_n 2, 1) := dk_44 (dk_at dksX4_ripeInNow_2 8 rfl rfl)
theorem dX4_ripeInNow_56 : decode cX4_ripeInNow 56 = .ok (.invokevirtual 270, 3) := dk_182 1 14 (dk_at dksX4_ripeInNow_2 9 rfl rfl)
theorem dX4_ripeInNow_59 : decode cX4_ripeInNow 59 = .ok (.invokestatic 7, 3) := dk_184 0 7 (dk_at dksX4_ripeInNow_2 12 rfl rfl)
theorem dX4_ripeInNow_62 : decode cX4_ripeInNow 62 = .ok (.putfield 183, 3) := dk_181 0 183 (dk_at dksX4_ripeInNow_2 15 rfl rfl)
theorem dX4_ripeInNow_65 : decode cX4_ripeInNow 65 = .ok (.aload_n 2, 1) := dk_44 (dk_at dksX4_ripeInNow_2 18 rfl rfl)
theorem dX4_ripeInNow_66 : decode cX4_ripeInNow 66 = .ok (.aload_n 0, 1) := dk_42 (dk_at dksX4_ripeInNow_2 19 rfl rfl)
theorem dX4_ripeInNow_67 : decode cX4_ripeInNow 67 = .ok (.getfield 28, 3) := dk_180 0 28 (dk_at dksX4_ripeInNow_2 20 rfl rfl)
theorem dX4_ripeInNow_70 : decode cX4_ripeInNow 70 = .ok (.aload_n 2, 1) := dk_44 (dk_at dksX4_ripeInNow_2 23 rfl rfl)
theorem dX4_ripeInNow_71 : decode cX4_ripeInNow 71 = .ok (.getfield 118, 3) := dk_180 0 118 (dk_at dksX4_ripeInNow_3 0 rfl rfl)
theorem dX4_ripeInNow_74 : decode cX4_ripeInNow 74 = .ok (.aaload, 1) := dk_50 (dk_at dksX4_ripeInNow_3 3 rfl rfl)
theorem dX4_ripeInNow_75 : decode cX4_ripeInNow 75 = .ok (.getfield 121, 3) := dk_180 0 121 (dk_at dksX4_ripeInNow_3 4 rfl rfl)
theorem dX4_ripeInNow_78 : decode cX4_ripeInNow 78 = .ok (.invokevirtual 124, 3) := dk_182 0 124 (dk_at dksX4_ripeInNow_3 7 rfl rfl)
theorem dX4_ripeInNow_81 : decode cX4_ripeInNow 81 = .ok (.pop, 1) := dk_87 (dk_at dksX4_ripeInNow_3 10 rfl rfl)
theorem dX4_ripeInNow_82 : decode cX4_ripeInNow 82 = .ok (.aload_n 2, 1) := dk_44 (dk_at dksX4_ripeInNow_3 11 rfl rfl)
theorem dX4_ripeInNow_83 : decode cX4_ripeInNow 83 = .ok (.getfield 112, 3) := dk_180 0 112 (dk_at dksX4_ripeInNow_3 12 rfl rfl)
theorem dX4_ripeInNow_86 : decode cX4_ripeInNow 86 = .ok (.ifCond .ne 5, 3) := dk_154 0 5 (dk_at dksX4_ripeInNow_3 15 rfl rfl)
theorem dX4_ripeInNow_89 : decode cX4_ripeInNow 89 = .ok (.iconst (-1), 1) := dk_2 (dk_at dksX4_ripeInNow_3 18 rfl rfl)
theorem dX4_ripeInNow_90 : decode cX4_ripeInNow 90 = .ok (.ireturn, 1) := dk_172 (dk_at dksX4_ripeInNow_3 19 rfl rfl)
theorem dX4_ripeInNow_91 : decode cX4_ripeInNow 91 = .ok (.iinc 3 1, 3) := dk_132 3 1 (dk_at dksX4_ripeInNow_3 20 rfl rfl)
theorem dX4_ripeInNow_94 : decode cX4_ripeInNow 94 = .ok (.goto (-63), 3) := dk_167 255 193 (dk_at dksX4_ripeInNow_4 0 rfl rfl)
theorem dX4_ripeInNow_97 : decode cX4_ripeInNow 97 = .ok (.iload_n 3, 1) := dk_29 (dk_at dksX4_ripeInNow_4 3 rfl rfl)
theorem dX4_ripeInNow_98 : decode cX4_ripeInNow 98 = .ok (.ireturn, 1) := dk_172 (dk_at dksX4_ripeInNow_4 4 rfl rfl)
abbrev cX4_bestTarget : ByteArray := prog_9_method_51_code
def yX4_bestTarget : MethodName := ⟨RX4, "bestTarget", "(III)I"⟩
def dkwX4_bestTarget_4 : List UInt8 := [182, 1, 64, 172]
abbrev dktX4_bestTarget_4 : List UInt8 := dkwX4_bestTarget_4 ++ []
def dkwX4_bestTarget_3 : List UInt8 := [159, 0, 7, 4, 167, 0, 4, 3, 6, 182, 0, 60, 153, 0, 7, 3, 167, 0, 10, 42, 27, 28, 29]
abbrev dktX4_bestTarget_3 : List UInt8 := dkwX4_bestTarget_3 ++ dktX4_bestTarget_4
def dkwX4_bestTarget_2 : List UInt8 := [182, 0, 60, 154, 0, 34, 42, 42, 180, 0, 38, 27, 182, 0, 147, 192, 0, 130, 180, 0, 220, 4]
abbrev dktX4_bestTarget_2 : List UInt8 := dkwX4_bestTarget_2 ++ dktX4_bestTarget_3
def dkwX4_bestTarget_1 : List UInt8 := [182, 0, 72, 154, 0, 57, 42, 29, 4, 16, 30, 184, 0, 68, 154, 0, 7, 4, 167, 0, 4, 3, 5]
abbrev dktX4_bestTarget_1 : List UInt8 := dkwX4_bestTarget_1 ++ dktX4_bestTarget_2
def dkwX4_bestTarget_0 : List UInt8 := [42, 42, 27, 182, 0, 217, 154, 0, 10, 28, 184, 0, 228, 153, 0, 7, 4, 167, 0, 4, 3, 4]
abbrev dktX4_bestTarget_0 : List UInt8 := dkwX4_bestTarget_0 ++ dktX4_bestTarget_1
theorem dksX4_bestTarget_0 : cX4_bestTarget.data.toList.drop 0 = dktX4_bestTarget_0 := by decide +kernel
theorem dksX4_bestTarget_1 : cX4_bestTarget.data.toList.drop 22 = dktX4_bestTarget_1 := dk_seg dksX4_bestTarget_0 22 rfl rfl
theorem dksX4_bestTarget_2 : cX4_bestTarget.data.toList.drop 45 = dktX4_bestTarget_2 := dk_seg dksX4_bestTarget_1 23 rfl rfl
theorem dksX4_bestTarget_3 : cX4_bestTarget.data.toList.drop 67 = dktX4_bestTarget_3 := dk_seg dksX4_bestTarget_2 22 rfl rfl
theorem dksX4_bestTarget_4 : cX4_bestTarget.data.toList.drop 90 = dktX4_bestTarget_4 := dk_seg dksX4_bestTarget_3 23 rfl rfl
theorem dX4_bestTarget_0 : decode cX4_bestTarget 0 = .ok (.aload_n 0, 1) := dk_42 (dk_at dksX4_bestTarget_0 0 rfl rfl)
theorem dX4_bestTarget_1 : decode cX4_bestTarget 1 = .ok (.aload_n 0, 1) := dk_42 (dk_at dksX4_bestTarget_0 1 rfl rfl)
theorem dX4_bestTarget_2 : decode cX4_bestTarget 2 = .ok (.iload_n 1, 1) := dk_27 (dk_at dksX4_bestTarget_0 2 rfl rfl)
theorem dX4_bestTarget_3 : decode cX4_bestTarget 3 = .ok (.invokevirtual 217, 3) := dk_182 0 217 (dk_at dksX4_bestTarget_0 3 rfl rfl)
theorem dX4_bestTarget_6 : decode cX4_bestTarget 6 = .ok (.ifCond .ne 10, 3) := dk_154 0 10 (dk_at dksX4_bestTarget_0 6 rfl rfl)
theorem dX4_bestTarget_9 : decode cX4_bestTarget 9 = .ok (.iload_n 2, 1) := dk_28 (dk_at dksX4_bestTarget_0 9 rfl rfl)
theorem dX4_bestTarget_10 : decode cX4_bestTarget 10 = .ok (.invokestatic 228, 3) := dk_184 0 228 (dk_at dksX4_bestTarget_0 10 rfl rfl)
theorem dX4_bestTarget_13 : decode cX4_bestTarget 13 = .ok (.ifCond .eq 7, 3) := dk_153 0 7 (dk_at dksX4_bestTarget_0 13 rfl rfl)
theorem dX4_bestTarget_16 : decode cX4_bestTarget 16 = .ok (.iconst 1, 1) := dk_4 (dk_at dksX4_bestTarget_0 16 rfl rfl)
theorem dX4_bestTarget_17 : decode cX4_bestTarget 17 = .ok (.goto 4, 3) := dk_167 0 4 (dk_at dksX4_bestTarget_0 17 rfl rfl)
theorem dX4_bestTarget_20 : decode cX4_bestTarget 20 = .ok (.iconst 0, 1) := dk_3 (dk_at dksX4_bestTarget_0 20 rfl rfl)
theorem dX4_bestTarget_21 : decode cX4_bestTarget 21 = .ok (.iconst 1, 1) := dk_4 (dk_at dksX4_bestTarget_0 21 rfl rfl)
theorem dX4_bestTarget_22 : decode cX4_bestTarget 22 = .ok (.invokevirtual 72, 3) := dk_182 0 72 (dk_at dksX4_bestTarget_1 0 rfl rfl)
theorem dX4_bestTarget_25 : decode cX4_bestTarget 25 = .ok (.ifCond .ne 57, 3) := dk_154 0 57 (dk_at dksX4_bestTarget_1 3 rfl rfl)
theorem dX4_bestTarget_28 : decode cX4_bestTarget 28 = .ok (.aload_n 0, 1) := dk_42 (dk_at dksX4_bestTarget_1 6 rfl rfl)
theorem dX4_bestTarget_29 : decode cX4_bestTarget 29 = .ok (.iload_n 3, 1) := dk_29 (dk_at dksX4_bestTarget_1 7 rfl rfl)
theorem dX4_bestTarget_30 : decode cX4_bestTarget 30 = .ok (.iconst 1, 1) := dk_4 (dk_at dksX4_bestTarget_1 8 rfl rfl)
theorem dX4_bestTarget_31 : decode cX4_bestTarget 31 = .ok (.bipush 30, 2) := dk_16 30 (dk_at dksX4_bestTarget_1 9 rfl rfl)
theorem dX4_bestTarget_33 : decode cX4_bestTarget 33 = .ok (.invokestatic 68, 3) := dk_184 0 68 (dk_at dksX4_bestTarget_1 11 rfl rfl)
theorem dX4_bestTarget_36 : decode cX4_bestTarget 36 = .ok (.ifCond .ne 7, 3) := dk_154 0 7 (dk_at dksX4_bestTarget_1 14 rfl rfl)
theorem dX4_bestTarget_39 : decode cX4_bestTarget 39 = .ok (.iconst 1, 1) := dk_4 (dk_at dksX4_bestTarget_1 17 rfl rfl)
theorem dX4_bestTarget_40 : decode cX4_bestTarget 40 = .ok (.goto 4, 3) := dk_167 0 4 (dk_at dksX4_bestTarget_1 18 rfl rfl)
theorem dX4_bestTarget_43 : decode cX4_bestTarget 43 = .ok (.iconst 0, 1) := dk_3 (dk_at dksX4_bestTarget_1 21 rfl rfl)
theorem dX4_bestTarget_44 : decode cX4_bestTarget 44 = .ok (.iconst 2, 1) := dk_5 (dk_at dksX4_bestTarget_1 22 rfl rfl)
theorem dX4_bestTarget_45 : decode cX4_bestTarget 45 = .ok (.invokevirtual 60, 3) := dk_182 0 60 (dk_at dksX4_bestTarget_2 0 rfl rfl)
theorem dX4_bestTarget_48 : decode cX4_bestTarget 48 = .ok (.ifCond .ne 34, 3) := dk_154 0 34 (dk_at dksX4_bestTarget_2 3 rfl rfl)
theorem dX4_bestTarget_51 : decode cX4_bestTarget 51 = .ok (.aload_n 0, 1) := dk_42 (dk_at dksX4_bestTarget_2 6 rfl rfl)
theorem dX4_bestTarget_52 : decode cX4_bestTarget 52 = .ok (.aload_n 0, 1) := dk_42 (dk_at dksX4_bestTarget_2 7 rfl rfl)
theorem dX4_bestTarget_53 : decode cX4_bestTarget 53 = .ok (.getfield 38, 3) := dk_180 0 38 (dk_at dksX4_bestTarget_2 8 rfl rfl)
theorem dX4_bestTarget_56 : decode cX4_bestTarget 56 = .ok (.iload_n 1, 1) := dk_27 (dk_at dksX4_bestTarget_2 11 rfl rfl)
theorem dX4_bestTarget_57 : decode cX4_bestTarget 57 = .ok (.invokevirtual 147, 3) := dk_182 0 147 (dk_at dksX4_bestTarget_2 12 rfl rfl)
theorem dX4_bestTarget_60 : decode cX4_bestTarget 60 = .ok (.checkcast 130, 3) := dk_192 0 130 (dk_at dksX4_bestTarget_2 15 rfl rfl)
theorem dX4_bestTarget_63 : decode cX4_bestTarget 63 = .ok (.getfield 220, 3) := dk_180 0 220 (dk_at dksX4_bestTarget_2 18 rfl rfl)
theorem dX4_bestTarget_66 : decode cX4_bestTarget 66 = .ok (.iconst 1, 1) := dk_4 (dk_at dksX4_bestTarget_2 21 rfl rfl)
theorem dX4_bestTarget_67 : decode cX4_bestTarget 67 = .ok (.if_icmp .eq 7, 3) := dk_159 0 7 (dk_at dksX4_bestTarget_3 0 rfl rfl)
theorem dX4_bestTarget_70 : decode cX4_bestTarget 70 = .ok (.iconst 1, 1) := dk_4 (dk_at dksX4_bestTarget_3 3 rfl rfl)
theorem dX4_bestTarget_71 : decode cX4_bestTarget 71 = .ok (.goto 4, 3) := dk_167 0 4 (dk_at dksX4_bestTarget_3 4 rfl rfl)
theorem dX4_bestTarget_74 : decode cX4_bestTarget 74 = .ok (.iconst 0, 1) := dk_3 (dk_at dksX4_bestTarget_3 7 rfl rfl)
theorem dX4_bestTarget_75 : decode cX4_bestTarget 75 = .ok (.iconst 3, 1) := dk_6 (dk_at dksX4_bestTarget_3 8 rfl rfl)
theorem dX4_bestTarget_76 : decode cX4_bestTarget 76 = .ok (.invokevirtual 60, 3) := dk_182 0 60 (dk_at dksX4_bestTarget_3 9 rfl rfl)
theorem dX4_bestTarget_79 : decode cX4_bestTarget 79 = .ok (.ifCond .eq 7, 3) := dk_153 0 7 (dk_at dksX4_bestTarget_3 12 rfl rfl)
theorem dX4_bestTarget_82 : decode cX4_bestTarget 82 = .ok (.iconst 0, 1) := dk_3 (dk_at dksX4_bestTarget_3 15 rfl rfl)
theorem dX4_bestTarget_83 : decode cX4_bestTarget 83 = .ok (.goto 10, 3) := dk_167 0 10 (dk_at dksX4_bestTarget_3 16 rfl rfl)
theorem dX4_bestTarget_86 : decode cX4_bestTarget 86 = .ok (.aload_n 0, 1) := dk_42 (dk_at dksX4_bestTarget_3 19 rfl rfl)
theorem dX4_bestTarget_87 : decode cX4_bestTarget 87 = .ok (.iload_n 1, 1) := dk_27 (dk_at dksX4_bestTarget_3 20 rfl rfl)
theorem dX4_bestTarget_88 : decode cX4_bestTarget 88 = .ok (.iload_n 2, 1) := dk_28 (dk_at dksX4_bestTarget_3 21 rfl rfl)
theorem dX4_bestTarget_89 : decode cX4_bestTarget 89 = .ok (.iload_n 3, 1) := dk_29 (dk_at dksX4_bestTarget_3 22 rfl rfl)
theorem dX4_bestTarget_90 : decode cX4_bestTarget 90 = .ok (.invokevirtual 320, 3) := dk_182 1 64 (dk_at dksX4_bestTarget_4 0 rfl rfl)
theorem dX4_bestTarget_93 : decode cX4_bestTarget 93 = .ok (.ireturn, 1) := dk_172 (dk_at dksX4_bestTarget_4 3 rfl rfl)
abbrev cX4_bestTargetNow : ByteArray := prog_9_method_50_code
def yX4_bestTargetNow : MethodName := ⟨RX4, "bestTargetNow", "(III)I"⟩
def dkwX4_bestTargetNow_3 : List UInt8 := [132, 7, 1, 167, 255, 201, 21, 4, 172]
abbrev dktX4_bestTargetNow_3 : List UInt8 := dkwX4_bestTargetNow_3 ++ []
def dkwX4_bestTargetNow_2 : List UInt8 := [29, 182, 1, 61, 54, 8, 21, 8, 21, 5, 162, 0, 6, 167, 0, 11, 21, 8, 54, 5, 21, 7, 54, 4]
abbrev dktX4_bestTargetNow_2 : List UInt8 := dkwX4_bestTargetNow_2 ++ dktX4_bestTargetNow_3
def dkwX4_bestTargetNow_1 : List UInt8 := [163, 0, 54, 25, 6, 42, 180, 0, 44, 28, 50, 42, 180, 0, 38, 27, 182, 0, 147, 192, 0, 130, 21, 7]
abbrev dktX4_bestTargetNow_1 : List UInt8 := dkwX4_bestTargetNow_1 ++ dktX4_bestTargetNow_2
def dkwX4_bestTargetNow_0 : List UInt8 := [2, 54, 4, 4, 54, 5, 187, 1, 58, 89, 183, 1, 60, 58, 6, 4, 54, 7, 21, 7, 16, 40]
abbrev dktX4_bestTargetNow_0 : List UInt8 := dkwX4_bestTargetNow_0 ++ dktX4_bestTargetNow_1
theorem dksX4_bestTargetNow_0 : cX4_bestTargetNow.data.toList.drop 0 = dktX4_bestTargetNow_0 := by decide +kernel
theorem dksX4_bestTargetNow_1 : cX4_bestTargetNow.data.toList.drop 22 = dktX4_bestTargetNow_1 := dk_seg dksX4_bestTargetNow_0 22 rfl rfl
theorem dksX4_bestTargetNow_2 : cX4_bestTargetNow.data.toList.drop 46 = dktX4_bestTargetNow_2 := dk_seg dksX4_bestTargetNow_1 24 rfl rfl
theorem dksX4_bestTargetNow_3 : cX4_bestTargetNow.data.toList.drop 70 = dktX4_bestTargetNow_3 := dk_seg dksX4_bestTargetNow_2 24 rfl rfl
theorem dX4_bestTargetNow_0 : decode cX4_bestTargetNow 0 = .ok (.iconst (-1), 1) := dk_2 (dk_at dksX4_bestTargetNow_0 0 rfl rfl)
theorem dX4_bestTargetNow_1 : decode cX4_bestTargetNow 1 = .ok (.istore 4, 2) := dk_54 4 (dk_at dksX4_bestTargetNow_0 1 rfl rfl)
theorem dX4_bestTargetNow_3 : decode cX4_bestTargetNow 3 = .ok (.iconst 1, 1) := dk_4 (dk_at dksX4_bestTargetNow_0 3 rfl rfl)
theorem dX4_bestTargetNow_4 : decode cX4_bestTargetNow 4 = .ok (.istore 5, 2) := dk_54 5 (dk_at dksX4_bestTargetNow_0 4 rfl rfl)
theorem dX4_bestTargetNow_6 : decode cX4_bestTargetNow 6 = .ok (.new 314, 3) := dk_187 1 58 (dk_at dksX4_bestTargetNow_0 6 rfl rfl)
theorem dX4_bestTargetNow_9 : decode cX4_bestTargetNow 9 = .ok (.dup, 1) := dk_89 (dk_at dksX4_bestTargetNow_0 9 rfl rfl)
theorem dX4_bestTargetNow_10 : decode cX4_bestTargetNow 10 = .ok (.invokespecial 316, 3) := dk_183 1 60 (dk_at dksX4_bestTargetNow_0 10 rfl rfl)
theorem dX4_bestTargetNow_13 : decode cX4_bestTargetNow 13 = .ok (.astore 6, 2) := dk_58 6 (dk_at dksX4_bestTargetNow_0 13 rfl rfl)
theorem dX4_bestTargetNow_15 : decode cX4_bestTargetNow 15 = .ok (.iconst 1, 1) := dk_4 (dk_at dksX4_bestTargetNow_0 15 rfl rfl)
theorem dX4_bestTargetNow_16 : decode cX4_bestTargetNow 16 = .ok (.istore 7, 2) := dk_54 7 (dk_at dksX4_bestTargetNow_0 16 rfl rfl)
theorem dX4_bestTargetNow_18 : decode cX4_bestTargetNow 18 = .ok (.iload 7, 2) := dk_21 7 (dk_at dksX4_bestTargetNow_0 18 rfl rfl)
theorem dX4_bestTargetNow_20 : decode cX4_bestTargetNow 20 = .ok (.bipush 40, 2) := dk_16 40 (dk_at dksX4_bestTargetNow_0 20 rfl rfl)
theorem dX4_bestTargetNow_22 : decode cX4_bestTargetNow 22 = .ok (.if_icmp .gt 54, 3) := dk_163 0 54 (dk_at dksX4_bestTargetNow_1 0 rfl rfl)
theorem dX4_bestTargetNow_25 : decode cX4_bestTargetNow 25 = .ok (.aload 6, 2) := dk_25 6 (dk_at dksX4_bestTargetNow_1 3 rfl rfl)
theorem dX4_bestTargetNow_27 : decode cX4_bestTargetNow 27 = .ok (.aload_n 0, 1) := dk_42 (dk_at dksX4_bestTargetNow_1 5 rfl rfl)
theorem dX4_bestTargetNow_28 : decode cX4_bestTargetNow 28 = .ok (.getfield 44, 3) := dk_180 0 44 (dk_at dksX4_bestTargetNow_1 6 rfl rfl)
theorem dX4_bestTargetNow_31 : decode cX4_bestTargetNow 31 = .ok (.iload_n 2, 1) := dk_28 (dk_at dksX4_bestTargetNow_1 9 rfl rfl)
theorem dX4_bestTargetNow_32 : decode cX4_bestTargetNow 32 = .ok (.aaload, 1) := dk_50 (dk_at dksX4_bestTargetNow_1 10 rfl rfl)
theorem dX4_bestTargetNow_33 : decode cX4_bestTargetNow 33 = .ok (.aload_n 0, 1) := dk_42 (dk_at dksX4_bestTargetNow_1 11 rfl rfl)
theorem dX4_bestTargetNow_34 : decode cX4_bestTargetNow 34 = .ok (.getfield 38, 3) := dk_180 0 38 (dk_at dksX4_bestTargetNow_1 12 rfl rfl)
theorem dX4_bestTargetNow_37 : decode cX4_bestTargetNow 37 = .ok (.iload_n 1, 1) := dk_27 (dk_at dksX4_bestTargetNow_1 15 rfl rfl)
theorem dX4_bestTargetNow_38 : decode cX4_bestTargetNow 38 = .ok (.invokevirtual 147, 3) := dk_182 0 147 (dk_at dksX4_bestTargetNow_1 16 rfl rfl)
theorem dX4_bestTargetNow_41 : decode cX4_bestTargetNow 41 = .ok (.checkcast 130, 3) := dk_192 0 130 (dk_at dksX4_bestTargetNow_1 19 rfl rfl)
theorem dX4_bestTargetNow_44 : decode cX4_bestTargetNow 44 = .ok (.iload 7, 2) := dk_21 7 (dk_at dksX4_bestTargetNow_1 22 rfl rfl)
theorem dX4_bestTargetNow_46 : decode cX4_bestTargetNow 46 = .ok (.iload_n 3, 1) := dk_29 (dk_at dksX4_bestTargetNow_2 0 rfl rfl)
theorem dX4_bestTargetNow_47 : decode cX4_bestTargetNow 47 = .ok (.invokevirtual 317, 3) := dk_182 1 61 (dk_at dksX4_bestTargetNow_2 1 rfl rfl)
theorem dX4_bestTargetNow_50 : decode cX4_bestTargetNow 50 = .ok (.istore 8, 2) := dk_54 8 (dk_at dksX4_bestTargetNow_2 4 rfl rfl)
theorem dX4_bestTargetNow_52 : decode cX4_bestTargetNow 52 = .ok (.iload 8, 2) := dk_21 8 (dk_at dksX4_bestTargetNow_2 6 rfl rfl)
theorem dX4_bestTargetNow_54 : decode cX4_bestTargetNow 54 = .ok (.iload 5, 2) := dk_21 5 (dk_at dksX4_bestTargetNow_2 8 rfl rfl)
theorem dX4_bestTargetNow_56 : decode cX4_bestTargetNow 56 = .ok (.if_icmp .ge 6, 3) := dk_162 0 6 (dk_at dksX4_bestTargetNow_2 10 rfl rfl)
theorem dX4_bestTargetNow_59 : decode cX4_bestTargetNow 59 = .ok (.goto 11, 3) := dk_167 0 11 (dk_at dksX4_bestTargetNow_2 13 rfl rfl)
theorem dX4_bestTargetNow_62 : decode cX4_bestTargetNow 62 = .ok (.iload 8, 2) := dk_21 8 (dk_at dksX4_bestTargetNow_2 16 rfl rfl)
theorem dX4_bestTargetNow_64 : decode cX4_bestTargetNow 64 = .ok (.istore 5, 2) := dk_54 5 (dk_at dksX4_bestTargetNow_2 18 rfl rfl)
theorem dX4_bestTargetNow_66 : decode cX4_bestTargetNow 66 = .ok (.iload 7, 2) := dk_21 7 (dk_at dksX4_bestTargetNow_2 20 rfl rfl)
theorem dX4_bestTargetNow_68 : decode cX4_bestTargetNow 68 = .ok (.istore 4, 2) := dk_54 4 (dk_at dksX4_bestTargetNow_2 22 rfl rfl)
theorem dX4_bestTargetNow_70 : decode cX4_bestTargetNow 70 = .ok (.iinc 7 1, 3) := dk_132 7 1 (dk_at dksX4_bestTargetNow_3 0 rfl rfl)
theorem dX4_bestTargetNow_73 : decode cX4_bestTargetNow 73 = .ok (.goto (-55), 3) := dk_167 255 201 (dk_at dksX4_bestTargetNow_3 3 rfl rfl)
theorem dX4_bestTargetNow_76 : decode cX4_bestTargetNow 76 = .ok (.iload 4, 2) := dk_21 4 (dk_at dksX4_bestTargetNow_3 6 rfl rfl)
theorem dX4_bestTargetNow_78 : decode cX4_bestTargetNow 78 = .ok (.ireturn, 1) := dk_172 (dk_at dksX4_bestTargetNow_3 8 rfl rfl)
abbrev cX4_digest : ByteArray := prog_9_method_53_code
def yX4_digest : MethodName := ⟨RX4, "digest", "()J"⟩
def dkwX4_digest_14 : List UInt8 := [133, 184, 1, 72, 64, 132, 4, 1, 167, 255, 233, 132, 3, 1, 167, 255, 213, 31, 173]
abbrev dktX4_digest_14 : List UInt8 := dkwX4_digest_14 ++ []
def dkwX4_digest_13 : List UInt8 := [182, 0, 64, 162, 0, 38, 3, 54, 4, 21, 4, 16, 10, 162, 0, 22, 31, 42, 29, 21, 4, 182, 1, 49]
abbrev dktX4_digest_13 : List UInt8 := dkwX4_digest_13 ++ dktX4_digest_14
def dkwX4_digest_12 : List UInt8 := [133, 184, 1, 72, 64, 132, 4, 1, 167, 255, 234, 132, 3, 1, 167, 255, 220, 3, 62, 29, 42, 180, 0, 48]
abbrev dktX4_digest_12 : List UInt8 := dkwX4_digest_12 ++ dktX4_digest_13
def dkwX4_digest_11 : List UInt8 := [3, 62, 29, 5, 162, 0, 37, 3, 54, 4, 21, 4, 6, 162, 0, 22, 31, 42, 29, 21, 4, 182, 1, 34]
abbrev dktX4_digest_11 : List UInt8 := dkwX4_digest_11 ++ dktX4_digest_12
def dkwX4_digest_10 : List UInt8 := [4, 160, 0, 17, 31, 42, 29, 3, 16, 8, 182, 1, 64, 133, 184, 1, 72, 64, 132, 3, 1, 167, 255, 181]
abbrev dktX4_digest_10 : List UInt8 := dkwX4_digest_10 ++ dktX4_digest_11
def dkwX4_digest_9 : List UInt8 := [184, 1, 72, 64, 132, 4, 1, 167, 255, 233, 42, 180, 0, 38, 29, 182, 0, 147, 192, 0, 130, 180, 0, 220]
abbrev dktX4_digest_9 : List UInt8 := dkwX4_digest_9 ++ dktX4_digest_10
def dkwX4_digest_8 : List UInt8 := [162, 0, 70, 3, 54, 4, 21, 4, 16, 9, 162, 0, 22, 31, 42, 29, 21, 4, 182, 1, 24, 133]
abbrev dktX4_digest_8 : List UInt8 := dkwX4_digest_8 ++ dktX4_digest_9
def dkwX4_digest_7 : List UInt8 := [182, 1, 55, 133, 184, 1, 72, 64, 132, 3, 1, 167, 255, 207, 3, 62, 29, 42, 180, 0, 38, 182, 0, 64]
abbrev dktX4_digest_7 : List UInt8 := dkwX4_digest_7 ++ dktX4_digest_8
def dkwX4_digest_6 : List UInt8 := [31, 42, 29, 21, 4, 182, 1, 17, 133, 184, 1, 72, 64, 132, 4, 1, 167, 255, 233, 31, 42, 29]
abbrev dktX4_digest_6 : List UInt8 := dkwX4_digest_6 ++ dktX4_digest_7
def dkwX4_digest_5 : List UInt8 := [132, 3, 1, 167, 255, 220, 3, 62, 29, 16, 6, 162, 0, 49, 3, 54, 4, 21, 4, 16, 12, 162, 0, 22]
abbrev dktX4_digest_5 : List UInt8 := dkwX4_digest_5 ++ dktX4_digest_6
def dkwX4_digest_4 : List UInt8 := [6, 162, 0, 22, 31, 42, 29, 21, 4, 182, 1, 5, 133, 184, 1, 72, 64, 132, 4, 1, 167, 255, 234]
abbrev dktX4_digest_4 : List UInt8 := dkwX4_digest_4 ++ dktX4_digest_5
def dkwX4_digest_3 : List UInt8 := [132, 4, 1, 167, 255, 233, 132, 3, 1, 167, 255, 213, 3, 62, 29, 7, 162, 0, 37, 3, 54, 4, 21, 4]
abbrev dktX4_digest_3 : List UInt8 := dkwX4_digest_3 ++ dktX4_digest_4
def dkwX4_digest_2 : List UInt8 := [54, 4, 21, 4, 16, 6, 162, 0, 22, 31, 42, 29, 21, 4, 182, 1, 2, 133, 184, 1, 72, 64]
abbrev dktX4_digest_2 : List UInt8 := dkwX4_digest_2 ++ dktX4_digest_3
def dkwX4_digest_1 : List UInt8 := [184, 1, 72, 64, 132, 3, 1, 167, 255, 236, 3, 62, 29, 42, 180, 0, 22, 182, 0, 64, 162, 0, 38, 3]
abbrev dktX4_digest_1 : List UInt8 := dkwX4_digest_1 ++ dktX4_digest_2
def dkwX4_digest_0 : List UInt8 := [42, 3, 181, 0, 57, 20, 1, 70, 64, 3, 62, 29, 16, 12, 162, 0, 20, 31, 42, 29, 182, 1, 52, 133]
abbrev dktX4_digest_0 : List UInt8 := dkwX4_digest_0 ++ dktX4_digest_1
theorem dksX4_digest_0 : cX4_digest.data.toList.drop 0 = dktX4_digest_0 := by decide +kernel
theorem dksX4_digest_1 : cX4_digest.data.toList.drop 24 = dktX4_digest_1 := dk_seg dksX4_digest_0 24 rfl rfl
theorem dksX4_digest_2 : cX4_digest.data.toList.drop 48 = dktX4_digest_2 := dk_seg dksX4_digest_1 24 rfl rfl
theorem dksX4_digest_3 : cX4_digest.data.toList.drop 70 = dktX4_digest_3 := dk_seg dksX4_digest_2 22 rfl rfl
theorem dksX4_digest_4 : cX4_digest.data.toList.drop 94 = dktX4_digest_4 := dk_seg dksX4_digest_3 24 rfl rfl
theorem dksX4_digest_5 : cX4_digest.data.toList.drop 117 = dktX4_digest_5 := dk_seg dksX4_digest_4 23 rfl rfl
theorem dksX4_digest_6 : cX4_digest.data.toList.drop 141 = dktX4_digest_6 := dk_seg dksX4_digest_5 24 rfl rfl
theorem dksX4_digest_7 : cX4_digest.data.toList.drop 163 = dktX4_digest_7 := dk_seg dksX4_digest_6 22 rfl rfl
theorem dksX4_digest_8 : cX4_digest.data.toList.drop 187 = dktX4_digest_8 := dk_seg dksX4_digest_7 24 rfl rfl
theorem dksX4_digest_9 : cX4_digest.data.toList.drop 209 = dktX4_digest_9 := dk_seg dksX4_digest_8 22 rfl rfl
theorem dksX4_digest_10 : cX4_digest.data.toList.drop 233 = dktX4_digest_10 := dk_seg dksX4_digest_9 24 rfl rfl
theorem dksX4_digest_11 : cX4_digest.data.toList.drop 257 = dktX4_digest_11 := dk_seg dksX4_digest_10 24 rfl rfl
theorem dksX4_digest_12 : cX4_digest.data.toList.drop 281 = dktX4_digest_12 := dk_seg dksX4_digest_11 24 rfl rfl
theorem dksX4_digest_13 : cX4_digest.data.toList.drop 305 = dktX4_digest_13 := dk_seg dksX4_digest_12 24 rfl rfl
theorem dksX4_digest_14 : cX4_digest.data.toList.drop 329 = dktX4_digest_14 := dk_seg dksX4_digest_13 24 rfl rfl
theorem dX4_digest_0 : decode cX4_digest 0 = .ok (.aload_n 0, 1) := dk_42 (dk_at dksX4_digest_0 0 rfl rfl)
theorem dX4_digest_1 : decode cX4_digest 1 = .ok (.iconst 0, 1) := dk_3 (dk_at dksX4_digest_0 1 rfl rfl)
theorem dX4_digest_2 : decode cX4_digest 2 = .ok (.putfield 57, 3) := dk_181 0 57 (dk_at dksX4_digest_0 2 rfl rfl)
theorem dX4_digest_5 : decode cX4_digest 5 = .ok (.ldc2_w 326, 3) := dk_20 1 70 (dk_at dksX4_digest_0 5 rfl rfl)
theorem dX4_digest_8 : decode cX4_digest 8 = .ok (.lstore_n 1, 1) := dk_64 (dk_at dksX4_digest_0 8 rfl rfl)
theorem dX4_digest_9 : decode cX4_digest 9 = .ok (.iconst 0, 1) := dk_3 (dk_at dksX4_digest_0 9 rfl rfl)
theorem dX4_digest_10 : decode cX4_digest 10 = .ok (.istore_n 3, 1) := dk_62 (dk_at dksX4_digest_0 10 rfl rfl)
theorem dX4_digest_11 : decode cX4_digest 11 = .ok (.iload_n 3, 1) := dk_29 (dk_at dksX4_digest_0 11 rfl rfl)
theorem dX4_digest_12 : decode cX4_digest 12 = .ok (.bipush 12, 2) := dk_16 12 (dk_at dksX4_digest_0 12 rfl rfl)
theorem dX4_digest_14 : decode cX4_digest 14 = .ok (.if_icmp .ge 20, 3) := dk_162 0 20 (dk_at dksX4_digest_0 14 rfl rfl)
theorem dX4_digest_17 : decode cX4_digest 17 = .ok (.lload_n 1, 1) := dk_31 (dk_at dksX4_digest_0 17 rfl rfl)
theorem dX4_digest_18 : decode cX4_digest 18 = .ok (.aload_n 0, 1) := dk_42 (dk_at dksX4_digest_0 18 rfl rfl)
theorem dX4_digest_19 : decode cX4_digest 19 = .ok (.iload_n 3, 1) := dk_29 (dk_at dksX4_digest_0 19 rfl rfl)
theorem dX4_digest_20 : decode cX4_digest 20 = .ok (.invokevirtual 308, 3) := dk_182 1 52 (dk_at dksX4_digest_0 20 rfl rfl)
theorem dX4_digest_23 : decode cX4_digest 23 = .ok (.i2l, 1) := dk_133 (dk_at dksX4_digest_0 23 rfl rfl)
theorem dX4_digest_24 : decode cX4_digest 24 = .ok (.invokestatic 328, 3) := dk_184 1 72 (dk_at dksX4_digest_1 0 rfl rfl)
theorem dX4_digest_27 : decode cX4_digest 27 = .ok (.lstore_n 1, 1) := dk_64 (dk_at dksX4_digest_1 3 rfl rfl)
theorem dX4_digest_28 : decode cX4_digest 28 = .ok (.iinc 3 1, 3) := dk_132 3 1 (dk_at dksX4_digest_1 4 rfl rfl)
theorem dX4_digest_31 : decode cX4_digest 31 = .ok (.goto (-20), 3) := dk_167 255 236 (dk_at dksX4_digest_1 7 rfl rfl)
theorem dX4_digest_34 : decode cX4_digest 34 = .ok (.iconst 0, 1) := dk_3 (dk_at dksX4_digest_1 10 rfl rfl)
theorem dX4_digest_35 : decode cX4_digest 35 = .ok (.istore_n 3, 1) := dk_62 (dk_at dksX4_digest_1 11 rfl rfl)
theorem dX4_digest_36 : decode cX4_digest 36 = .ok (.iload_n 3, 1) := dk_29 (dk_at dksX4_digest_1 12 rfl rfl)
theorem dX4_digest_37 : decode cX4_digest 37 = .ok (.aload_n 0, 1) := dk_42 (dk_at dksX4_digest_1 13 rfl rfl)
theorem dX4_digest_38 : decode cX4_digest 38 = .ok (.getfield 22, 3) := dk_180 0 22 (dk_at dksX4_digest_1 14 rfl rfl)
theorem dX4_digest_41 : decode cX4_digest 41 = .ok (.invokevirtual 64, 3) := dk_182 0 64 (dk_at dksX4_digest_1 17 rfl rfl)
theorem dX4_digest_44 : decode cX4_digest 44 = .ok (.if_icmp .ge 38, 3) := dk_162 0 38 (dk_at dksX4_digest_1 20 rfl rfl)
theorem dX4_digest_47 : decode cX4_digest 47 = .ok (.iconst 0, 1) := dk_3 (dk_at dksX4_digest_1 23 rfl rfl)
theorem dX4_digest_48 : decode cX4_digest 48 = .ok (.istore 4, 2) := dk_54 4 (dk_at dksX4_digest_2 0 rfl rfl)
theorem dX4_digest_50 : decode cX4_digest 50 = .ok (.iload 4, 2) := dk_21 4 (dk_at dksX4_digest_2 2 rfl rfl)
theorem dX4_digest_52 : decode cX4_digest 52 = .ok (.bipush 6, 2) := dk_16 6 (dk_at dksX4_digest_2 4 rfl rfl)
theorem dX4_digest_54 : decode cX4_digest 54 = .ok (.if_icmp .ge 22, 3) := dk_162 0 22 (dk_at dksX4_digest_2 6 rfl rfl)
theorem dX4_digest_57 : decode cX4_digest 57 = .ok (.lload_n 1, 1) := dk_31 (dk_at dksX4_digest_2 9 rfl rfl)
theorem dX4_digest_58 : decode cX4_digest 58 = .ok (.aload_n 0, 1) := dk_42 (dk_at dksX4_digest_2 10 rfl rfl)
theorem dX4_digest_59 : decode cX4_digest 59 = .ok (.iload_n 3, 1) := dk_29 (dk_at dksX4_digest_2 11 rfl rfl)
theorem dX4_digest_60 : decode cX4_digest 60 = .ok (.iload 4, 2) := dk_21 4 (dk_at dksX4_digest_2 12 rfl rfl)
theorem dX4_digest_62 : decode cX4_digest 62 = .ok (.invokevirtual 258, 3) := dk_182 1 2 (dk_at dksX4_digest_2 14 rfl rfl)
theorem dX4_digest_65 : decode cX4_digest 65 = .ok (.i2l, 1) := dk_133 (dk_at dksX4_digest_2 17 rfl rfl)
theorem dX4_digest_66 : decode cX4_digest 66 = .ok (.invokestatic 328, 3) := dk_184 1 72 (dk_at dksX4_digest_2 18 rfl rfl)
theorem dX4_digest_69 : decode cX4_digest 69 = .ok (.lstore_n 1, 1) := dk_64 (dk_at dksX4_digest_2 21 rfl rfl)
theorem dX4_digest_70 : decode cX4_digest 70 = .ok (.iinc 4 1, 3) := dk_132 4 1 (dk_at dksX4_digest_3 0 rfl rfl)
theorem dX4_digest_73 : decode cX4_digest 73 = .ok (.goto (-23), 3) := dk_167 255 233 (dk_at dksX4_digest_3 3 rfl rfl)
theorem dX4_digest_76 : decode cX4_digest 76 = .ok (.iinc 3 1, 3) := dk_132 3 1 (dk_at dksX4_digest_3 6 rfl rfl)
theorem dX4_digest_79 : decode cX4_digest 79 = .ok (.goto (-43), 3) := dk_167 255 213 (dk_at dksX4_digest_3 9 rfl rfl)
theorem dX4_digest_82 : decode cX4_digest 82 = .ok (.iconst 0, 1) := dk_3 (dk_at dksX4_digest_3 12 rfl rfl)
theorem dX4_digest_83 : decode cX4_digest 83 = .ok (.istore_n 3, 1) := dk_62 (dk_at dksX4_digest_3 13 rfl rfl)
theorem dX4_digest_84 : decode cX4_digest 84 = .ok (.iload_n 3, 1) := dk_29 (dk_at dksX4_digest_3 14 rfl rfl)
theorem dX4_digest_85 : decode cX4_digest 85 = .ok (.iconst 4, 1) := dk_7 (dk_at dksX4_digest_3 15 rfl rfl)
theorem dX4_digest_86 : decode cX4_digest 86 = .ok (.if_icmp .ge 37, 3) := dk_162 0 37 (dk_at dksX4_digest_3 16 rfl rfl)
theorem dX4_digest_89 : decode cX4_digest 89 = .ok (.iconst 0, 1) := dk_3 (dk_at dksX4_digest_3 19 rfl rfl)
theorem dX4_digest_90 : decode cX4_digest 90 = .ok (.istore 4, 2) := dk_54 4 (dk_at dksX4_digest_3 20 rfl rfl)
theorem dX4_digest_92 : decode cX4_digest 92 = .ok (.iload 4, 2) := dk_21 4 (dk_at dksX4_digest_3 22 rfl rfl)
theorem dX4_digest_94 : decode cX4_digest 94 = .ok (.iconst 3, 1) := dk_6 (dk_at dksX4_digest_4 0 rfl rfl)
theorem dX4_digest_95 : decode cX4_digest 95 = .ok (.if_icmp .ge 22, 3) := dk_162 0 22 (dk_at dksX4_digest_4 1 rfl rfl)
theorem dX4_digest_98 : decode cX4_digest 98 = .ok (.lload_n 1, 1) := dk_31 (dk_at dksX4_digest_4 4 rfl rfl)
theorem dX4_digest_99 : decode cX4_digest 99 = .ok (.aload_n 0, 1) := dk_42 (dk_at dksX4_digest_4 5 rfl rfl)
theorem dX4_digest_100 : decode cX4_digest 100 = .ok (.iload_n 3, 1) := dk_29 (dk_at dksX4_digest_4 6 rfl rfl)
theorem dX4_digest_101 : decode cX4_digest 101 = .ok (.iload 4, 2) := dk_21 4 (dk_at dksX4_digest_4 7 rfl rfl)
theorem dX4_digest_103 : decode cX4_digest 103 = .ok (.invokevirtual 261, 3) := dk_182 1 5 (dk_at dksX4_digest_4 9 rfl rfl)
theorem dX4_digest_106 : decode cX4_digest 106 = .ok (.i2l, 1) := dk_133 (dk_at dksX4_digest_4 12 rfl rfl)
theorem dX4_digest_107 : decode cX4_digest 107 = .ok (.invokestatic 328, 3) := dk_184 1 72 (dk_at dksX4_digest_4 13 rfl rfl)
theorem dX4_digest_110 : decode cX4_digest 110 = .ok (.lstore_n 1, 1) := dk_64 (dk_at dksX4_digest_4 16 rfl rfl)
theorem dX4_digest_111 : decode cX4_digest 111 = .ok (.iinc 4 1, 3) := dk_132 4 1 (dk_at dksX4_digest_4 17 rfl rfl)
theorem dX4_digest_114 : decode cX4_digest 114 = .ok (.goto (-22), 3) := dk_167 255 234 (dk_at dksX4_digest_4 20 rfl rfl)
theorem dX4_digest_117 : decode cX4_digest 117 = .ok (.iinc 3 1, 3) := dk_132 3 1 (dk_at dksX4_digest_5 0 rfl rfl)
theorem dX4_digest_120 : decode cX4_digest 120 = .ok (.goto (-36), 3) := dk_167 255 220 (dk_at dksX4_digest_5 3 rfl rfl)
theorem dX4_digest_123 : decode cX4_digest 123 = .ok (.iconst 0, 1) := dk_3 (dk_at dksX4_digest_5 6 rfl rfl)
theorem dX4_digest_124 : decode cX4_digest 124 = .ok (.istore_n 3, 1) := dk_62 (dk_at dksX4_digest_5 7 rfl rfl)
theorem dX4_digest_125 : decode cX4_digest 125 = .ok (.iload_n 3, 1) := dk_29 (dk_at dksX4_digest_5 8 rfl rfl)
theorem dX4_digest_126 : decode cX4_digest 126 = .ok (.bipush 6, 2) := dk_16 6 (dk_at dksX4_digest_5 9 rfl rfl)
theorem dX4_digest_128 : decode cX4_digest 128 = .ok (.if_icmp .ge 49, 3) := dk_162 0 49 (dk_at dksX4_digest_5 11 rfl rfl)
theorem dX4_digest_131 : decode cX4_digest 131 = .ok (.iconst 0, 1) := dk_3 (dk_at dksX4_digest_5 14 rfl rfl)
theorem dX4_digest_132 : decode cX4_digest 132 = .ok (.istore 4, 2) := dk_54 4 (dk_at dksX4_digest_5 15 rfl rfl)
theorem dX4_digest_134 : decode cX4_digest 134 = .ok (.iload 4, 2) := dk_21 4 (dk_at dksX4_digest_5 17 rfl rfl)
theorem dX4_digest_136 : decode cX4_digest 136 = .ok (.bipush 12, 2) := dk_16 12 (dk_at dksX4_digest_5 19 rfl rfl)
theorem dX4_digest_138 : decode cX4_digest 138 = .ok (.if_icmp .ge 22, 3) := dk_162 0 22 (dk_at dksX4_digest_5 21 rfl rfl)
theorem dX4_digest_141 : decode cX4_digest 141 = .ok (.lload_n 1, 1) := dk_31 (dk_at dksX4_digest_6 0 rfl rfl)
theorem dX4_digest_142 : decode cX4_digest 142 = .ok (.aload_n 0, 1) := dk_42 (dk_at dksX4_digest_6 1 rfl rfl)
theorem dX4_digest_143 : decode cX4_digest 143 = .ok (.iload_n 3, 1) := dk_29 (dk_at dksX4_digest_6 2 rfl rfl)
theorem dX4_digest_144 : decode cX4_digest 144 = .ok (.iload 4, 2) := dk_21 4 (dk_at dksX4_digest_6 3 rfl rfl)
theorem dX4_digest_146 : decode cX4_digest 146 = .ok (.invokevirtual 273, 3) := dk_182 1 17 (dk_at dksX4_digest_6 5 rfl rfl)
theorem dX4_digest_149 : decode cX4_digest 149 = .ok (.i2l, 1) := dk_133 (dk_at dksX4_digest_6 8 rfl rfl)
theorem dX4_digest_150 : decode cX4_digest 150 = .ok (.invokestatic 328, 3) := dk_184 1 72 (dk_at dksX4_digest_6 9 rfl rfl)
theorem dX4_digest_153 : decode cX4_digest 153 = .ok (.lstore_n 1, 1) := dk_64 (dk_at dksX4_digest_6 12 rfl rfl)
theorem dX4_digest_154 : decode cX4_digest 154 = .ok (.iinc 4 1, 3) := dk_132 4 1 (dk_at dksX4_digest_6 13 rfl rfl)
theorem dX4_digest_157 : decode cX4_digest 157 = .ok (.goto (-23), 3) := dk_167 255 233 (dk_at dksX4_digest_6 16 rfl rfl)
theorem dX4_digest_160 : decode cX4_digest 160 = .ok (.lload_n 1, 1) := dk_31 (dk_at dksX4_digest_6 19 rfl rfl)
theorem dX4_digest_161 : decode cX4_digest 161 = .ok (.aload_n 0, 1) := dk_42 (dk_at dksX4_digest_6 20 rfl rfl)
theorem dX4_digest_162 : decode cX4_digest 162 = .ok (.iload_n 3, 1) := dk_29 (dk_at dksX4_digest_6 21 rfl rfl)
theorem dX4_digest_163 : decode cX4_digest 163 = .ok (.invokevirtual 311, 3) := dk_182 1 55 (dk_at dksX4_digest_7 0 rfl rfl)
theorem dX4_digest_166 : decode cX4_digest 166 = .ok (.i2l, 1) := dk_133 (dk_at dksX4_digest_7 3 rfl rfl)
theorem dX4_digest_167 : decode cX4_digest 167 = .ok (.invokestatic 328, 3) := dk_184 1 72 (dk_at dksX4_digest_7 4 rfl rfl)
theorem dX4_digest_170 : decode cX4_digest 170 = .ok (.lstore_n 1, 1) := dk_64 (dk_at dksX4_digest_7 7 rfl rfl)
theorem dX4_digest_171 : decode cX4_digest 171 = .ok (.iinc 3 1, 3) := dk_132 3 1 (dk_at dksX4_digest_7 8 rfl rfl)
theorem dX4_digest_174 : decode cX4_digest 174 = .ok (.goto (-49), 3) := dk_167 255 207 (dk_at dksX4_digest_7 11 rfl rfl)
theorem dX4_digest_177 : decode cX4_digest 177 = .ok (.iconst 0, 1) := dk_3 (dk_at dksX4_digest_7 14 rfl rfl)
theorem dX4_digest_178 : decode cX4_digest 178 = .ok (.istore_n 3, 1) := dk_62 (dk_at dksX4_digest_7 15 rfl rfl)
theorem dX4_digest_179 : decode cX4_digest 179 = .ok (.iload_n 3, 1) := dk_29 (dk_at dksX4_digest_7 16 rfl rfl)
theorem dX4_digest_180 : decode cX4_digest 180 = .ok (.aload_n 0, 1) := dk_42 (dk_at dksX4_digest_7 17 rfl rfl)
theorem dX4_digest_181 : decode cX4_digest 181 = .ok (.getfield 38, 3) := dk_180 0 38 (dk_at dksX4_digest_7 18 rfl rfl)
theorem dX4_digest_184 : decode cX4_digest 184 = .ok (.invokevirtual 64, 3) := dk_182 0 64 (dk_at dksX4_digest_7 21 rfl rfl)
theorem dX4_digest_187 : decode cX4_digest 187 = .ok (.if_icmp .ge 70, 3) := dk_162 0 70 (dk_at dksX4_digest_8 0 rfl rfl)
theorem dX4_digest_190 : decode cX4_digest 190 = .ok (.iconst 0, 1) := dk_3 (dk_at dksX4_digest_8 3 rfl rfl)
theorem dX4_digest_191 : decode cX4_digest 191 = .ok (.istore 4, 2) := dk_54 4 (dk_at dksX4_digest_8 4 rfl rfl)
theorem dX4_digest_193 : decode cX4_digest 193 = .ok (.iload 4, 2) := dk_21 4 (dk_at dksX4_digest_8 6 rfl rfl)
theorem dX4_digest_195 : decode cX4_digest 195 = .ok (.bipush 9, 2) := dk_16 9 (dk_at dksX4_digest_8 8 rfl rfl)
theorem dX4_digest_197 : decode cX4_digest 197 = .ok (.if_icmp .ge 22, 3) := dk_162 0 22 (dk_at dksX4_digest_8 10 rfl rfl)
theorem dX4_digest_200 : decode cX4_digest 200 = .ok (.lload_n 1, 1) := dk_31 (dk_at dksX4_digest_8 13 rfl rfl)
theorem dX4_digest_201 : decode cX4_digest 201 = .ok (.aload_n 0, 1) := dk_42 (dk_at dksX4_digest_8 14 rfl rfl)
theorem dX4_digest_202 : decode cX4_digest 202 = .ok (.iload_n 3, 1) := dk_29 (dk_at dksX4_digest_8 15 rfl rfl)
theorem dX4_digest_203 : decode cX4_digest 203 = .ok (.iload 4, 2) := dk_21 4 (dk_at dksX4_digest_8 16 rfl rfl)
theorem dX4_digest_205 : decode cX4_digest 205 = .ok (.invokevirtual 280, 3) := dk_182 1 24 (dk_at dksX4_digest_8 18 rfl rfl)
theorem dX4_digest_208 : decode cX4_digest 208 = .ok (.i2l, 1) := dk_133 (dk_at dksX4_digest_8 21 rfl rfl)
theorem dX4_digest_209 : decode cX4_digest 209 = .ok (.invokestatic 328, 3) := dk_184 1 72 (dk_at dksX4_digest_9 0 rfl rfl)
theorem dX4_digest_212 : decode cX4_digest 212 = .ok (.lstore_n 1, 1) := dk_64 (dk_at dksX4_digest_9 3 rfl rfl)
theorem dX4_digest_213 : decode cX4_digest 213 = .ok (.iinc 4 1, 3) := dk_132 4 1 (dk_at dksX4_digest_9 4 rfl rfl)
theorem dX4_digest_216 : decode cX4_digest 216 = .ok (.goto (-23), 3) := dk_167 255 233 (dk_at dksX4_digest_9 7 rfl rfl)
theorem dX4_digest_219 : decode cX4_digest 219 = .ok (.aload_n 0, 1) := dk_42 (dk_at dksX4_digest_9 10 rfl rfl)
theorem dX4_digest_220 : decode cX4_digest 220 = .ok (.getfield 38, 3) := dk_180 0 38 (dk_at dksX4_digest_9 11 rfl rfl)
theorem dX4_digest_223 : decode cX4_digest 223 = .ok (.iload_n 3, 1) := dk_29 (dk_at dksX4_digest_9 14 rfl rfl)
theorem dX4_digest_224 : decode cX4_digest 224 = .ok (.invokevirtual 147, 3) := dk_182 0 147 (dk_at dksX4_digest_9 15 rfl rfl)
theorem dX4_digest_227 : decode cX4_digest 227 = .ok (.checkcast 130, 3) := dk_192 0 130 (dk_at dksX4_digest_9 18 rfl rfl)
theorem dX4_digest_230 : decode cX4_digest 230 = .ok (.getfield 220, 3) := dk_180 0 220 (dk_at dksX4_digest_9 21 rfl rfl)
theorem dX4_digest_233 : decode cX4_digest 233 = .ok (.iconst 1, 1) := dk_4 (dk_at dksX4_digest_10 0 rfl rfl)
theorem dX4_digest_234 : decode cX4_digest 234 = .ok (.if_icmp .ne 17, 3) := dk_160 0 17 (dk_at dksX4_digest_10 1 rfl rfl)
theorem dX4_digest_237 : decode cX4_digest 237 = .ok (.lload_n 1, 1) := dk_31 (dk_at dksX4_digest_10 4 rfl rfl)
theorem dX4_digest_238 : decode cX4_digest 238 = .ok (.aload_n 0, 1) := dk_42 (dk_at dksX4_digest_10 5 rfl rfl)
theorem dX4_digest_239 : decode cX4_digest 239 = .ok (.iload_n 3, 1) := dk_29 (dk_at dksX4_digest_10 6 rfl rfl)
theorem dX4_digest_240 : decode cX4_digest 240 = .ok (.iconst 0, 1) := dk_3 (dk_at dksX4_digest_10 7 rfl rfl)
theorem dX4_digest_241 : decode cX4_digest 241 = .ok (.bipush 8, 2) := dk_16 8 (dk_at dksX4_digest_10 8 rfl rfl)
theorem dX4_digest_243 : decode cX4_digest 243 = .ok (.invokevirtual 320, 3) := dk_182 1 64 (dk_at dksX4_digest_10 10 rfl rfl)
theorem dX4_digest_246 : decode cX4_digest 246 = .ok (.i2l, 1) := dk_133 (dk_at dksX4_digest_10 13 rfl rfl)
theorem dX4_digest_247 : decode cX4_digest 247 = .ok (.invokestatic 328, 3) := dk_184 1 72 (dk_at dksX4_digest_10 14 rfl rfl)
theorem dX4_digest_250 : decode cX4_digest 250 = .ok (.lstore_n 1, 1) := dk_64 (dk_at dksX4_digest_10 17 rfl rfl)
theorem dX4_digest_251 : decode cX4_digest 251 = .ok (.iinc 3 1, 3) := dk_132 3 1 (dk_at dksX4_digest_10 18 rfl rfl)
theorem dX4_digest_254 : decode cX4_digest 254 = .ok (.goto (-75), 3) := dk_167 255 181 (dk_at dksX4_digest_10 21 rfl rfl)
theorem dX4_digest_257 : decode cX4_digest 257 = .ok (.iconst 0, 1) := dk_3 (dk_at dksX4_digest_11 0 rfl rfl)
theorem dX4_digest_258 : decode cX4_digest 258 = .ok (.istore_n 3, 1) := dk_62 (dk_at dksX4_digest_11 1 rfl rfl)
theorem dX4_digest_259 : decode cX4_digest 259 = .ok (.iload_n 3, 1) := dk_29 (dk_at dksX4_digest_11 2 rfl rfl)
theorem dX4_digest_260 : decode cX4_digest 260 = .ok (.iconst 2, 1) := dk_5 (dk_at dksX4_digest_11 3 rfl rfl)
theorem dX4_digest_261 : decode cX4_digest 261 = .ok (.if_icmp .ge 37, 3) := dk_162 0 37 (dk_at dksX4_digest_11 4 rfl rfl)
theorem dX4_digest_264 : decode cX4_digest 264 = .ok (.iconst 0, 1) := dk_3 (dk_at dksX4_digest_11 7 rfl rfl)
theorem dX4_digest_265 : decode cX4_digest 265 = .ok (.istore 4, 2) := dk_54 4 (dk_at dksX4_digest_11 8 rfl rfl)
theorem dX4_digest_267 : decode cX4_digest 267 = .ok (.iload 4, 2) := dk_21 4 (dk_at dksX4_digest_11 10 rfl rfl)
theorem dX4_digest_269 : decode cX4_digest 269 = .ok (.iconst 3, 1) := dk_6 (dk_at dksX4_digest_11 12 rfl rfl)
theorem dX4_digest_270 : decode cX4_digest 270 = .ok (.if_icmp .ge 22, 3) := dk_162 0 22 (dk_at dksX4_digest_11 13 rfl rfl)
theorem dX4_digest_273 : decode cX4_digest 273 = .ok (.lload_n 1, 1) := dk_31 (dk_at dksX4_digest_11 16 rfl rfl)
theorem dX4_digest_274 : decode cX4_digest 274 = .ok (.aload_n 0, 1) := dk_42 (dk_at dksX4_digest_11 17 rfl rfl)
theorem dX4_digest_275 : decode cX4_digest 275 = .ok (.iload_n 3, 1) := dk_29 (dk_at dksX4_digest_11 18 rfl rfl)
theorem dX4_digest_276 : decode cX4_digest 276 = .ok (.iload 4, 2) := dk_21 4 (dk_at dksX4_digest_11 19 rfl rfl)
theorem dX4_digest_278 : decode cX4_digest 278 = .ok (.invokevirtual 290, 3) := dk_182 1 34 (dk_at dksX4_digest_11 21 rfl rfl)
theorem dX4_digest_281 : decode cX4_digest 281 = .ok (.i2l, 1) := dk_133 (dk_at dksX4_digest_12 0 rfl rfl)
theorem dX4_digest_282 : decode cX4_digest 282 = .ok (.invokestatic 328, 3) := dk_184 1 72 (dk_at dksX4_digest_12 1 rfl rfl)
theorem dX4_digest_285 : decode cX4_digest 285 = .ok (.lstore_n 1, 1) := dk_64 (dk_at dksX4_digest_12 4 rfl rfl)
theorem dX4_digest_286 : decode cX4_digest 286 = .ok (.iinc 4 1, 3) := dk_132 4 1 (dk_at dksX4_digest_12 5 rfl rfl)
theorem dX4_digest_289 : decode cX4_digest 289 = .ok (.goto (-22), 3) := dk_167 255 234 (dk_at dksX4_digest_12 8 rfl rfl)
theorem dX4_digest_292 : decode cX4_digest 292 = .ok (.iinc 3 1, 3) := dk_132 3 1 (dk_at dksX4_digest_12 11 rfl rfl)
theorem dX4_digest_295 : decode cX4_digest 295 = .ok (.goto (-36), 3) := dk_167 255 220 (dk_at dksX4_digest_12 14 rfl rfl)
theorem dX4_digest_298 : decode cX4_digest 298 = .ok (.iconst 0, 1) := dk_3 (dk_at dksX4_digest_12 17 rfl rfl)
theorem dX4_digest_299 : decode cX4_digest 299 = .ok (.istore_n 3, 1) := dk_62 (dk_at dksX4_digest_12 18 rfl rfl)
theorem dX4_digest_300 : decode cX4_digest 300 = .ok (.iload_n 3, 1) := dk_29 (dk_at dksX4_digest_12 19 rfl rfl)
theorem dX4_digest_301 : decode cX4_digest 301 = .ok (.aload_n 0, 1) := dk_42 (dk_at dksX4_digest_12 20 rfl rfl)
theorem dX4_digest_302 : decode cX4_digest 302 = .ok (.getfield 48, 3) := dk_180 0 48 (dk_at dksX4_digest_12 21 rfl rfl)
theorem dX4_digest_305 : decode cX4_digest 305 = .ok (.invokevirtual 64, 3) := dk_182 0 64 (dk_at dksX4_digest_13 0 rfl rfl)
theorem dX4_digest_308 : decode cX4_digest 308 = .ok (.if_icmp .ge 38, 3) := dk_162 0 38 (dk_at dksX4_digest_13 3 rfl rfl)
theorem dX4_digest_311 : decode cX4_digest 311 = .ok (.iconst 0, 1) := dk_3 (dk_at dksX4_digest_13 6 rfl rfl)
theorem dX4_digest_312 : decode cX4_digest 312 = .ok (.istore 4, 2) := dk_54 4 (dk_at dksX4_digest_13 7 rfl rfl)
theorem dX4_digest_314 : decode cX4_digest 314 = .ok (.iload 4, 2) := dk_21 4 (dk_at dksX4_digest_13 9 rfl rfl)
theorem dX4_digest_316 : decode cX4_digest 316 = .ok (.bipush 10, 2) := dk_16 10 (dk_at dksX4_digest_13 11 rfl rfl)
theorem dX4_digest_318 : decode cX4_digest 318 = .ok (.if_icmp .ge 22, 3) := dk_162 0 22 (dk_at dksX4_digest_13 13 rfl rfl)
theorem dX4_digest_321 : decode cX4_digest 321 = .ok (.lload_n 1, 1) := dk_31 (dk_at dksX4_digest_13 16 rfl rfl)
theorem dX4_digest_322 : decode cX4_digest 322 = .ok (.aload_n 0, 1) := dk_42 (dk_at dksX4_digest_13 17 rfl rfl)
theorem dX4_digest_323 : decode cX4_digest 323 = .ok (.iload_n 3, 1) := dk_29 (dk_at dksX4_digest_13 18 rfl rfl)
theorem dX4_digest_324 : decode cX4_digest 324 = .ok (.iload 4, 2) := dk_21 4 (dk_at dksX4_digest_13 19 rfl rfl)
theorem dX4_digest_326 : decode cX4_digest 326 = .ok (.invokevirtual 305, 3) := dk_182 1 49 (dk_at dksX4_digest_13 21 rfl rfl)
theorem dX4_digest_329 : decode cX4_digest 329 = .ok (.i2l, 1) := dk_133 (dk_at dksX4_digest_14 0 rfl rfl)
theorem dX4_digest_330 : decode cX4_digest 330 = .ok (.invokestatic 328, 3) := dk_184 1 72 (dk_at dksX4_digest_14 1 rfl rfl)
theorem dX4_digest_333 : decode cX4_digest 333 = .ok (.lstore_n 1, 1) := dk_64 (dk_at dksX4_digest_14 4 rfl rfl)
theorem dX4_digest_334 : decode cX4_digest 334 = .ok (.iinc 4 1, 3) := dk_132 4 1 (dk_at dksX4_digest_14 5 rfl rfl)
theorem dX4_digest_337 : decode cX4_digest 337 = .ok (.goto (-23), 3) := dk_167 255 233 (dk_at dksX4_digest_14 8 rfl rfl)
theorem dX4_digest_340 : decode cX4_digest 340 = .ok (.iinc 3 1, 3) := dk_132 3 1 (dk_at dksX4_digest_14 11 rfl rfl)
theorem dX4_digest_343 : decode cX4_digest 343 = .ok (.goto (-43), 3) := dk_167 255 213 (dk_at dksX4_digest_14 14 rfl rfl)
theorem dX4_digest_346 : decode cX4_digest 346 = .ok (.lload_n 1, 1) := dk_31 (dk_at dksX4_digest_14 17 rfl rfl)
theorem dX4_digest_347 : decode cX4_digest 347 = .ok (.lreturn, 1) := dk_173 (dk_at dksX4_digest_14 18 rfl rfl)
abbrev cX4_add : ByteArray := prog_9_method_52_code
def yX4_add : MethodName := ⟨RX4, "add", "(JJ)J"⟩
def dkwX4_add_0 : List UInt8 := [30, 20, 1, 68, 105, 32, 97, 173]
abbrev dktX4_add_0 : List UInt8 := dkwX4_add_0 ++ []
theorem dksX4_add_0 : cX4_add.data.toList.drop 0 = dktX4_add_0 := by decide +kernel
theorem dX4_add_0 : decode cX4_add 0 = .ok (.lload_n 0, 1) := dk_30 (dk_at dksX4_add_0 0 rfl rfl)
theorem dX4_add_1 : decode cX4_add 1 = .ok (.ldc2_w 324, 3) := dk_20 1 68 (dk_at dksX4_add_0 1 rfl rfl)
theorem dX4_add_4 : decode cX4_add 4 = .ok (.lmul, 1) := dk_105 (dk_at dksX4_add_0 4 rfl rfl)
theorem dX4_add_5 : decode cX4_add 5 = .ok (.lload_n 2, 1) := dk_32 (dk_at dksX4_add_0 5 rfl rfl)
theorem dX4_add_6 : decode cX4_add 6 = .ok (.ladd, 1) := dk_97 (dk_at dksX4_add_0 6 rfl rfl)
theorem dX4_add_7 : decode cX4_add 7 = .ok (.lreturn, 1) := dk_173 (dk_at dksX4_add_0 7 rfl rfl)
theorem q54 : (Jvm.Cond.initialized "SilkRowModel") ∈ lw_all := lw_g (lw_at lw_m1 11 rfl) rfl
theorem q171 : (Jvm.Cond.selects "SilkRowModel" ({ cls := "java/lang/Object", name := "getClass", desc := "()Ljava/lang/Class;" } : Jvm.MethodName) ({ cls := "java/lang/Object", name := "getClass", desc := "()Ljava/lang/Class;" } : Jvm.MethodName)) ∈ lw_all := lw_g (lw_at lw_m1 128 rfl) rfl
theorem q628 : (Jvm.Cond.selects "SilkRowModel" ({ cls := "java/lang/Object", name := "equals", desc := "(Ljava/lang/Object;)Z" } : Jvm.MethodName) ({ cls := "java/lang/Object", name := "equals", desc := "(Ljava/lang/Object;)Z" } : Jvm.MethodName)) ∈ lw_all := lw_g (lw_at lw_m3 105 rfl) rfl
theorem q1087 : (Jvm.Cond.instantiable "SilkRowModel" (14 : Nat)) ∈ lw_all := lw_g (lw_at lw_m5 84 rfl) rfl
theorem q1089 : (Jvm.Cond.instanceMethod ({ cls := "SilkRowModel", name := "<init>", desc := "()V" } : Jvm.MethodName)) ∈ lw_all := lw_g (lw_at lw_m5 86 rfl) rfl
theorem q1090 : (Jvm.Cond.code ({ cls := "SilkRowModel", name := "<init>", desc := "()V" } : Jvm.MethodName) prog_9_method_4_code (2 : Nat) (Option.none : Option Jvm.ClassFile.FieldType)) ∈ lw_all := lw_g (lw_at lw_m5 87 rfl) rfl
theorem q1091 : (Jvm.Cond.methodLink "SilkRowModel" (13 : Nat) ({ cls := "java/lang/Object", name := "<init>", desc := "()V" } : Jvm.MethodName)) ∈ lw_all := lw_g (lw_at lw_m5 88 rfl) rfl
theorem q1092 : (Jvm.Cond.classLink "SilkRowModel" (19 : Nat) "java/util/ArrayList") ∈ lw_all := lw_g (lw_at lw_m5 89 rfl) rfl
theorem q1093 : (Jvm.Cond.methodLink "SilkRowModel" (21 : Nat) ({ cls := "java/util/ArrayList", name := "<init>", desc := "()V" } : Jvm.MethodName)) ∈ lw_all := lw_g (lw_at lw_m5 90 rfl) rfl
theorem q1094 : (Jvm.Cond.classLink "SilkRowModel" (26 : Nat) "SilkRowModel$Line") ∈ lw_all := lw_g (lw_at lw_m5 91 rfl) rfl
theorem q1096 : (Jvm.Cond.classLink "SilkRowModel" (32 : Nat) "SilkRowModel$Tray") ∈ lw_all := lw_g (lw_at lw_m5 93 rfl) rfl
theorem q1098 : (Jvm.Cond.classLink "SilkRowModel" (41 : Nat) "SilkRowModel$Basin") ∈ lw_all := lw_g (lw_at lw_m5 95 rfl) rfl
theorem q1101 : (Jvm.Cond.methodLinkNest "SilkRowModel" (43 : Nat) ({ cls := "SilkRowModel$Basin", name := "<init>", desc := "()V" } : Jvm.MethodName) "SilkRowModel") ∈ lw_tbl := lw_at lw_m5 98 rfl
theorem q1109 : (Jvm.Cond.fieldLink "SilkRowModel" (283 : Nat) "SilkRowModel$Basin" "filaments" "Ljava/util/ArrayList;") ∈ lw_all := lw_g (lw_at lw_m5 106 rfl) rfl
theorem q1114 : (Jvm.Cond.methodLinkNest "SilkRowModel" (55 : Nat) ({ cls := "SilkRowModel$Line", name := "<init>", desc := "()V" } : Jvm.MethodName) "SilkRowModel") ∈ lw_tbl := lw_at lw_m5 111 rfl
theorem q1119 : (Jvm.Cond.fieldLink "SilkRowModel" (169 : Nat) "SilkRowModel$Line" "size" "I") ∈ lw_all := lw_g (lw_at lw_m5 116 rfl) rfl
theorem q1121 : (Jvm.Cond.fieldLink "SilkRowModel" (121 : Nat) "SilkRowModel$Line" "hardy" "I") ∈ lw_all := lw_g (lw_at lw_m5 118 rfl) rfl
theorem q1122 : (Jvm.Cond.fieldLink "SilkRowModel" (166 : Nat) "SilkRowModel$Line" "taint" "I") ∈ lw_all := lw_g (lw_at lw_m5 119 rfl) rfl
theorem q1131 : (Jvm.Cond.methodLinkNest "SilkRowModel" (56 : Nat) ({ cls := "SilkRowModel$Tray", name := "<init>", desc := "()V" } : Jvm.MethodName) "SilkRowModel") ∈ lw_tbl := lw_at lw_m5 128 rfl
theorem q1136 : (Jvm.Cond.fieldLink "SilkRowModel" (112 : Nat) "SilkRowModel$Tray" "worms" "I") ∈ lw_all := lw_g (lw_at lw_m5 133 rfl) rfl
theorem q1138 : (Jvm.Cond.fieldLink "SilkRowModel" (174 : Nat) "SilkRowModel$Tray" "sick" "I") ∈ lw_all := lw_g (lw_at lw_m5 135 rfl) rfl
theorem q1140 : (Jvm.Cond.fieldLink "SilkRowModel" (118 : Nat) "SilkRowModel$Tray" "line" "I") ∈ lw_all := lw_g (lw_at lw_m5 137 rfl) rfl
theorem q1142 : (Jvm.Cond.fieldLink "SilkRowModel" (177 : Nat) "SilkRowModel$Tray" "instar" "I") ∈ lw_all := lw_g (lw_at lw_m5 139 rfl) rfl
theorem q1144 : (Jvm.Cond.fieldLink "SilkRowModel" (264 : Nat) "SilkRowModel$Tray" "eaten" "I") ∈ lw_all := lw_g (lw_at lw_m5 141 rfl) rfl
theorem q1146 : (Jvm.Cond.fieldLink "SilkRowModel" (180 : Nat) "SilkRowModel$Tray" "moult" "I") ∈ lw_all := lw_g (lw_at lw_m5 143 rfl) rfl
theorem q1148 : (Jvm.Cond.fieldLink "SilkRowModel" (267 : Nat) "SilkRowModel$Tray" "hunger" "I") ∈ lw_all := lw_g (lw_at lw_m5 145 rfl) rfl
theorem q1150 : (Jvm.Cond.fieldLink "SilkRowModel" (196 : Nat) "SilkRowModel$Tray" "litter" "I") ∈ lw_all := lw_g (lw_at lw_m5 147 rfl) rfl
theorem q1152 : (Jvm.Cond.fieldLink "SilkRowModel" (183 : Nat) "SilkRowModel$Tray" "given" "I") ∈ lw_all := lw_g (lw_at lw_m5 149 rfl) rfl
theorem q1154 : (Jvm.Cond.fieldLink "SilkRowModel" (186 : Nat) "SilkRowModel$Tray" "wet" "I") ∈ lw_all := lw_g (lw_at lw_m5 151 rfl) rfl
theorem q1156 : (Jvm.Cond.fieldLink "SilkRowModel" (115 : Nat) "SilkRowModel$Tray" "isRipe" "Z") ∈ lw_all := lw_g (lw_at lw_m5 153 rfl) rfl
theorem q1180 : (Jvm.Cond.fieldLink "SilkRowModel" (57 : Nat) "SilkRowModel" "thrown" "I") ∈ lw_all := lw_g (lw_at lw_m5 177 rfl) rfl
theorem q1181 : (Jvm.Cond.fieldLink "SilkRowModel" (22 : Nat) "SilkRowModel" "plots" "Ljava/util/ArrayList;") ∈ lw_all := lw_g (lw_at lw_m5 178 rfl) rfl
theorem q1182 : (Jvm.Cond.fieldLink "SilkRowModel" (28 : Nat) "SilkRowModel" "lines" "[LSilkRowModel$Line;") ∈ lw_all := lw_g (lw_at lw_m5 179 rfl) rfl
theorem q1183 : (Jvm.Cond.fieldLink "SilkRowModel" (34 : Nat) "SilkRowModel" "trays" "[LSilkRowModel$Tray;") ∈ lw_all := lw_g (lw_at lw_m5 180 rfl) rfl
theorem q1184 : (Jvm.Cond.fieldLink "SilkRowModel" (38 : Nat) "SilkRowModel" "lots" "Ljava/util/ArrayList;") ∈ lw_all := lw_g (lw_at lw_m5 181 rfl) rfl
theorem q1185 : (Jvm.Cond.fieldLink "SilkRowModel" (44 : Nat) "SilkRowModel" "basins" "[LSilkRowModel$Basin;") ∈ lw_all := lw_g (lw_at lw_m5 182 rfl) rfl
theorem q1186 : (Jvm.Cond.fieldLink "SilkRowModel" (48 : Nat) "SilkRowModel" "skeins" "Ljava/util/ArrayList;") ∈ lw_all := lw_g (lw_at lw_m5 183 rfl) rfl
theorem q1187 : (Jvm.Cond.fieldLink "SilkRowModel" (94 : Nat) "SilkRowModel" "now" "I") ∈ lw_all := lw_g (lw_at lw_m5 184 rfl) rfl
theorem q1188 : (Jvm.Cond.fieldLink "SilkRowModel" (90 : Nat) "SilkRowModel" "wasWet" "Z") ∈ lw_all := lw_g (lw_at lw_m5 185 rfl) rfl
theorem q1189 : (Jvm.Cond.fieldLink "SilkRowModel" (154 : Nat) "SilkRowModel" "food" "I") ∈ lw_all := lw_g (lw_at lw_m5 186 rfl) rfl
theorem q1190 : (Jvm.Cond.fieldLink "SilkRowModel" (157 : Nat) "SilkRowModel" "wetFood" "I") ∈ lw_all := lw_g (lw_at lw_m5 187 rfl) rfl
theorem q1191 : (Jvm.Cond.fieldLink "SilkRowModel" (84 : Nat) "SilkRowModel" "dead" "I") ∈ lw_all := lw_g (lw_at lw_m5 188 rfl) rfl
theorem q1192 : (Jvm.Cond.fieldLink "SilkRowModel" (51 : Nat) "SilkRowModel" "money" "I") ∈ lw_all := lw_g (lw_at lw_m5 189 rfl) rfl
theorem q1193 : (Jvm.Cond.fieldLink "SilkRowModel" (134 : Nat) "SilkRowModel" "debt" "I") ∈ lw_all := lw_g (lw_at lw_m5 190 rfl) rfl
theorem q1194 : (Jvm.Cond.lays "SilkRowModel" "SilkRowModel" "thrown" "I") ∈ lw_all := lw_g (lw_at lw_m5 191 rfl) rfl
theorem q1195 : (Jvm.Cond.soleField "SilkRowModel" "thrown") ∈ lw_all := lw_g (lw_at lw_m5 192 rfl) rfl
theorem q1196 : (Jvm.Cond.laysFinal "SilkRowModel" "SilkRowModel" "plots" "Ljava/util/ArrayList;") ∈ lw_all := lw_g (lw_at lw_m5 193 rfl) rfl
theorem q1197 : (Jvm.Cond.soleField "SilkRowModel" "plots") ∈ lw_all := lw_g (lw_at lw_m5 194 rfl) rfl
theorem q1198 : (Jvm.Cond.laysFinal "SilkRowModel" "SilkRowModel" "lines" "[LSilkRowModel$Line;") ∈ lw_all := lw_g (lw_at lw_m5 195 rfl) rfl
theorem q1199 : (Jvm.Cond.soleField "SilkRowModel" "lines") ∈ lw_all := lw_g (lw_at lw_m5 196 rfl) rfl
theorem q1200 : (Jvm.Cond.laysFinal "SilkRowModel" "SilkRowModel" "trays" "[LSilkRowModel$Tray;") ∈ lw_all := lw_g (lw_at lw_m5 197 rfl) rfl
theorem q1201 : (Jvm.Cond.soleField "SilkRowModel" "trays") ∈ lw_all := lw_g (lw_at lw_m5 198 rfl) rfl
theorem q1202 : (Jvm.Cond.laysFinal "SilkRowModel" "SilkRowModel" "lots" "Ljava/util/ArrayList;") ∈ lw_all := lw_g (lw_at lw_m5 199 rfl) rfl
theorem q1203 : (Jvm.Cond.soleField "SilkRowModel" "lots") ∈ lw_all := lw_g (lw_at lw_m5 200 rfl) rfl
theorem q1204 : (Jvm.Cond.laysFinal "SilkRowModel" "SilkRowModel" "basins" "[LSilkRowModel$Basin;") ∈ lw_all := lw_g (lw_at lw_m5 201 rfl) rfl
theorem q1205 : (Jvm.Cond.soleField "SilkRowModel" "basins") ∈ lw_all := lw_g (lw_at lw_m5 202 rfl) rfl
theorem q1206 : (Jvm.Cond.laysFinal "SilkRowModel" "SilkRowModel" "skeins" "Ljava/util/ArrayList;") ∈ lw_all := lw_g (lw_at lw_m5 203 rfl) rfl
theorem q1207 : (Jvm.Cond.soleField "SilkRowModel" "skeins") ∈ lw_all := lw_g (lw_at lw_m5 204 rfl) rfl
theorem q1208 : (Jvm.Cond.lays "SilkRowModel" "SilkRowModel" "now" "I") ∈ lw_all := lw_g (lw_at lw_m5 205 rfl) rfl
theorem q1209 : (Jvm.Cond.soleField "SilkRowModel" "now") ∈ lw_all := lw_g (lw_at lw_m5 206 rfl) rfl
theorem q1210 : (Jvm.Cond.lays "SilkRowModel" "SilkRowModel" "wasWet" "Z") ∈ lw_all := lw_g (lw_at lw_m5 207 rfl) rfl
theorem q1211 : (Jvm.Cond.soleField "SilkRowModel" "wasWet") ∈ lw_all := lw_g (lw_at lw_m5 208 rfl) rfl
theorem q1212 : (Jvm.Cond.lays "SilkRowModel" "SilkRowModel" "food" "I") ∈ lw_all := lw_g (lw_at lw_m5 209 rfl) rfl
theorem q1213 : (Jvm.Cond.soleField "SilkRowModel" "food") ∈ lw_all := lw_g (lw_at lw_m5 210 rfl) rfl
theorem q1214 : (Jvm.Cond.lays "SilkRowModel" "SilkRowModel" "wetFood" "I") ∈ lw_all := lw_g (lw_at lw_m5 211 rfl) rfl
theorem q1215 : (Jvm.Cond.soleField "SilkRowModel" "wetFood") ∈ lw_all := lw_g (lw_at lw_m5 212 rfl) rfl
theorem q1216 : (Jvm.Cond.lays "SilkRowModel" "SilkRowModel" "dead" "I") ∈ lw_all := lw_g (lw_at lw_m5 213 rfl) rfl
theorem q1217 : (Jvm.Cond.soleField "SilkRowModel" "dead") ∈ lw_all := lw_g (lw_at lw_m5 214 rfl) rfl
theorem q1218 : (Jvm.Cond.lays "SilkRowModel" "SilkRowModel" "money" "I") ∈ lw_all := lw_g (lw_at lw_m5 215 rfl) rfl
theorem q1219 : (Jvm.Cond.soleField "SilkRowModel" "money") ∈ lw_all := lw_g (lw_at lw_m5 216 rfl) rfl
theorem q1220 : (Jvm.Cond.lays "SilkRowModel" "SilkRowModel" "debt" "I") ∈ lw_all := lw_g (lw_at lw_m5 217 rfl) rfl
theorem q1221 : (Jvm.Cond.soleField "SilkRowModel" "debt") ∈ lw_all := lw_g (lw_at lw_m5 218 rfl) rfl
theorem q1222 : (Jvm.Cond.superclass "SilkRowModel" "java/lang/Object") ∈ lw_all := lw_g (lw_at lw_m5 219 rfl) rfl
theorem q1224 : (Jvm.Cond.instanceMethod ({ cls := "SilkRowModel", name := "thrown", desc := "()I" } : Jvm.MethodName)) ∈ lw_all := lw_g (lw_at lw_m5 221 rfl) rfl
theorem q1225 : (Jvm.Cond.selects "SilkRowModel" ({ cls := "SilkRowModel", name := "thrown", desc := "()I" } : Jvm.MethodName) ({ cls := "SilkRowModel", name := "thrown", desc := "()I" } : Jvm.MethodName)) ∈ lw_all := lw_g (lw_at lw_m5 222 rfl) rfl
theorem q1226 : (Jvm.Cond.code ({ cls := "SilkRowModel", name := "thrown", desc := "()I" } : Jvm.MethodName) prog_9_method_5_code (1 : Nat) (Option.some Jvm.ClassFile.FieldType.int)) ∈ lw_all := lw_g (lw_at lw_m5 223 rfl) rfl
theorem q1228 : (Jvm.Cond.instanceMethod ({ cls := "SilkRowModel", name := "plot", desc := "(I)I" } : Jvm.MethodName)) ∈ lw_all := lw_g (lw_at lw_m5 225 rfl) rfl
theorem q1229 : (Jvm.Cond.selects "SilkRowModel" ({ cls := "SilkRowModel", name := "plot", desc := "(I)I" } : Jvm.MethodName) ({ cls := "SilkRowModel", name := "plot", desc := "(I)I" } : Jvm.MethodName)) ∈ lw_all := lw_g (lw_at lw_m5 226 rfl) rfl
theorem q1230 : (Jvm.Cond.code ({ cls := "SilkRowModel", name := "plot", desc := "(I)I" } : Jvm.MethodName) prog_9_method_14_code (2 : Nat) (Option.some Jvm.ClassFile.FieldType.int)) ∈ lw_all := lw_g (lw_at lw_m5 227 rfl) rfl
theorem q1231 : (Jvm.Cond.methodLink "SilkRowModel" (68 : Nat) ({ cls := "SilkRowModel", name := "isIn", desc := "(III)Z" } : Jvm.MethodName)) ∈ lw_all := lw_g (lw_at lw_m5 228 rfl) rfl
theorem q1232 : (Jvm.Cond.static ({ cls := "SilkRowModel", name := "isIn", desc := "(III)Z" } : Jvm.MethodName)) ∈ lw_all := lw_g (lw_at lw_m5 229 rfl) rfl
theorem q1233 : (Jvm.Cond.code ({ cls := "SilkRowModel", name := "isIn", desc := "(III)Z" } : Jvm.MethodName) prog_9_method_1_code (3 : Nat) (Option.some Jvm.ClassFile.FieldType.boolean)) ∈ lw_all := lw_g (lw_at lw_m5 230 rfl) rfl
theorem q1234 : (Jvm.Cond.methodLink "SilkRowModel" (72 : Nat) ({ cls := "SilkRowModel", name := "start", desc := "(ZI)Z" } : Jvm.MethodName)) ∈ lw_all := lw_g (lw_at lw_m5 231 rfl) rfl
theorem q1235 : (Jvm.Cond.privateMethod ({ cls := "SilkRowModel", name := "start", desc := "(ZI)Z" } : Jvm.MethodName)) ∈ lw_tbl := lw_at lw_m5 232 rfl
theorem q1236 : (Jvm.Cond.instanceMethod ({ cls := "SilkRowModel", name := "start", desc := "(ZI)Z" } : Jvm.MethodName)) ∈ lw_all := lw_g (lw_at lw_m5 233 rfl) rfl
theorem q1237 : (Jvm.Cond.code ({ cls := "SilkRowModel", name := "start", desc := "(ZI)Z" } : Jvm.MethodName) prog_9_method_7_code (3 : Nat) (Option.some Jvm.ClassFile.FieldType.boolean)) ∈ lw_all := lw_g (lw_at lw_m5 234 rfl) rfl
theorem q1238 : (Jvm.Cond.methodLink "SilkRowModel" (60 : Nat) ({ cls := "SilkRowModel", name := "refuse", desc := "(ZI)Z" } : Jvm.MethodName)) ∈ lw_all := lw_g (lw_at lw_m5 235 rfl) rfl
theorem q1239 : (Jvm.Cond.privateMethod ({ cls := "SilkRowModel", name := "refuse", desc := "(ZI)Z" } : Jvm.MethodName)) ∈ lw_tbl := lw_at lw_m5 236 rfl
theorem q1240 : (Jvm.Cond.instanceMethod ({ cls := "SilkRowModel", name := "refuse", desc := "(ZI)Z" } : Jvm.MethodName)) ∈ lw_all := lw_g (lw_at lw_m5 237 rfl) rfl
theorem q1241 : (Jvm.Cond.code ({ cls := "SilkRowModel", name := "refuse", desc := "(ZI)Z" } : Jvm.MethodName) prog_9_method_6_code (3 : Nat) (Option.some Jvm.ClassFile.FieldType.boolean)) ∈ lw_all := lw_g (lw_at lw_m5 238 rfl) rfl
theorem q1242 : (Jvm.Cond.methodLink "SilkRowModel" (64 : Nat) ({ cls := "java/util/ArrayList", name := "size", desc := "()I" } : Jvm.MethodName)) ∈ lw_all := lw_g (lw_at lw_m5 239 rfl) rfl
theorem q1243 : (Jvm.Cond.classLink "SilkRowModel" (75 : Nat) "SilkRowModel$Plot") ∈ lw_all := lw_g (lw_at lw_m6 0 rfl) rfl
theorem q1245 : (Jvm.Cond.methodLink "SilkRowModel" (77 : Nat) ({ cls := "SilkRowModel$Plot", name := "<init>", desc := "(I)V" } : Jvm.MethodName)) ∈ lw_all := lw_g (lw_at lw_m6 2 rfl) rfl
theorem q1250 : (Jvm.Cond.fieldLink "SilkRowModel" (249 : Nat) "SilkRowModel$Plot" "area" "I") ∈ lw_all := lw_g (lw_at lw_m6 7 rfl) rfl
theorem q1252 : (Jvm.Cond.fieldLink "SilkRowModel" (252 : Nat) "SilkRowModel$Plot" "rest" "I") ∈ lw_all := lw_g (lw_at lw_m6 9 rfl) rfl
theorem q1254 : (Jvm.Cond.fieldLink "SilkRowModel" (255 : Nat) "SilkRowModel$Plot" "leaf" "[I") ∈ lw_all := lw_g (lw_at lw_m6 11 rfl) rfl
theorem q1262 : (Jvm.Cond.methodLink "SilkRowModel" (80 : Nat) ({ cls := "java/util/ArrayList", name := "add", desc := "(Ljava/lang/Object;)Z" } : Jvm.MethodName)) ∈ lw_all := lw_g (lw_at lw_m6 19 rfl) rfl
theorem q1264 : (Jvm.Cond.instanceMethod ({ cls := "SilkRowModel", name := "pass", desc := "(IZI)I" } : Jvm.MethodName)) ∈ lw_all := lw_g (lw_at lw_m6 21 rfl) rfl
theorem q1265 : (Jvm.Cond.selects "SilkRowModel" ({ cls := "SilkRowModel", name := "pass", desc := "(IZI)I" } : Jvm.MethodName) ({ cls := "SilkRowModel", name := "pass", desc := "(IZI)I" } : Jvm.MethodName)) ∈ lw_all := lw_g (lw_at lw_m6 22 rfl) rfl
theorem q1266 : (Jvm.Cond.code ({ cls := "SilkRowModel", name := "pass", desc := "(IZI)I" } : Jvm.MethodName) prog_9_method_15_code (6 : Nat) (Option.some Jvm.ClassFile.FieldType.int)) ∈ lw_all := lw_g (lw_at lw_m6 23 rfl) rfl
theorem q1267 : (Jvm.Cond.methodLink "SilkRowModel" (87 : Nat) ({ cls := "SilkRowModel", name := "day", desc := "(I)V" } : Jvm.MethodName)) ∈ lw_all := lw_g (lw_at lw_m6 24 rfl) rfl
theorem q1268 : (Jvm.Cond.privateMethod ({ cls := "SilkRowModel", name := "day", desc := "(I)V" } : Jvm.MethodName)) ∈ lw_tbl := lw_at lw_m6 25 rfl
theorem q1269 : (Jvm.Cond.instanceMethod ({ cls := "SilkRowModel", name := "day", desc := "(I)V" } : Jvm.MethodName)) ∈ lw_all := lw_g (lw_at lw_m6 26 rfl) rfl
theorem q1270 : (Jvm.Cond.code ({ cls := "SilkRowModel", name := "day", desc := "(I)V" } : Jvm.MethodName) prog_9_method_16_code (4 : Nat) (Option.none : Option Jvm.ClassFile.FieldType)) ∈ lw_all := lw_g (lw_at lw_m6 27 rfl) rfl
theorem q1271 : (Jvm.Cond.methodLink "SilkRowModel" (97 : Nat) ({ cls := "java/util/ArrayList", name := "iterator", desc := "()Ljava/util/Iterator;" } : Jvm.MethodName)) ∈ lw_all := lw_g (lw_at lw_m6 28 rfl) rfl
theorem q1272 : (Jvm.Cond.interfaceEntry "SilkRowModel" (101 : Nat)) ∈ lw_tbl := lw_at lw_m6 29 rfl
theorem q1273 : (Jvm.Cond.methodLink "SilkRowModel" (101 : Nat) ({ cls := "java/util/Iterator", name := "hasNext", desc := "()Z" } : Jvm.MethodName)) ∈ lw_all := lw_g (lw_at lw_m6 30 rfl) rfl
theorem q1274 : (Jvm.Cond.interfaceEntry "SilkRowModel" (107 : Nat)) ∈ lw_tbl := lw_at lw_m6 31 rfl
theorem q1275 : (Jvm.Cond.methodLink "SilkRowModel" (107 : Nat) ({ cls := "java/util/Iterator", name := "next", desc := "()Ljava/lang/Object;" } : Jvm.MethodName)) ∈ lw_all := lw_g (lw_at lw_m6 32 rfl) rfl
theorem q1276 : (Jvm.Cond.methodLink "SilkRowModel" (111 : Nat) ({ cls := "SilkRowModel$Plot", name := "day", desc := "(I)V" } : Jvm.MethodName)) ∈ lw_all := lw_g (lw_at lw_m6 33 rfl) rfl
theorem q1281 : (Jvm.Cond.methodLink "SilkRowModel" (124 : Nat) ({ cls := "SilkRowModel$Tray", name := "day", desc := "(I)I" } : Jvm.MethodName)) ∈ lw_all := lw_g (lw_at lw_m6 38 rfl) rfl
theorem q1298 : (Jvm.Cond.static ({ cls := "SilkRowModel", name := "up", desc := "(II)I" } : Jvm.MethodName)) ∈ lw_all := lw_g (lw_at lw_m6 55 rfl) rfl
theorem q1299 : (Jvm.Cond.code ({ cls := "SilkRowModel", name := "up", desc := "(II)I" } : Jvm.MethodName) prog_9_method_2_code (2 : Nat) (Option.some Jvm.ClassFile.FieldType.int)) ∈ lw_all := lw_g (lw_at lw_m6 56 rfl) rfl
theorem q1306 : (Jvm.Cond.methodLink "SilkRowModel" (127 : Nat) ({ cls := "SilkRowModel", name := "empty", desc := "(I)V" } : Jvm.MethodName)) ∈ lw_all := lw_g (lw_at lw_m6 63 rfl) rfl
theorem q1307 : (Jvm.Cond.privateMethod ({ cls := "SilkRowModel", name := "empty", desc := "(I)V" } : Jvm.MethodName)) ∈ lw_tbl := lw_at lw_m6 64 rfl
theorem q1308 : (Jvm.Cond.instanceMethod ({ cls := "SilkRowModel", name := "empty", desc := "(I)V" } : Jvm.MethodName)) ∈ lw_all := lw_g (lw_at lw_m6 65 rfl) rfl
theorem q1309 : (Jvm.Cond.code ({ cls := "SilkRowModel", name := "empty", desc := "(I)V" } : Jvm.MethodName) prog_9_method_17_code (2 : Nat) (Option.none : Option Jvm.ClassFile.FieldType)) ∈ lw_all := lw_g (lw_at lw_m6 66 rfl) rfl
theorem q1310 : (Jvm.Cond.classLink "SilkRowModel" (130 : Nat) "SilkRowModel$Lot") ∈ lw_all := lw_g (lw_at lw_m6 67 rfl) rfl
theorem q1311 : (Jvm.Cond.methodLink "SilkRowModel" (132 : Nat) ({ cls := "SilkRowModel$Lot", name := "day", desc := "()V" } : Jvm.MethodName)) ∈ lw_all := lw_g (lw_at lw_m6 68 rfl) rfl
theorem q1315 : (Jvm.Cond.methodLink "SilkRowModel" (137 : Nat) ({ cls := "SilkRowModel", name := "up", desc := "(II)I" } : Jvm.MethodName)) ∈ lw_all := lw_g (lw_at lw_m6 72 rfl) rfl
theorem q1316 : (Jvm.Cond.methodLink "SilkRowModel" (140 : Nat) ({ cls := "java/lang/Math", name := "min", desc := "(II)I" } : Jvm.MethodName)) ∈ lw_all := lw_g (lw_at lw_m6 73 rfl) rfl
theorem q1318 : (Jvm.Cond.instanceMethod ({ cls := "SilkRowModel", name := "pick", desc := "(II)I" } : Jvm.MethodName)) ∈ lw_all := lw_g (lw_at lw_m6 75 rfl) rfl
theorem q1319 : (Jvm.Cond.selects "SilkRowModel" ({ cls := "SilkRowModel", name := "pick", desc := "(II)I" } : Jvm.MethodName) ({ cls := "SilkRowModel", name := "pick", desc := "(II)I" } : Jvm.MethodName)) ∈ lw_all := lw_g (lw_at lw_m6 76 rfl) rfl
theorem q1320 : (Jvm.Cond.code ({ cls := "SilkRowModel", name := "pick", desc := "(II)I" } : Jvm.MethodName) prog_9_method_18_code (4 : Nat) (Option.some Jvm.ClassFile.FieldType.int)) ∈ lw_all := lw_g (lw_at lw_m6 77 rfl) rfl
theorem q1321 : (Jvm.Cond.methodLink "SilkRowModel" (143 : Nat) ({ cls := "SilkRowModel", name := "isNoPlot", desc := "(I)Z" } : Jvm.MethodName)) ∈ lw_all := lw_g (lw_at lw_m6 78 rfl) rfl
theorem q1322 : (Jvm.Cond.privateMethod ({ cls := "SilkRowModel", name := "isNoPlot", desc := "(I)Z" } : Jvm.MethodName)) ∈ lw_tbl := lw_at lw_m6 79 rfl
theorem q1323 : (Jvm.Cond.instanceMethod ({ cls := "SilkRowModel", name := "isNoPlot", desc := "(I)Z" } : Jvm.MethodName)) ∈ lw_all := lw_g (lw_at lw_m6 80 rfl) rfl
theorem q1324 : (Jvm.Cond.code ({ cls := "SilkRowModel", name := "isNoPlot", desc := "(I)Z" } : Jvm.MethodName) prog_9_method_8_code (2 : Nat) (Option.some Jvm.ClassFile.FieldType.boolean)) ∈ lw_all := lw_g (lw_at lw_m6 81 rfl) rfl
theorem q1325 : (Jvm.Cond.methodLink "SilkRowModel" (147 : Nat) ({ cls := "java/util/ArrayList", name := "get", desc := "(I)Ljava/lang/Object;" } : Jvm.MethodName)) ∈ lw_all := lw_g (lw_at lw_m6 82 rfl) rfl
theorem q1326 : (Jvm.Cond.methodLink "SilkRowModel" (151 : Nat) ({ cls := "SilkRowModel$Plot", name := "pick", desc := "(I)I" } : Jvm.MethodName)) ∈ lw_all := lw_g (lw_at lw_m6 83 rfl) rfl
theorem q1331 : (Jvm.Cond.instanceMethod ({ cls := "SilkRowModel", name := "prune", desc := "(I)I" } : Jvm.MethodName)) ∈ lw_all := lw_g (lw_at lw_m6 88 rfl) rfl
theorem q1332 : (Jvm.Cond.selects "SilkRowModel" ({ cls := "SilkRowModel", name := "prune", desc := "(I)I" } : Jvm.MethodName) ({ cls := "SilkRowModel", name := "prune", desc := "(I)I" } : Jvm.MethodName)) ∈ lw_all := lw_g (lw_at lw_m6 89 rfl) rfl
theorem q1333 : (Jvm.Cond.code ({ cls := "SilkRowModel", name := "prune", desc := "(I)I" } : Jvm.MethodName) prog_9_method_19_code (2 : Nat) (Option.some Jvm.ClassFile.FieldType.int)) ∈ lw_all := lw_g (lw_at lw_m6 90 rfl) rfl
theorem q1334 : (Jvm.Cond.methodLink "SilkRowModel" (160 : Nat) ({ cls := "SilkRowModel$Plot", name := "prune", desc := "()I" } : Jvm.MethodName)) ∈ lw_all := lw_g (lw_at lw_m6 91 rfl) rfl
theorem q1339 : (Jvm.Cond.instanceMethod ({ cls := "SilkRowModel", name := "buy", desc := "(I)I" } : Jvm.MethodName)) ∈ lw_all := lw_g (lw_at lw_m6 96 rfl) rfl
theorem q1340 : (Jvm.Cond.selects "SilkRowModel" ({ cls := "SilkRowModel", name := "buy", desc := "(I)I" } : Jvm.MethodName) ({ cls := "SilkRowModel", name := "buy", desc := "(I)I" } : Jvm.MethodName)) ∈ lw_all := lw_g (lw_at lw_m6 97 rfl) rfl
theorem q1341 : (Jvm.Cond.code ({ cls := "SilkRowModel", name := "buy", desc := "(I)I" } : Jvm.MethodName) prog_9_method_20_code (2 : Nat) (Option.some Jvm.ClassFile.FieldType.int)) ∈ lw_all := lw_g (lw_at lw_m6 98 rfl) rfl
theorem q1343 : (Jvm.Cond.instanceMethod ({ cls := "SilkRowModel", name := "line", desc := "(IIII)I" } : Jvm.MethodName)) ∈ lw_all := lw_g (lw_at lw_m6 100 rfl) rfl
theorem q1344 : (Jvm.Cond.selects "SilkRowModel" ({ cls := "SilkRowModel", name := "line", desc := "(IIII)I" } : Jvm.MethodName) ({ cls := "SilkRowModel", name := "line", desc := "(IIII)I" } : Jvm.MethodName)) ∈ lw_all := lw_g (lw_at lw_m6 101 rfl) rfl
theorem q1345 : (Jvm.Cond.code ({ cls := "SilkRowModel", name := "line", desc := "(IIII)I" } : Jvm.MethodName) prog_9_method_21_code (6 : Nat) (Option.some Jvm.ClassFile.FieldType.int)) ∈ lw_all := lw_g (lw_at lw_m6 102 rfl) rfl
theorem q1346 : (Jvm.Cond.methodLink "SilkRowModel" (163 : Nat) ({ cls := "SilkRowModel", name := "isNoLine", desc := "(I)Z" } : Jvm.MethodName)) ∈ lw_all := lw_g (lw_at lw_m6 103 rfl) rfl
theorem q1347 : (Jvm.Cond.static ({ cls := "SilkRowModel", name := "isNoLine", desc := "(I)Z" } : Jvm.MethodName)) ∈ lw_all := lw_g (lw_at lw_m6 104 rfl) rfl
theorem q1348 : (Jvm.Cond.code ({ cls := "SilkRowModel", name := "isNoLine", desc := "(I)Z" } : Jvm.MethodName) prog_9_method_9_code (1 : Nat) (Option.some Jvm.ClassFile.FieldType.boolean)) ∈ lw_all := lw_g (lw_at lw_m6 105 rfl) rfl
theorem q1350 : (Jvm.Cond.instanceMethod ({ cls := "SilkRowModel", name := "hatch", desc := "(III)I" } : Jvm.MethodName)) ∈ lw_all := lw_g (lw_at lw_m6 107 rfl) rfl
theorem q1351 : (Jvm.Cond.selects "SilkRowModel" ({ cls := "SilkRowModel", name := "hatch", desc := "(III)I" } : Jvm.MethodName) ({ cls := "SilkRowModel", name := "hatch", desc := "(III)I" } : Jvm.MethodName)) ∈ lw_all := lw_g (lw_at lw_m6 108 rfl) rfl
theorem q1352 : (Jvm.Cond.code ({ cls := "SilkRowModel", name := "hatch", desc := "(III)I" } : Jvm.MethodName) prog_9_method_22_code (5 : Nat) (Option.some Jvm.ClassFile.FieldType.int)) ∈ lw_all := lw_g (lw_at lw_m6 109 rfl) rfl
theorem q1353 : (Jvm.Cond.methodLink "SilkRowModel" (171 : Nat) ({ cls := "SilkRowModel", name := "isNoTray", desc := "(I)Z" } : Jvm.MethodName)) ∈ lw_all := lw_g (lw_at lw_m6 110 rfl) rfl
theorem q1354 : (Jvm.Cond.static ({ cls := "SilkRowModel", name := "isNoTray", desc := "(I)Z" } : Jvm.MethodName)) ∈ lw_all := lw_g (lw_at lw_m6 111 rfl) rfl
theorem q1355 : (Jvm.Cond.code ({ cls := "SilkRowModel", name := "isNoTray", desc := "(I)Z" } : Jvm.MethodName) prog_9_method_10_code (1 : Nat) (Option.some Jvm.ClassFile.FieldType.boolean)) ∈ lw_all := lw_g (lw_at lw_m6 112 rfl) rfl
theorem q1357 : (Jvm.Cond.instanceMethod ({ cls := "SilkRowModel", name := "feed", desc := "(II)I" } : Jvm.MethodName)) ∈ lw_all := lw_g (lw_at lw_m6 114 rfl) rfl
theorem q1358 : (Jvm.Cond.selects "SilkRowModel" ({ cls := "SilkRowModel", name := "feed", desc := "(II)I" } : Jvm.MethodName) ({ cls := "SilkRowModel", name := "feed", desc := "(II)I" } : Jvm.MethodName)) ∈ lw_all := lw_g (lw_at lw_m6 115 rfl) rfl
theorem q1359 : (Jvm.Cond.code ({ cls := "SilkRowModel", name := "feed", desc := "(II)I" } : Jvm.MethodName) prog_9_method_23_code (6 : Nat) (Option.some Jvm.ClassFile.FieldType.int)) ∈ lw_all := lw_g (lw_at lw_m6 116 rfl) rfl
theorem q1361 : (Jvm.Cond.instanceMethod ({ cls := "SilkRowModel", name := "clean", desc := "(I)I" } : Jvm.MethodName)) ∈ lw_all := lw_g (lw_at lw_m6 118 rfl) rfl
theorem q1362 : (Jvm.Cond.selects "SilkRowModel" ({ cls := "SilkRowModel", name := "clean", desc := "(I)I" } : Jvm.MethodName) ({ cls := "SilkRowModel", name := "clean", desc := "(I)I" } : Jvm.MethodName)) ∈ lw_all := lw_g (lw_at lw_m6 119 rfl) rfl
theorem q1363 : (Jvm.Cond.code ({ cls := "SilkRowModel", name := "clean", desc := "(I)I" } : Jvm.MethodName) prog_9_method_24_code (3 : Nat) (Option.some Jvm.ClassFile.FieldType.int)) ∈ lw_all := lw_g (lw_at lw_m6 120 rfl) rfl
theorem q1364 : (Jvm.Cond.methodLink "SilkRowModel" (189 : Nat) ({ cls := "SilkRowModel$Tray", name := "clean", desc := "()I" } : Jvm.MethodName)) ∈ lw_all := lw_g (lw_at lw_m6 121 rfl) rfl
theorem q1369 : (Jvm.Cond.instanceMethod ({ cls := "SilkRowModel", name := "part", desc := "(III)I" } : Jvm.MethodName)) ∈ lw_all := lw_g (lw_at lw_m6 126 rfl) rfl
theorem q1370 : (Jvm.Cond.selects "SilkRowModel" ({ cls := "SilkRowModel", name := "part", desc := "(III)I" } : Jvm.MethodName) ({ cls := "SilkRowModel", name := "part", desc := "(III)I" } : Jvm.MethodName)) ∈ lw_all := lw_g (lw_at lw_m6 127 rfl) rfl
theorem q1371 : (Jvm.Cond.code ({ cls := "SilkRowModel", name := "part", desc := "(III)I" } : Jvm.MethodName) prog_9_method_25_code (7 : Nat) (Option.some Jvm.ClassFile.FieldType.int)) ∈ lw_all := lw_g (lw_at lw_m6 128 rfl) rfl
theorem q1372 : (Jvm.Cond.methodLink "SilkRowModel" (192 : Nat) ({ cls := "SilkRowModel$Tray", name := "copy", desc := "()LSilkRowModel$Tray;" } : Jvm.MethodName)) ∈ lw_all := lw_g (lw_at lw_m6 129 rfl) rfl
theorem q1378 : (Jvm.Cond.methodLink "SilkRowModel" (199 : Nat) ({ cls := "SilkRowModel$Tray", name := "die", desc := "(I)I" } : Jvm.MethodName)) ∈ lw_all := lw_g (lw_at lw_m6 135 rfl) rfl
theorem q1380 : (Jvm.Cond.instanceMethod ({ cls := "SilkRowModel", name := "mount", desc := "(I)I" } : Jvm.MethodName)) ∈ lw_all := lw_g (lw_at lw_m6 137 rfl) rfl
theorem q1381 : (Jvm.Cond.selects "SilkRowModel" ({ cls := "SilkRowModel", name := "mount", desc := "(I)I" } : Jvm.MethodName) ({ cls := "SilkRowModel", name := "mount", desc := "(I)I" } : Jvm.MethodName)) ∈ lw_all := lw_g (lw_at lw_m6 138 rfl) rfl
theorem q1382 : (Jvm.Cond.code ({ cls := "SilkRowModel", name := "mount", desc := "(I)I" } : Jvm.MethodName) prog_9_method_26_code (5 : Nat) (Option.some Jvm.ClassFile.FieldType.int)) ∈ lw_all := lw_g (lw_at lw_m6 139 rfl) rfl
theorem q1384 : (Jvm.Cond.methodLink "SilkRowModel" (202 : Nat) ({ cls := "SilkRowModel$Lot", name := "<init>", desc := "(III)V" } : Jvm.MethodName)) ∈ lw_all := lw_g (lw_at lw_m6 141 rfl) rfl
theorem q1390 : (Jvm.Cond.fieldLink "SilkRowModel" (276 : Nat) "SilkRowModel$Lot" "line" "I") ∈ lw_all := lw_g (lw_at lw_m6 147 rfl) rfl
theorem q1394 : (Jvm.Cond.fieldLink "SilkRowModel" (226 : Nat) "SilkRowModel$Lot" "size" "I") ∈ lw_all := lw_g (lw_at lw_m6 151 rfl) rfl
theorem q1396 : (Jvm.Cond.fieldLink "SilkRowModel" (227 : Nat) "SilkRowModel$Lot" "hardy" "I") ∈ lw_all := lw_g (lw_at lw_m6 153 rfl) rfl
theorem q1398 : (Jvm.Cond.fieldLink "SilkRowModel" (205 : Nat) "SilkRowModel$Lot" "made" "[I") ∈ lw_all := lw_g (lw_at lw_m6 155 rfl) rfl
theorem q1401 : (Jvm.Cond.fieldLink "SilkRowModel" (208 : Nat) "SilkRowModel$Lot" "left" "[I") ∈ lw_all := lw_g (lw_at lw_m6 158 rfl) rfl
theorem q1403 : (Jvm.Cond.fieldLink "SilkRowModel" (220 : Nat) "SilkRowModel$Lot" "state" "I") ∈ lw_all := lw_g (lw_at lw_m6 160 rfl) rfl
theorem q1405 : (Jvm.Cond.fieldLink "SilkRowModel" (277 : Nat) "SilkRowModel$Lot" "age" "I") ∈ lw_all := lw_g (lw_at lw_m6 162 rfl) rfl
theorem q1421 : (Jvm.Cond.methodLink "SilkRowModel" (211 : Nat) ({ cls := "java/lang/System", name := "arraycopy", desc := "(Ljava/lang/Object;ILjava/lang/Object;II)V" } : Jvm.MethodName)) ∈ lw_all := lw_g (lw_at lw_m6 178 rfl) rfl
theorem q1423 : (Jvm.Cond.instanceMethod ({ cls := "SilkRowModel", name := "stifle", desc := "(I)I" } : Jvm.MethodName)) ∈ lw_all := lw_g (lw_at lw_m6 180 rfl) rfl
theorem q1424 : (Jvm.Cond.selects "SilkRowModel" ({ cls := "SilkRowModel", name := "stifle", desc := "(I)I" } : Jvm.MethodName) ({ cls := "SilkRowModel", name := "stifle", desc := "(I)I" } : Jvm.MethodName)) ∈ lw_all := lw_g (lw_at lw_m6 181 rfl) rfl
theorem q1425 : (Jvm.Cond.code ({ cls := "SilkRowModel", name := "stifle", desc := "(I)I" } : Jvm.MethodName) prog_9_method_27_code (2 : Nat) (Option.some Jvm.ClassFile.FieldType.int)) ∈ lw_all := lw_g (lw_at lw_m6 182 rfl) rfl
theorem q1426 : (Jvm.Cond.methodLink "SilkRowModel" (217 : Nat) ({ cls := "SilkRowModel", name := "isNoLot", desc := "(I)Z" } : Jvm.MethodName)) ∈ lw_all := lw_g (lw_at lw_m6 183 rfl) rfl
theorem q1427 : (Jvm.Cond.privateMethod ({ cls := "SilkRowModel", name := "isNoLot", desc := "(I)Z" } : Jvm.MethodName)) ∈ lw_tbl := lw_at lw_m6 184 rfl
theorem q1428 : (Jvm.Cond.instanceMethod ({ cls := "SilkRowModel", name := "isNoLot", desc := "(I)Z" } : Jvm.MethodName)) ∈ lw_all := lw_g (lw_at lw_m6 185 rfl) rfl
theorem q1429 : (Jvm.Cond.code ({ cls := "SilkRowModel", name := "isNoLot", desc := "(I)Z" } : Jvm.MethodName) prog_9_method_11_code (2 : Nat) (Option.some Jvm.ClassFile.FieldType.boolean)) ∈ lw_all := lw_g (lw_at lw_m6 186 rfl) rfl
theorem q1430 : (Jvm.Cond.methodLink "SilkRowModel" (223 : Nat) ({ cls := "SilkRowModel$Lot", name := "cocoons", desc := "()I" } : Jvm.MethodName)) ∈ lw_all := lw_g (lw_at lw_m6 187 rfl) rfl
theorem q1435 : (Jvm.Cond.instanceMethod ({ cls := "SilkRowModel", name := "eggs", desc := "(IIZ)I" } : Jvm.MethodName)) ∈ lw_all := lw_g (lw_at lw_m6 192 rfl) rfl
theorem q1436 : (Jvm.Cond.selects "SilkRowModel" ({ cls := "SilkRowModel", name := "eggs", desc := "(IIZ)I" } : Jvm.MethodName) ({ cls := "SilkRowModel", name := "eggs", desc := "(IIZ)I" } : Jvm.MethodName)) ∈ lw_all := lw_g (lw_at lw_m6 193 rfl) rfl
theorem q1437 : (Jvm.Cond.code ({ cls := "SilkRowModel", name := "eggs", desc := "(IIZ)I" } : Jvm.MethodName) prog_9_method_28_code (6 : Nat) (Option.some Jvm.ClassFile.FieldType.int)) ∈ lw_all := lw_g (lw_at lw_m6 194 rfl) rfl
theorem q1439 : (Jvm.Cond.instanceMethod ({ cls := "SilkRowModel", name := "reel", desc := "(IIII)I" } : Jvm.MethodName)) ∈ lw_all := lw_g (lw_at lw_m6 196 rfl) rfl
theorem q1440 : (Jvm.Cond.selects "SilkRowModel" ({ cls := "SilkRowModel", name := "reel", desc := "(IIII)I" } : Jvm.MethodName) ({ cls := "SilkRowModel", name := "reel", desc := "(IIII)I" } : Jvm.MethodName)) ∈ lw_all := lw_g (lw_at lw_m6 197 rfl) rfl
theorem q1441 : (Jvm.Cond.code ({ cls := "SilkRowModel", name := "reel", desc := "(IIII)I" } : Jvm.MethodName) prog_9_method_29_code (6 : Nat) (Option.some Jvm.ClassFile.FieldType.int)) ∈ lw_all := lw_g (lw_at lw_m6 198 rfl) rfl
theorem q1442 : (Jvm.Cond.methodLink "SilkRowModel" (228 : Nat) ({ cls := "SilkRowModel", name := "isNoBasin", desc := "(I)Z" } : Jvm.MethodName)) ∈ lw_all := lw_g (lw_at lw_m6 199 rfl) rfl
theorem q1443 : (Jvm.Cond.static ({ cls := "SilkRowModel", name := "isNoBasin", desc := "(I)Z" } : Jvm.MethodName)) ∈ lw_all := lw_g (lw_at lw_m6 200 rfl) rfl
theorem q1444 : (Jvm.Cond.code ({ cls := "SilkRowModel", name := "isNoBasin", desc := "(I)Z" } : Jvm.MethodName) prog_9_method_12_code (1 : Nat) (Option.some Jvm.ClassFile.FieldType.boolean)) ∈ lw_all := lw_g (lw_at lw_m6 201 rfl) rfl
theorem q1445 : (Jvm.Cond.methodLink "SilkRowModel" (231 : Nat) ({ cls := "SilkRowModel$Basin", name := "reel", desc := "(LSilkRowModel$Lot;[III)LSilkRowModel$Skein;" } : Jvm.MethodName)) ∈ lw_all := lw_g (lw_at lw_m6 202 rfl) rfl
theorem q1456 : (Jvm.Cond.fieldLink "SilkRowModel" (235 : Nat) "SilkRowModel$Skein" "length" "I") ∈ lw_all := lw_g (lw_at lw_m6 213 rfl) rfl
theorem q1458 : (Jvm.Cond.fieldLink "SilkRowModel" (293 : Nat) "SilkRowModel$Skein" "least" "I") ∈ lw_all := lw_g (lw_at lw_m6 215 rfl) rfl
theorem q1460 : (Jvm.Cond.fieldLink "SilkRowModel" (296 : Nat) "SilkRowModel$Skein" "greatest" "I") ∈ lw_all := lw_g (lw_at lw_m6 217 rfl) rfl
theorem q1462 : (Jvm.Cond.fieldLink "SilkRowModel" (299 : Nat) "SilkRowModel$Skein" "sum" "I") ∈ lw_all := lw_g (lw_at lw_m6 219 rfl) rfl
theorem q1465 : (Jvm.Cond.fieldLink "SilkRowModel" (302 : Nat) "SilkRowModel$Skein" "pieces" "[I") ∈ lw_all := lw_g (lw_at lw_m6 222 rfl) rfl
theorem q1466 : (Jvm.Cond.fieldLink "SilkRowModel" (243 : Nat) "SilkRowModel$Skein" "isSold" "Z") ∈ lw_all := lw_g (lw_at lw_m6 223 rfl) rfl
theorem q1491 : (Jvm.Cond.static ({ cls := "SilkRowModel", name := "piece", desc := "(III)I" } : Jvm.MethodName)) ∈ lw_all := lw_g (lw_at lw_m7 8 rfl) rfl
theorem q1492 : (Jvm.Cond.code ({ cls := "SilkRowModel", name := "piece", desc := "(III)I" } : Jvm.MethodName) prog_9_method_3_code (3 : Nat) (Option.some Jvm.ClassFile.FieldType.int)) ∈ lw_all := lw_g (lw_at lw_m7 9 rfl) rfl
theorem q1493 : (Jvm.Cond.fieldLink "SilkRowModel" (3 : Nat) "SilkRowModel" "OF_GOOD" "[I") ∈ lw_all := lw_g (lw_at lw_m7 10 rfl) rfl
theorem q1494 : (Jvm.Cond.laysStatic "SilkRowModel" "OF_GOOD" "[I") ∈ lw_tbl := lw_at lw_m7 11 rfl
theorem q1495 : (Jvm.Cond.methodLink "SilkRowModel" (7 : Nat) ({ cls := "java/lang/Math", name := "max", desc := "(II)I" } : Jvm.MethodName)) ∈ lw_all := lw_g (lw_at lw_m7 12 rfl) rfl
theorem q1517 : (Jvm.Cond.instanceMethod ({ cls := "SilkRowModel", name := "sell", desc := "(I)I" } : Jvm.MethodName)) ∈ lw_all := lw_g (lw_at lw_m7 34 rfl) rfl
theorem q1518 : (Jvm.Cond.selects "SilkRowModel" ({ cls := "SilkRowModel", name := "sell", desc := "(I)I" } : Jvm.MethodName) ({ cls := "SilkRowModel", name := "sell", desc := "(I)I" } : Jvm.MethodName)) ∈ lw_all := lw_g (lw_at lw_m7 35 rfl) rfl
theorem q1519 : (Jvm.Cond.code ({ cls := "SilkRowModel", name := "sell", desc := "(I)I" } : Jvm.MethodName) prog_9_method_30_code (3 : Nat) (Option.some Jvm.ClassFile.FieldType.int)) ∈ lw_all := lw_g (lw_at lw_m7 36 rfl) rfl
theorem q1520 : (Jvm.Cond.methodLink "SilkRowModel" (240 : Nat) ({ cls := "SilkRowModel", name := "isNoSkein", desc := "(I)Z" } : Jvm.MethodName)) ∈ lw_all := lw_g (lw_at lw_m7 37 rfl) rfl
theorem q1521 : (Jvm.Cond.privateMethod ({ cls := "SilkRowModel", name := "isNoSkein", desc := "(I)Z" } : Jvm.MethodName)) ∈ lw_tbl := lw_at lw_m7 38 rfl
theorem q1522 : (Jvm.Cond.instanceMethod ({ cls := "SilkRowModel", name := "isNoSkein", desc := "(I)Z" } : Jvm.MethodName)) ∈ lw_all := lw_g (lw_at lw_m7 39 rfl) rfl
theorem q1523 : (Jvm.Cond.code ({ cls := "SilkRowModel", name := "isNoSkein", desc := "(I)Z" } : Jvm.MethodName) prog_9_method_13_code (2 : Nat) (Option.some Jvm.ClassFile.FieldType.boolean)) ∈ lw_all := lw_g (lw_at lw_m7 40 rfl) rfl
theorem q1524 : (Jvm.Cond.classLink "SilkRowModel" (236 : Nat) "SilkRowModel$Skein") ∈ lw_all := lw_g (lw_at lw_m7 41 rfl) rfl
theorem q1525 : (Jvm.Cond.methodLink "SilkRowModel" (246 : Nat) ({ cls := "SilkRowModel$Skein", name := "grade", desc := "()I" } : Jvm.MethodName)) ∈ lw_all := lw_g (lw_at lw_m7 42 rfl) rfl
theorem q1530 : (Jvm.Cond.instanceMethod ({ cls := "SilkRowModel", name := "borrow", desc := "(I)I" } : Jvm.MethodName)) ∈ lw_all := lw_g (lw_at lw_m7 47 rfl) rfl
theorem q1531 : (Jvm.Cond.selects "SilkRowModel" ({ cls := "SilkRowModel", name := "borrow", desc := "(I)I" } : Jvm.MethodName) ({ cls := "SilkRowModel", name := "borrow", desc := "(I)I" } : Jvm.MethodName)) ∈ lw_all := lw_g (lw_at lw_m7 48 rfl) rfl
theorem q1532 : (Jvm.Cond.code ({ cls := "SilkRowModel", name := "borrow", desc := "(I)I" } : Jvm.MethodName) prog_9_method_31_code (2 : Nat) (Option.some Jvm.ClassFile.FieldType.int)) ∈ lw_all := lw_g (lw_at lw_m7 49 rfl) rfl
theorem q1534 : (Jvm.Cond.instanceMethod ({ cls := "SilkRowModel", name := "pay", desc := "(I)I" } : Jvm.MethodName)) ∈ lw_all := lw_g (lw_at lw_m7 51 rfl) rfl
theorem q1535 : (Jvm.Cond.selects "SilkRowModel" ({ cls := "SilkRowModel", name := "pay", desc := "(I)I" } : Jvm.MethodName) ({ cls := "SilkRowModel", name := "pay", desc := "(I)I" } : Jvm.MethodName)) ∈ lw_all := lw_g (lw_at lw_m7 52 rfl) rfl
theorem q1536 : (Jvm.Cond.code ({ cls := "SilkRowModel", name := "pay", desc := "(I)I" } : Jvm.MethodName) prog_9_method_32_code (3 : Nat) (Option.some Jvm.ClassFile.FieldType.int)) ∈ lw_all := lw_g (lw_at lw_m7 53 rfl) rfl
theorem q1538 : (Jvm.Cond.instanceMethod ({ cls := "SilkRowModel", name := "ofPlot", desc := "(II)I" } : Jvm.MethodName)) ∈ lw_all := lw_g (lw_at lw_m7 55 rfl) rfl
theorem q1539 : (Jvm.Cond.selects "SilkRowModel" ({ cls := "SilkRowModel", name := "ofPlot", desc := "(II)I" } : Jvm.MethodName) ({ cls := "SilkRowModel", name := "ofPlot", desc := "(II)I" } : Jvm.MethodName)) ∈ lw_all := lw_g (lw_at lw_m7 56 rfl) rfl
theorem q1540 : (Jvm.Cond.code ({ cls := "SilkRowModel", name := "ofPlot", desc := "(II)I" } : Jvm.MethodName) prog_9_method_34_code (3 : Nat) (Option.some Jvm.ClassFile.FieldType.int)) ∈ lw_all := lw_g (lw_at lw_m7 57 rfl) rfl
theorem q1541 : (Jvm.Cond.methodLink "SilkRowModel" (258 : Nat) ({ cls := "SilkRowModel", name := "ofPlotNow", desc := "(II)I" } : Jvm.MethodName)) ∈ lw_all := lw_g (lw_at lw_m7 58 rfl) rfl
theorem q1542 : (Jvm.Cond.privateMethod ({ cls := "SilkRowModel", name := "ofPlotNow", desc := "(II)I" } : Jvm.MethodName)) ∈ lw_tbl := lw_at lw_m7 59 rfl
theorem q1543 : (Jvm.Cond.instanceMethod ({ cls := "SilkRowModel", name := "ofPlotNow", desc := "(II)I" } : Jvm.MethodName)) ∈ lw_all := lw_g (lw_at lw_m7 60 rfl) rfl
theorem q1544 : (Jvm.Cond.code ({ cls := "SilkRowModel", name := "ofPlotNow", desc := "(II)I" } : Jvm.MethodName) prog_9_method_33_code (4 : Nat) (Option.some Jvm.ClassFile.FieldType.int)) ∈ lw_all := lw_g (lw_at lw_m7 61 rfl) rfl
theorem q1546 : (Jvm.Cond.instanceMethod ({ cls := "SilkRowModel", name := "ofLine", desc := "(II)I" } : Jvm.MethodName)) ∈ lw_all := lw_g (lw_at lw_m7 63 rfl) rfl
theorem q1547 : (Jvm.Cond.selects "SilkRowModel" ({ cls := "SilkRowModel", name := "ofLine", desc := "(II)I" } : Jvm.MethodName) ({ cls := "SilkRowModel", name := "ofLine", desc := "(II)I" } : Jvm.MethodName)) ∈ lw_all := lw_g (lw_at lw_m7 64 rfl) rfl
theorem q1548 : (Jvm.Cond.code ({ cls := "SilkRowModel", name := "ofLine", desc := "(II)I" } : Jvm.MethodName) prog_9_method_36_code (3 : Nat) (Option.some Jvm.ClassFile.FieldType.int)) ∈ lw_all := lw_g (lw_at lw_m7 65 rfl) rfl
theorem q1549 : (Jvm.Cond.methodLink "SilkRowModel" (261 : Nat) ({ cls := "SilkRowModel", name := "ofLineNow", desc := "(II)I" } : Jvm.MethodName)) ∈ lw_all := lw_g (lw_at lw_m7 66 rfl) rfl
theorem q1550 : (Jvm.Cond.privateMethod ({ cls := "SilkRowModel", name := "ofLineNow", desc := "(II)I" } : Jvm.MethodName)) ∈ lw_tbl := lw_at lw_m7 67 rfl
theorem q1551 : (Jvm.Cond.instanceMethod ({ cls := "SilkRowModel", name := "ofLineNow", desc := "(II)I" } : Jvm.MethodName)) ∈ lw_all := lw_g (lw_at lw_m7 68 rfl) rfl
theorem q1552 : (Jvm.Cond.code ({ cls := "SilkRowModel", name := "ofLineNow", desc := "(II)I" } : Jvm.MethodName) prog_9_method_35_code (3 : Nat) (Option.some Jvm.ClassFile.FieldType.int)) ∈ lw_all := lw_g (lw_at lw_m7 69 rfl) rfl
theorem q1554 : (Jvm.Cond.instanceMethod ({ cls := "SilkRowModel", name := "ofTray", desc := "(II)I" } : Jvm.MethodName)) ∈ lw_all := lw_g (lw_at lw_m7 71 rfl) rfl
theorem q1555 : (Jvm.Cond.selects "SilkRowModel" ({ cls := "SilkRowModel", name := "ofTray", desc := "(II)I" } : Jvm.MethodName) ({ cls := "SilkRowModel", name := "ofTray", desc := "(II)I" } : Jvm.MethodName)) ∈ lw_all := lw_g (lw_at lw_m7 72 rfl) rfl
theorem q1556 : (Jvm.Cond.code ({ cls := "SilkRowModel", name := "ofTray", desc := "(II)I" } : Jvm.MethodName) prog_9_method_38_code (3 : Nat) (Option.some Jvm.ClassFile.FieldType.int)) ∈ lw_all := lw_g (lw_at lw_m7 73 rfl) rfl
theorem q1557 : (Jvm.Cond.methodLink "SilkRowModel" (273 : Nat) ({ cls := "SilkRowModel", name := "ofTrayNow", desc := "(II)I" } : Jvm.MethodName)) ∈ lw_all := lw_g (lw_at lw_m7 74 rfl) rfl
theorem q1558 : (Jvm.Cond.privateMethod ({ cls := "SilkRowModel", name := "ofTrayNow", desc := "(II)I" } : Jvm.MethodName)) ∈ lw_tbl := lw_at lw_m7 75 rfl
theorem q1559 : (Jvm.Cond.instanceMethod ({ cls := "SilkRowModel", name := "ofTrayNow", desc := "(II)I" } : Jvm.MethodName)) ∈ lw_all := lw_g (lw_at lw_m7 76 rfl) rfl
theorem q1560 : (Jvm.Cond.code ({ cls := "SilkRowModel", name := "ofTrayNow", desc := "(II)I" } : Jvm.MethodName) prog_9_method_37_code (5 : Nat) (Option.some Jvm.ClassFile.FieldType.int)) ∈ lw_all := lw_g (lw_at lw_m7 77 rfl) rfl
theorem q1561 : (Jvm.Cond.methodLink "SilkRowModel" (270 : Nat) ({ cls := "SilkRowModel$Tray", name := "need", desc := "()I" } : Jvm.MethodName)) ∈ lw_all := lw_g (lw_at lw_m7 78 rfl) rfl
theorem q1563 : (Jvm.Cond.instanceMethod ({ cls := "SilkRowModel", name := "ofLot", desc := "(II)I" } : Jvm.MethodName)) ∈ lw_all := lw_g (lw_at lw_m7 80 rfl) rfl
theorem q1564 : (Jvm.Cond.selects "SilkRowModel" ({ cls := "SilkRowModel", name := "ofLot", desc := "(II)I" } : Jvm.MethodName) ({ cls := "SilkRowModel", name := "ofLot", desc := "(II)I" } : Jvm.MethodName)) ∈ lw_all := lw_g (lw_at lw_m7 81 rfl) rfl
theorem q1565 : (Jvm.Cond.code ({ cls := "SilkRowModel", name := "ofLot", desc := "(II)I" } : Jvm.MethodName) prog_9_method_40_code (3 : Nat) (Option.some Jvm.ClassFile.FieldType.int)) ∈ lw_all := lw_g (lw_at lw_m7 82 rfl) rfl
theorem q1566 : (Jvm.Cond.methodLink "SilkRowModel" (280 : Nat) ({ cls := "SilkRowModel", name := "ofLotNow", desc := "(II)I" } : Jvm.MethodName)) ∈ lw_all := lw_g (lw_at lw_m7 83 rfl) rfl
theorem q1567 : (Jvm.Cond.privateMethod ({ cls := "SilkRowModel", name := "ofLotNow", desc := "(II)I" } : Jvm.MethodName)) ∈ lw_tbl := lw_at lw_m7 84 rfl
theorem q1568 : (Jvm.Cond.instanceMethod ({ cls := "SilkRowModel", name := "ofLotNow", desc := "(II)I" } : Jvm.MethodName)) ∈ lw_all := lw_g (lw_at lw_m7 85 rfl) rfl
theorem q1569 : (Jvm.Cond.code ({ cls := "SilkRowModel", name := "ofLotNow", desc := "(II)I" } : Jvm.MethodName) prog_9_method_39_code (5 : Nat) (Option.some Jvm.ClassFile.FieldType.int)) ∈ lw_all := lw_g (lw_at lw_m7 86 rfl) rfl
theorem q1571 : (Jvm.Cond.instanceMethod ({ cls := "SilkRowModel", name := "inBasin", desc := "(II)I" } : Jvm.MethodName)) ∈ lw_all := lw_g (lw_at lw_m7 88 rfl) rfl
theorem q1572 : (Jvm.Cond.selects "SilkRowModel" ({ cls := "SilkRowModel", name := "inBasin", desc := "(II)I" } : Jvm.MethodName) ({ cls := "SilkRowModel", name := "inBasin", desc := "(II)I" } : Jvm.MethodName)) ∈ lw_all := lw_g (lw_at lw_m7 89 rfl) rfl
theorem q1573 : (Jvm.Cond.code ({ cls := "SilkRowModel", name := "inBasin", desc := "(II)I" } : Jvm.MethodName) prog_9_method_42_code (3 : Nat) (Option.some Jvm.ClassFile.FieldType.int)) ∈ lw_all := lw_g (lw_at lw_m7 90 rfl) rfl
theorem q1574 : (Jvm.Cond.methodLink "SilkRowModel" (290 : Nat) ({ cls := "SilkRowModel", name := "inBasinNow", desc := "(II)I" } : Jvm.MethodName)) ∈ lw_all := lw_g (lw_at lw_m7 91 rfl) rfl
theorem q1575 : (Jvm.Cond.privateMethod ({ cls := "SilkRowModel", name := "inBasinNow", desc := "(II)I" } : Jvm.MethodName)) ∈ lw_tbl := lw_at lw_m7 92 rfl
theorem q1576 : (Jvm.Cond.instanceMethod ({ cls := "SilkRowModel", name := "inBasinNow", desc := "(II)I" } : Jvm.MethodName)) ∈ lw_all := lw_g (lw_at lw_m7 93 rfl) rfl
theorem q1577 : (Jvm.Cond.code ({ cls := "SilkRowModel", name := "inBasinNow", desc := "(II)I" } : Jvm.MethodName) prog_9_method_41_code (3 : Nat) (Option.some Jvm.ClassFile.FieldType.int)) ∈ lw_all := lw_g (lw_at lw_m7 94 rfl) rfl
theorem q1578 : (Jvm.Cond.classLink "SilkRowModel" (286 : Nat) "[I") ∈ lw_all := lw_g (lw_at lw_m7 95 rfl) rfl
theorem q1579 : (Jvm.Cond.methodLink "SilkRowModel" (287 : Nat) ({ cls := "SilkRowModel$Basin", name := "next", desc := "([I)I" } : Jvm.MethodName)) ∈ lw_all := lw_g (lw_at lw_m7 96 rfl) rfl
theorem q1581 : (Jvm.Cond.instanceMethod ({ cls := "SilkRowModel", name := "ofSkein", desc := "(II)I" } : Jvm.MethodName)) ∈ lw_all := lw_g (lw_at lw_m7 98 rfl) rfl
theorem q1582 : (Jvm.Cond.selects "SilkRowModel" ({ cls := "SilkRowModel", name := "ofSkein", desc := "(II)I" } : Jvm.MethodName) ({ cls := "SilkRowModel", name := "ofSkein", desc := "(II)I" } : Jvm.MethodName)) ∈ lw_all := lw_g (lw_at lw_m7 99 rfl) rfl
theorem q1583 : (Jvm.Cond.code ({ cls := "SilkRowModel", name := "ofSkein", desc := "(II)I" } : Jvm.MethodName) prog_9_method_44_code (3 : Nat) (Option.some Jvm.ClassFile.FieldType.int)) ∈ lw_all := lw_g (lw_at lw_m7 100 rfl) rfl
theorem q1584 : (Jvm.Cond.methodLink "SilkRowModel" (305 : Nat) ({ cls := "SilkRowModel", name := "ofSkeinNow", desc := "(II)I" } : Jvm.MethodName)) ∈ lw_all := lw_g (lw_at lw_m7 101 rfl) rfl
theorem q1585 : (Jvm.Cond.privateMethod ({ cls := "SilkRowModel", name := "ofSkeinNow", desc := "(II)I" } : Jvm.MethodName)) ∈ lw_tbl := lw_at lw_m7 102 rfl
theorem q1586 : (Jvm.Cond.instanceMethod ({ cls := "SilkRowModel", name := "ofSkeinNow", desc := "(II)I" } : Jvm.MethodName)) ∈ lw_all := lw_g (lw_at lw_m7 103 rfl) rfl
theorem q1587 : (Jvm.Cond.code ({ cls := "SilkRowModel", name := "ofSkeinNow", desc := "(II)I" } : Jvm.MethodName) prog_9_method_43_code (5 : Nat) (Option.some Jvm.ClassFile.FieldType.int)) ∈ lw_all := lw_g (lw_at lw_m7 104 rfl) rfl
theorem q1589 : (Jvm.Cond.instanceMethod ({ cls := "SilkRowModel", name := "many", desc := "(I)I" } : Jvm.MethodName)) ∈ lw_all := lw_g (lw_at lw_m7 106 rfl) rfl
theorem q1590 : (Jvm.Cond.selects "SilkRowModel" ({ cls := "SilkRowModel", name := "many", desc := "(I)I" } : Jvm.MethodName) ({ cls := "SilkRowModel", name := "many", desc := "(I)I" } : Jvm.MethodName)) ∈ lw_all := lw_g (lw_at lw_m7 107 rfl) rfl
theorem q1591 : (Jvm.Cond.code ({ cls := "SilkRowModel", name := "many", desc := "(I)I" } : Jvm.MethodName) prog_9_method_46_code (2 : Nat) (Option.some Jvm.ClassFile.FieldType.int)) ∈ lw_all := lw_g (lw_at lw_m7 108 rfl) rfl
theorem q1592 : (Jvm.Cond.methodLink "SilkRowModel" (308 : Nat) ({ cls := "SilkRowModel", name := "manyNow", desc := "(I)I" } : Jvm.MethodName)) ∈ lw_all := lw_g (lw_at lw_m7 109 rfl) rfl
theorem q1593 : (Jvm.Cond.privateMethod ({ cls := "SilkRowModel", name := "manyNow", desc := "(I)I" } : Jvm.MethodName)) ∈ lw_tbl := lw_at lw_m7 110 rfl
theorem q1594 : (Jvm.Cond.instanceMethod ({ cls := "SilkRowModel", name := "manyNow", desc := "(I)I" } : Jvm.MethodName)) ∈ lw_all := lw_g (lw_at lw_m7 111 rfl) rfl
theorem q1595 : (Jvm.Cond.code ({ cls := "SilkRowModel", name := "manyNow", desc := "(I)I" } : Jvm.MethodName) prog_9_method_45_code (9 : Nat) (Option.some Jvm.ClassFile.FieldType.int)) ∈ lw_all := lw_g (lw_at lw_m7 112 rfl) rfl
theorem q1597 : (Jvm.Cond.instanceMethod ({ cls := "SilkRowModel", name := "meanGrade", desc := "()D" } : Jvm.MethodName)) ∈ lw_all := lw_g (lw_at lw_m7 114 rfl) rfl
theorem q1598 : (Jvm.Cond.selects "SilkRowModel" ({ cls := "SilkRowModel", name := "meanGrade", desc := "()D" } : Jvm.MethodName) ({ cls := "SilkRowModel", name := "meanGrade", desc := "()D" } : Jvm.MethodName)) ∈ lw_all := lw_g (lw_at lw_m7 115 rfl) rfl
theorem q1599 : (Jvm.Cond.code ({ cls := "SilkRowModel", name := "meanGrade", desc := "()D" } : Jvm.MethodName) prog_9_method_47_code (5 : Nat) (Option.some Jvm.ClassFile.FieldType.double)) ∈ lw_all := lw_g (lw_at lw_m7 116 rfl) rfl
theorem q1601 : (Jvm.Cond.instanceMethod ({ cls := "SilkRowModel", name := "ripeIn", desc := "(I)I" } : Jvm.MethodName)) ∈ lw_all := lw_g (lw_at lw_m7 118 rfl) rfl
theorem q1602 : (Jvm.Cond.selects "SilkRowModel" ({ cls := "SilkRowModel", name := "ripeIn", desc := "(I)I" } : Jvm.MethodName) ({ cls := "SilkRowModel", name := "ripeIn", desc := "(I)I" } : Jvm.MethodName)) ∈ lw_all := lw_g (lw_at lw_m7 119 rfl) rfl
theorem q1603 : (Jvm.Cond.code ({ cls := "SilkRowModel", name := "ripeIn", desc := "(I)I" } : Jvm.MethodName) prog_9_method_49_code (2 : Nat) (Option.some Jvm.ClassFile.FieldType.int)) ∈ lw_all := lw_g (lw_at lw_m7 120 rfl) rfl
theorem q1604 : (Jvm.Cond.methodLink "SilkRowModel" (311 : Nat) ({ cls := "SilkRowModel", name := "ripeInNow", desc := "(I)I" } : Jvm.MethodName)) ∈ lw_all := lw_g (lw_at lw_m7 121 rfl) rfl
theorem q1605 : (Jvm.Cond.privateMethod ({ cls := "SilkRowModel", name := "ripeInNow", desc := "(I)I" } : Jvm.MethodName)) ∈ lw_tbl := lw_at lw_m7 122 rfl
theorem q1606 : (Jvm.Cond.instanceMethod ({ cls := "SilkRowModel", name := "ripeInNow", desc := "(I)I" } : Jvm.MethodName)) ∈ lw_all := lw_g (lw_at lw_m7 123 rfl) rfl
theorem q1607 : (Jvm.Cond.code ({ cls := "SilkRowModel", name := "ripeInNow", desc := "(I)I" } : Jvm.MethodName) prog_9_method_48_code (4 : Nat) (Option.some Jvm.ClassFile.FieldType.int)) ∈ lw_all := lw_g (lw_at lw_m7 124 rfl) rfl
theorem q1609 : (Jvm.Cond.instanceMethod ({ cls := "SilkRowModel", name := "bestTarget", desc := "(III)I" } : Jvm.MethodName)) ∈ lw_all := lw_g (lw_at lw_m7 126 rfl) rfl
theorem q1610 : (Jvm.Cond.selects "SilkRowModel" ({ cls := "SilkRowModel", name := "bestTarget", desc := "(III)I" } : Jvm.MethodName) ({ cls := "SilkRowModel", name := "bestTarget", desc := "(III)I" } : Jvm.MethodName)) ∈ lw_all := lw_g (lw_at lw_m7 127 rfl) rfl
theorem q1611 : (Jvm.Cond.code ({ cls := "SilkRowModel", name := "bestTarget", desc := "(III)I" } : Jvm.MethodName) prog_9_method_51_code (4 : Nat) (Option.some Jvm.ClassFile.FieldType.int)) ∈ lw_all := lw_g (lw_at lw_m7 128 rfl) rfl
theorem q1612 : (Jvm.Cond.methodLink "SilkRowModel" (320 : Nat) ({ cls := "SilkRowModel", name := "bestTargetNow", desc := "(III)I" } : Jvm.MethodName)) ∈ lw_all := lw_g (lw_at lw_m7 129 rfl) rfl
theorem q1613 : (Jvm.Cond.privateMethod ({ cls := "SilkRowModel", name := "bestTargetNow", desc := "(III)I" } : Jvm.MethodName)) ∈ lw_tbl := lw_at lw_m7 130 rfl
theorem q1614 : (Jvm.Cond.instanceMethod ({ cls := "SilkRowModel", name := "bestTargetNow", desc := "(III)I" } : Jvm.MethodName)) ∈ lw_all := lw_g (lw_at lw_m7 131 rfl) rfl
theorem q1615 : (Jvm.Cond.code ({ cls := "SilkRowModel", name := "bestTargetNow", desc := "(III)I" } : Jvm.MethodName) prog_9_method_50_code (9 : Nat) (Option.some Jvm.ClassFile.FieldType.int)) ∈ lw_all := lw_g (lw_at lw_m7 132 rfl) rfl
theorem q1616 : (Jvm.Cond.classLink "SilkRowModel" (314 : Nat) "SilkRowModel$Trial") ∈ lw_all := lw_g (lw_at lw_m7 133 rfl) rfl
theorem q1618 : (Jvm.Cond.methodLinkNest "SilkRowModel" (316 : Nat) ({ cls := "SilkRowModel$Trial", name := "<init>", desc := "()V" } : Jvm.MethodName) "SilkRowModel") ∈ lw_tbl := lw_at lw_m7 135 rfl
theorem q1632 : (Jvm.Cond.methodLink "SilkRowModel" (317 : Nat) ({ cls := "SilkRowModel$Trial", name := "length", desc := "(LSilkRowModel$Basin;LSilkRowModel$Lot;II)I" } : Jvm.MethodName)) ∈ lw_all := lw_g (lw_at lw_m7 149 rfl) rfl
theorem q1660 : (Jvm.Cond.instanceMethod ({ cls := "SilkRowModel", name := "digest", desc := "()J" } : Jvm.MethodName)) ∈ lw_all := lw_g (lw_at lw_m7 177 rfl) rfl
theorem q1661 : (Jvm.Cond.selects "SilkRowModel" ({ cls := "SilkRowModel", name := "digest", desc := "()J" } : Jvm.MethodName) ({ cls := "SilkRowModel", name := "digest", desc := "()J" } : Jvm.MethodName)) ∈ lw_all := lw_g (lw_at lw_m7 178 rfl) rfl
theorem q1662 : (Jvm.Cond.code ({ cls := "SilkRowModel", name := "digest", desc := "()J" } : Jvm.MethodName) prog_9_method_53_code (5 : Nat) (Option.some Jvm.ClassFile.FieldType.long)) ∈ lw_all := lw_g (lw_at lw_m7 179 rfl) rfl
theorem q1663 : (Jvm.Cond.constantLong "SilkRowModel" (326 : Nat) (5415 : Int64)) ∈ lw_all := lw_g (lw_at lw_m7 180 rfl) rfl
theorem q1664 : (Jvm.Cond.methodLink "SilkRowModel" (328 : Nat) ({ cls := "SilkRowModel", name := "add", desc := "(JJ)J" } : Jvm.MethodName)) ∈ lw_all := lw_g (lw_at lw_m7 181 rfl) rfl
theorem q1665 : (Jvm.Cond.static ({ cls := "SilkRowModel", name := "add", desc := "(JJ)J" } : Jvm.MethodName)) ∈ lw_all := lw_g (lw_at lw_m7 182 rfl) rfl
theorem q1666 : (Jvm.Cond.code ({ cls := "SilkRowModel", name := "add", desc := "(JJ)J" } : Jvm.MethodName) prog_9_method_52_code (4 : Nat) (Option.some Jvm.ClassFile.FieldType.long)) ∈ lw_all := lw_g (lw_at lw_m7 183 rfl) rfl
theorem q1667 : (Jvm.Cond.constantLong "SilkRowModel" (324 : Nat) (31 : Int64)) ∈ lw_all := lw_g (lw_at lw_m7 184 rfl) rfl
theorem q1680 : (Jvm.Cond.castable "SilkRowModel" "java/lang/Object") ∈ lw_tbl := lw_at lw_m7 197 rfl
theorem in_X4 : ∀ w ∈ wsX40, w ∈ lw_all := lw_in wsX40 [1194, 1196, 1198, 1200, 1202, 1204, 1206, 1208, 1210, 1212, 1214, 1216, 1218, 1220] (by decide +kernel) (by decide +kernel)
