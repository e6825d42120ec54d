/-! SilkRow -/
set_option maxRecDepth 100000
def RX1 : String := "SilkRow"
def TX1 : u_T := fun k => match k with
  | 0 => ("SilkRow", "plots", "Ljava/util/ArrayList;", true)
  | 1 => ("SilkRow", "lines", "Ljava/util/ArrayList;", true)
  | 2 => ("SilkRow", "trays", "Ljava/util/ArrayList;", true)
  | 3 => ("SilkRow", "lots", "Ljava/util/ArrayList;", true)
  | 4 => ("SilkRow", "basins", "Ljava/util/ArrayList;", true)
  | 5 => ("SilkRow", "skeins", "Ljava/util/ArrayList;", true)
  | 6 => ("SilkRow", "now", "I", false)
  | 7 => ("SilkRow", "isWetNow", "Z", false)
  | 8 => ("SilkRow", "food", "I", false)
  | 9 => ("SilkRow", "wetFood", "I", false)
  | 10 => ("SilkRow", "died", "I", false)
  | 11 => ("SilkRow", "money", "I", false)
  | _ => ("SilkRow", "debt", "I", false)
def tyX1 : Nat → FieldType := fun k => match k with
  | 0 => .object "java/util/ArrayList"
  | 1 => .object "java/util/ArrayList"
  | 2 => .object "java/util/ArrayList"
  | 3 => .object "java/util/ArrayList"
  | 4 => .object "java/util/ArrayList"
  | 5 => .object "java/util/ArrayList"
  | 6 => .int
  | 7 => .boolean
  | 8 => .int
  | 9 => .int
  | 10 => .int
  | 11 => .int
  | _ => .int
abbrev wsX10 : List Cond := u_ws RX1 TX1 13
set_option maxRecDepth 100000 in
theorem nmX1 : ∀ a, a < 13 → ∀ b, b < 13 → a ≠ b → (TX1 a).2.1 ≠ (TX1 b).2.1 := by decide +kernel
set_option maxRecDepth 100000 in
theorem tyX1_ok : ∀ k, k < 13 → parseFieldDescriptor (TX1 k).2.2.1 = some (tyX1 k) := by decide +kernel
abbrev cX1_init : ByteArray := prog_1_method_10_code
def yX1_init : MethodName := ⟨RX1, "<init>", "()V"⟩
def dkwX1_init_7 : List UInt8 := [177]
abbrev dktX1_init_7 : List UInt8 := dkwX1_init_7 ++ []
def dkwX1_init_6 : List UInt8 := [162, 0, 24, 42, 180, 0, 111, 187, 0, 74, 89, 183, 0, 97, 182, 0, 123, 87, 132, 1, 1, 167, 255, 233]
abbrev dktX1_init_6 : List UInt8 := dkwX1_init_6 ++ dktX1_init_7
def dkwX1_init_5 : List UInt8 := [180, 0, 105, 187, 0, 124, 89, 183, 0, 126, 182, 0, 123, 87, 132, 1, 1, 167, 255, 232, 3, 60, 27, 5]
abbrev dktX1_init_5 : List UInt8 := dkwX1_init_5 ++ dktX1_init_6
def dkwX1_init_4 : List UInt8 := [183, 0, 122, 182, 0, 123, 87, 132, 1, 1, 167, 255, 233, 3, 60, 27, 16, 6, 162, 0, 24, 42]
abbrev dktX1_init_4 : List UInt8 := dkwX1_init_4 ++ dktX1_init_5
def dkwX1_init_3 : List UInt8 := [181, 0, 114, 42, 16, 20, 181, 0, 117, 3, 60, 27, 7, 162, 0, 24, 42, 180, 0, 102, 187, 0, 120, 89]
abbrev dktX1_init_3 : List UInt8 := dkwX1_init_3 ++ dktX1_init_4
def dkwX1_init_2 : List UInt8 := [181, 0, 108, 42, 187, 0, 74, 89, 183, 0, 97, 181, 0, 111, 42, 187, 0, 74, 89, 183, 0, 97]
abbrev dktX1_init_2 : List UInt8 := dkwX1_init_2 ++ dktX1_init_3
def dkwX1_init_1 : List UInt8 := [181, 0, 102, 42, 187, 0, 74, 89, 183, 0, 97, 181, 0, 105, 42, 187, 0, 74, 89, 183, 0, 97]
abbrev dktX1_init_1 : List UInt8 := dkwX1_init_1 ++ dktX1_init_2
def dkwX1_init_0 : List UInt8 := [42, 183, 0, 94, 42, 187, 0, 74, 89, 183, 0, 97, 181, 0, 98, 42, 187, 0, 74, 89, 183, 0, 97]
abbrev dktX1_init_0 : List UInt8 := dkwX1_init_0 ++ dktX1_init_1
theorem dksX1_init_0 : cX1_init.data.toList.drop 0 = dktX1_init_0 := by decide +kernel
theorem dksX1_init_1 : cX1_init.data.toList.drop 23 = dktX1_init_1 := dk_seg dksX1_init_0 23 rfl rfl
theorem dksX1_init_2 : cX1_init.data.toList.drop 45 = dktX1_init_2 := dk_seg dksX1_init_1 22 rfl rfl
theorem dksX1_init_3 : cX1_init.data.toList.drop 67 = dktX1_init_3 := dk_seg dksX1_init_2 22 rfl rfl
theorem dksX1_init_4 : cX1_init.data.toList.drop 91 = dktX1_init_4 := dk_seg dksX1_init_3 24 rfl rfl
theorem dksX1_init_5 : cX1_init.data.toList.drop 113 = dktX1_init_5 := dk_seg dksX1_init_4 22 rfl rfl
theorem dksX1_init_6 : cX1_init.data.toList.drop 137 = dktX1_init_6 := dk_seg dksX1_init_5 24 rfl rfl
theorem dksX1_init_7 : cX1_init.data.toList.drop 161 = dktX1_init_7 := dk_seg dksX1_init_6 24 rfl rfl
theorem dX1_init_0 : decode cX1_init 0 = .ok (.aload_n 0, 1) := dk_42 (dk_at dksX1_init_0 0 rfl rfl)
theorem dX1_init_1 : decode cX1_init 1 = .ok (.invokespecial 94, 3) := dk_183 0 94 (dk_at dksX1_init_0 1 rfl rfl)
theorem dX1_init_4 : decode cX1_init 4 = .ok (.aload_n 0, 1) := dk_42 (dk_at dksX1_init_0 4 rfl rfl)
theorem dX1_init_5 : decode cX1_init 5 = .ok (.new 74, 3) := dk_187 0 74 (dk_at dksX1_init_0 5 rfl rfl)
theorem dX1_init_8 : decode cX1_init 8 = .ok (.dup, 1) := dk_89 (dk_at dksX1_init_0 8 rfl rfl)
theorem dX1_init_9 : decode cX1_init 9 = .ok (.invokespecial 97, 3) := dk_183 0 97 (dk_at dksX1_init_0 9 rfl rfl)
theorem dX1_init_12 : decode cX1_init 12 = .ok (.putfield 98, 3) := dk_181 0 98 (dk_at dksX1_init_0 12 rfl rfl)
theorem dX1_init_15 : decode cX1_init 15 = .ok (.aload_n 0, 1) := dk_42 (dk_at dksX1_init_0 15 rfl rfl)
theorem dX1_init_16 : decode cX1_init 16 = .ok (.new 74, 3) := dk_187 0 74 (dk_at dksX1_init_0 16 rfl rfl)
theorem dX1_init_19 : decode cX1_init 19 = .ok (.dup, 1) := dk_89 (dk_at dksX1_init_0 19 rfl rfl)
theorem dX1_init_20 : decode cX1_init 20 = .ok (.invokespecial 97, 3) := dk_183 0 97 (dk_at dksX1_init_0 20 rfl rfl)
theorem dX1_init_23 : decode cX1_init 23 = .ok (.putfield 102, 3) := dk_181 0 102 (dk_at dksX1_init_1 0 rfl rfl)
theorem dX1_init_26 : decode cX1_init 26 = .ok (.aload_n 0, 1) := dk_42 (dk_at dksX1_init_1 3 rfl rfl)
theorem dX1_init_27 : decode cX1_init 27 = .ok (.new 74, 3) := dk_187 0 74 (dk_at dksX1_init_1 4 rfl rfl)
theorem dX1_init_30 : decode cX1_init 30 = .ok (.dup, 1) := dk_89 (dk_at dksX1_init_1 7 rfl rfl)
theorem dX1_init_31 : decode cX1_init 31 = .ok (.invokespecial 97, 3) := dk_183 0 97 (dk_at dksX1_init_1 8 rfl rfl)
theorem dX1_init_34 : decode cX1_init 34 = .ok (.putfield 105, 3) := dk_181 0 105 (dk_at dksX1_init_1 11 rfl rfl)
theorem dX1_init_37 : decode cX1_init 37 = .ok (.aload_n 0, 1) := dk_42 (dk_at dksX1_init_1 14 rfl rfl)
theorem dX1_init_38 : decode cX1_init 38 = .ok (.new 74, 3) := dk_187 0 74 (dk_at dksX1_init_1 15 rfl rfl)
theorem dX1_init_41 : decode cX1_init 41 = .ok (.dup, 1) := dk_89 (dk_at dksX1_init_1 18 rfl rfl)
theorem dX1_init_42 : decode cX1_init 42 = .ok (.invokespecial 97, 3) := dk_183 0 97 (dk_at dksX1_init_1 19 rfl rfl)
theorem dX1_init_45 : decode cX1_init 45 = .ok (.putfield 108, 3) := dk_181 0 108 (dk_at dksX1_init_2 0 rfl rfl)
theorem dX1_init_48 : decode cX1_init 48 = .ok (.aload_n 0, 1) := dk_42 (dk_at dksX1_init_2 3 rfl rfl)
theorem dX1_init_49 : decode cX1_init 49 = .ok (.new 74, 3) := dk_187 0 74 (dk_at dksX1_init_2 4 rfl rfl)
theorem dX1_init_52 : decode cX1_init 52 = .ok (.dup, 1) := dk_89 (dk_at dksX1_init_2 7 rfl rfl)
theorem dX1_init_53 : decode cX1_init 53 = .ok (.invokespecial 97, 3) := dk_183 0 97 (dk_at dksX1_init_2 8 rfl rfl)
theorem dX1_init_56 : decode cX1_init 56 = .ok (.putfield 111, 3) := dk_181 0 111 (dk_at dksX1_init_2 11 rfl rfl)
theorem dX1_init_59 : decode cX1_init 59 = .ok (.aload_n 0, 1) := dk_42 (dk_at dksX1_init_2 14 rfl rfl)
theorem dX1_init_60 : decode cX1_init 60 = .ok (.new 74, 3) := dk_187 0 74 (dk_at dksX1_init_2 15 rfl rfl)
theorem dX1_init_63 : decode cX1_init 63 = .ok (.dup, 1) := dk_89 (dk_at dksX1_init_2 18 rfl rfl)
theorem dX1_init_64 : decode cX1_init 64 = .ok (.invokespecial 97, 3) := dk_183 0 97 (dk_at dksX1_init_2 19 rfl rfl)
theorem dX1_init_67 : decode cX1_init 67 = .ok (.putfield 114, 3) := dk_181 0 114 (dk_at dksX1_init_3 0 rfl rfl)
theorem dX1_init_70 : decode cX1_init 70 = .ok (.aload_n 0, 1) := dk_42 (dk_at dksX1_init_3 3 rfl rfl)
theorem dX1_init_71 : decode cX1_init 71 = .ok (.bipush 20, 2) := dk_16 20 (dk_at dksX1_init_3 4 rfl rfl)
theorem dX1_init_73 : decode cX1_init 73 = .ok (.putfield 117, 3) := dk_181 0 117 (dk_at dksX1_init_3 6 rfl rfl)
theorem dX1_init_76 : decode cX1_init 76 = .ok (.iconst 0, 1) := dk_3 (dk_at dksX1_init_3 9 rfl rfl)
theorem dX1_init_77 : decode cX1_init 77 = .ok (.istore_n 1, 1) := dk_60 (dk_at dksX1_init_3 10 rfl rfl)
theorem dX1_init_78 : decode cX1_init 78 = .ok (.iload_n 1, 1) := dk_27 (dk_at dksX1_init_3 11 rfl rfl)
theorem dX1_init_79 : decode cX1_init 79 = .ok (.iconst 4, 1) := dk_7 (dk_at dksX1_init_3 12 rfl rfl)
theorem dX1_init_80 : decode cX1_init 80 = .ok (.if_icmp .ge 24, 3) := dk_162 0 24 (dk_at dksX1_init_3 13 rfl rfl)
theorem dX1_init_83 : decode cX1_init 83 = .ok (.aload_n 0, 1) := dk_42 (dk_at dksX1_init_3 16 rfl rfl)
theorem dX1_init_84 : decode cX1_init 84 = .ok (.getfield 102, 3) := dk_180 0 102 (dk_at dksX1_init_3 17 rfl rfl)
theorem dX1_init_87 : decode cX1_init 87 = .ok (.new 120, 3) := dk_187 0 120 (dk_at dksX1_init_3 20 rfl rfl)
theorem dX1_init_90 : decode cX1_init 90 = .ok (.dup, 1) := dk_89 (dk_at dksX1_init_3 23 rfl rfl)
theorem dX1_init_91 : decode cX1_init 91 = .ok (.invokespecial 122, 3) := dk_183 0 122 (dk_at dksX1_init_4 0 rfl rfl)
theorem dX1_init_94 : decode cX1_init 94 = .ok (.invokevirtual 123, 3) := dk_182 0 123 (dk_at dksX1_init_4 3 rfl rfl)
theorem dX1_init_97 : decode cX1_init 97 = .ok (.pop, 1) := dk_87 (dk_at dksX1_init_4 6 rfl rfl)
theorem dX1_init_98 : decode cX1_init 98 = .ok (.iinc 1 1, 3) := dk_132 1 1 (dk_at dksX1_init_4 7 rfl rfl)
theorem dX1_init_101 : decode cX1_init 101 = .ok (.goto (-23), 3) := dk_167 255 233 (dk_at dksX1_init_4 10 rfl rfl)
theorem dX1_init_104 : decode cX1_init 104 = .ok (.iconst 0, 1) := dk_3 (dk_at dksX1_init_4 13 rfl rfl)
theorem dX1_init_105 : decode cX1_init 105 = .ok (.istore_n 1, 1) := dk_60 (dk_at dksX1_init_4 14 rfl rfl)
theorem dX1_init_106 : decode cX1_init 106 = .ok (.iload_n 1, 1) := dk_27 (dk_at dksX1_init_4 15 rfl rfl)
theorem dX1_init_107 : decode cX1_init 107 = .ok (.bipush 6, 2) := dk_16 6 (dk_at dksX1_init_4 16 rfl rfl)
theorem dX1_init_109 : decode cX1_init 109 = .ok (.if_icmp .ge 24, 3) := dk_162 0 24 (dk_at dksX1_init_4 18 rfl rfl)
theorem dX1_init_112 : decode cX1_init 112 = .ok (.aload_n 0, 1) := dk_42 (dk_at dksX1_init_4 21 rfl rfl)
theorem dX1_init_113 : decode cX1_init 113 = .ok (.getfield 105, 3) := dk_180 0 105 (dk_at dksX1_init_5 0 rfl rfl)
theorem dX1_init_116 : decode cX1_init 116 = .ok (.new 124, 3) := dk_187 0 124 (dk_at dksX1_init_5 3 rfl rfl)
theorem dX1_init_119 : decode cX1_init 119 = .ok (.dup, 1) := dk_89 (dk_at dksX1_init_5 6 rfl rfl)
theorem dX1_init_120 : decode cX1_init 120 = .ok (.invokespecial 126, 3) := dk_183 0 126 (dk_at dksX1_init_5 7 rfl rfl)
theorem dX1_init_123 : decode cX1_init 123 = .ok (.invokevirtual 123, 3) := dk_182 0 123 (dk_at dksX1_init_5 10 rfl rfl)
theorem dX1_init_126 : decode cX1_init 126 = .ok (.pop, 1) := dk_87 (dk_at dksX1_init_5 13 rfl rfl)
theorem dX1_init_127 : decode cX1_init 127 = .ok (.iinc 1 1, 3) := dk_132 1 1 (dk_at dksX1_init_5 14 rfl rfl)
theorem dX1_init_130 : decode cX1_init 130 = .ok (.goto (-24), 3) := dk_167 255 232 (dk_at dksX1_init_5 17 rfl rfl)
theorem dX1_init_133 : decode cX1_init 133 = .ok (.iconst 0, 1) := dk_3 (dk_at dksX1_init_5 20 rfl rfl)
theorem dX1_init_134 : decode cX1_init 134 = .ok (.istore_n 1, 1) := dk_60 (dk_at dksX1_init_5 21 rfl rfl)
theorem dX1_init_135 : decode cX1_init 135 = .ok (.iload_n 1, 1) := dk_27 (dk_at dksX1_init_5 22 rfl rfl)
theorem dX1_init_136 : decode cX1_init 136 = .ok (.iconst 2, 1) := dk_5 (dk_at dksX1_init_5 23 rfl rfl)
theorem dX1_init_137 : decode cX1_init 137 = .ok (.if_icmp .ge 24, 3) := dk_162 0 24 (dk_at dksX1_init_6 0 rfl rfl)
theorem dX1_init_140 : decode cX1_init 140 = .ok (.aload_n 0, 1) := dk_42 (dk_at dksX1_init_6 3 rfl rfl)
theorem dX1_init_141 : decode cX1_init 141 = .ok (.getfield 111, 3) := dk_180 0 111 (dk_at dksX1_init_6 4 rfl rfl)
theorem dX1_init_144 : decode cX1_init 144 = .ok (.new 74, 3) := dk_187 0 74 (dk_at dksX1_init_6 7 rfl rfl)
theorem dX1_init_147 : decode cX1_init 147 = .ok (.dup, 1) := dk_89 (dk_at dksX1_init_6 10 rfl rfl)
theorem dX1_init_148 : decode cX1_init 148 = .ok (.invokespecial 97, 3) := dk_183 0 97 (dk_at dksX1_init_6 11 rfl rfl)
theorem dX1_init_151 : decode cX1_init 151 = .ok (.invokevirtual 123, 3) := dk_182 0 123 (dk_at dksX1_init_6 14 rfl rfl)
theorem dX1_init_154 : decode cX1_init 154 = .ok (.pop, 1) := dk_87 (dk_at dksX1_init_6 17 rfl rfl)
theorem dX1_init_155 : decode cX1_init 155 = .ok (.iinc 1 1, 3) := dk_132 1 1 (dk_at dksX1_init_6 18 rfl rfl)
theorem dX1_init_158 : decode cX1_init 158 = .ok (.goto (-23), 3) := dk_167 255 233 (dk_at dksX1_init_6 21 rfl rfl)
theorem dX1_init_161 : decode cX1_init 161 = .ok (.return_, 1) := dk_177 (dk_at dksX1_init_7 0 rfl rfl)
abbrev cX1_meanGrade : ByteArray := prog_1_method_51_code
def yX1_meanGrade : MethodName := ⟨RX1, "meanGrade", "()D"⟩
def dkwX1_meanGrade_3 : List UInt8 := [175]
abbrev dktX1_meanGrade_3 : List UInt8 := dkwX1_meanGrade_3 ++ []
def dkwX1_meanGrade_2 : List UInt8 := [28, 25, 4, 180, 1, 28, 96, 61, 167, 255, 214, 28, 154, 0, 7, 14, 167, 0, 8, 27, 135, 28, 135, 111]
abbrev dktX1_meanGrade_2 : List UInt8 := dkwX1_meanGrade_2 ++ dktX1_meanGrade_3
def dkwX1_meanGrade_1 : List UInt8 := [185, 0, 43, 1, 0, 192, 0, 52, 58, 4, 27, 25, 4, 182, 1, 34, 25, 4, 180, 1, 28, 104, 96, 60]
abbrev dktX1_meanGrade_1 : List UInt8 := dkwX1_meanGrade_1 ++ dktX1_meanGrade_2
def dkwX1_meanGrade_0 : List UInt8 := [3, 60, 3, 61, 42, 180, 0, 114, 182, 0, 79, 78, 45, 185, 0, 37, 1, 0, 153, 0, 39, 45]
abbrev dktX1_meanGrade_0 : List UInt8 := dkwX1_meanGrade_0 ++ dktX1_meanGrade_1
theorem dksX1_meanGrade_0 : cX1_meanGrade.data.toList.drop 0 = dktX1_meanGrade_0 := by decide +kernel
theorem dksX1_meanGrade_1 : cX1_meanGrade.data.toList.drop 22 = dktX1_meanGrade_1 := dk_seg dksX1_meanGrade_0 22 rfl rfl
theorem dksX1_meanGrade_2 : cX1_meanGrade.data.toList.drop 46 = dktX1_meanGrade_2 := dk_seg dksX1_meanGrade_1 24 rfl rfl
theorem dksX1_meanGrade_3 : cX1_meanGrade.data.toList.drop 70 = dktX1_meanGrade_3 := dk_seg dksX1_meanGrade_2 24 rfl rfl
theorem dX1_meanGrade_0 : decode cX1_meanGrade 0 = .ok (.iconst 0, 1) := dk_3 (dk_at dksX1_meanGrade_0 0 rfl rfl)
theorem dX1_meanGrade_1 : decode cX1_meanGrade 1 = .ok (.istore_n 1, 1) := dk_60 (dk_at dksX1_meanGrade_0 1 rfl rfl)
theorem dX1_meanGrade_2 : decode cX1_meanGrade 2 = .ok (.iconst 0, 1) := dk_3 (dk_at dksX1_meanGrade_0 2 rfl rfl)
theorem dX1_meanGrade_3 : decode cX1_meanGrade 3 = .ok (.istore_n 2, 1) := dk_61 (dk_at dksX1_meanGrade_0 3 rfl rfl)
theorem dX1_meanGrade_4 : decode cX1_meanGrade 4 = .ok (.aload_n 0, 1) := dk_42 (dk_at dksX1_meanGrade_0 4 rfl rfl)
theorem dX1_meanGrade_5 : decode cX1_meanGrade 5 = .ok (.getfield 114, 3) := dk_180 0 114 (dk_at dksX1_meanGrade_0 5 rfl rfl)
theorem dX1_meanGrade_8 : decode cX1_meanGrade 8 = .ok (.invokevirtual 79, 3) := dk_182 0 79 (dk_at dksX1_meanGrade_0 8 rfl rfl)
theorem dX1_meanGrade_11 : decode cX1_meanGrade 11 = .ok (.astore_n 3, 1) := dk_78 (dk_at dksX1_meanGrade_0 11 rfl rfl)
theorem dX1_meanGrade_12 : decode cX1_meanGrade 12 = .ok (.aload_n 3, 1) := dk_45 (dk_at dksX1_meanGrade_0 12 rfl rfl)
theorem dX1_meanGrade_13 : decode cX1_meanGrade 13 = .ok (.invokeinterface 37 1, 5) := by decide +kernel
theorem dX1_meanGrade_18 : decode cX1_meanGrade 18 = .ok (.ifCond .eq 39, 3) := dk_153 0 39 (dk_at dksX1_meanGrade_0 18 rfl rfl)
theorem dX1_meanGrade_21 : decode cX1_meanGrade 21 = .ok (.aload_n 3, 1) := dk_45 (dk_at dksX1_meanGrade_0 21 rfl rfl)
theorem dX1_meanGrade_22 : decode cX1_meanGrade 22 = .ok (.invokeinterface 43 1, 5) := by decide +kernel
theorem dX1_meanGrade_27 : decode cX1_meanGrade 27 = .ok (.checkcast 52, 3) := dk_192 0 52 (dk_at dksX1_meanGrade_1 5 rfl rfl)
theorem dX1_meanGrade_30 : decode cX1_meanGrade 30 = .ok (.astore 4, 2) := dk_58 4 (dk_at dksX1_meanGrade_1 8 rfl rfl)
theorem dX1_meanGrade_32 : decode cX1_meanGrade 32 = .ok (.iload_n 1, 1) := dk_27 (dk_at dksX1_meanGrade_1 10 rfl rfl)
theorem dX1_meanGrade_33 : decode cX1_meanGrade 33 = .ok (.aload 4, 2) := dk_25 4 (dk_at dksX1_meanGrade_1 11 rfl rfl)
theorem dX1_meanGrade_35 : decode cX1_meanGrade 35 = .ok (.invokevirtual 290, 3) := dk_182 1 34 (dk_at dksX1_meanGrade_1 13 rfl rfl)
theorem dX1_meanGrade_38 : decode cX1_meanGrade 38 = .ok (.aload 4, 2) := dk_25 4 (dk_at dksX1_meanGrade_1 16 rfl rfl)
theorem dX1_meanGrade_40 : decode cX1_meanGrade 40 = .ok (.getfield 284, 3) := dk_180 1 28 (dk_at dksX1_meanGrade_1 18 rfl rfl)
theorem dX1_meanGrade_43 : decode cX1_meanGrade 43 = .ok (.imul, 1) := dk_104 (dk_at dksX1_meanGrade_1 21 rfl rfl)
theorem dX1_meanGrade_44 : decode cX1_meanGrade 44 = .ok (.iadd, 1) := dk_96 (dk_at dksX1_meanGrade_1 22 rfl rfl)
theorem dX1_meanGrade_45 : decode cX1_meanGrade 45 = .ok (.istore_n 1, 1) := dk_60 (dk_at dksX1_meanGrade_1 23 rfl rfl)
theorem dX1_meanGrade_46 : decode cX1_meanGrade 46 = .ok (.iload_n 2, 1) := dk_28 (dk_at dksX1_meanGrade_2 0 rfl rfl)
theorem dX1_meanGrade_47 : decode cX1_meanGrade 47 = .ok (.aload 4, 2) := dk_25 4 (dk_at dksX1_meanGrade_2 1 rfl rfl)
theorem dX1_meanGrade_49 : decode cX1_meanGrade 49 = .ok (.getfield 284, 3) := dk_180 1 28 (dk_at dksX1_meanGrade_2 3 rfl rfl)
theorem dX1_meanGrade_52 : decode cX1_meanGrade 52 = .ok (.iadd, 1) := dk_96 (dk_at dksX1_meanGrade_2 6 rfl rfl)
theorem dX1_meanGrade_53 : decode cX1_meanGrade 53 = .ok (.istore_n 2, 1) := dk_61 (dk_at dksX1_meanGrade_2 7 rfl rfl)
theorem dX1_meanGrade_54 : decode cX1_meanGrade 54 = .ok (.goto (-42), 3) := dk_167 255 214 (dk_at dksX1_meanGrade_2 8 rfl rfl)
theorem dX1_meanGrade_57 : decode cX1_meanGrade 57 = .ok (.iload_n 2, 1) := dk_28 (dk_at dksX1_meanGrade_2 11 rfl rfl)
theorem dX1_meanGrade_58 : decode cX1_meanGrade 58 = .ok (.ifCond .ne 7, 3) := dk_154 0 7 (dk_at dksX1_meanGrade_2 12 rfl rfl)
theorem dX1_meanGrade_61 : decode cX1_meanGrade 61 = .ok (.dconst 0, 1) := dk_14 (dk_at dksX1_meanGrade_2 15 rfl rfl)
theorem dX1_meanGrade_62 : decode cX1_meanGrade 62 = .ok (.goto 8, 3) := dk_167 0 8 (dk_at dksX1_meanGrade_2 16 rfl rfl)
theorem dX1_meanGrade_65 : decode cX1_meanGrade 65 = .ok (.iload_n 1, 1) := dk_27 (dk_at dksX1_meanGrade_2 19 rfl rfl)
theorem dX1_meanGrade_66 : decode cX1_meanGrade 66 = .ok (.i2d, 1) := dk_135 (dk_at dksX1_meanGrade_2 20 rfl rfl)
theorem dX1_meanGrade_67 : decode cX1_meanGrade 67 = .ok (.iload_n 2, 1) := dk_28 (dk_at dksX1_meanGrade_2 21 rfl rfl)
theorem dX1_meanGrade_68 : decode cX1_meanGrade 68 = .ok (.i2d, 1) := dk_135 (dk_at dksX1_meanGrade_2 22 rfl rfl)
theorem dX1_meanGrade_69 : decode cX1_meanGrade 69 = .ok (.ddiv, 1) := dk_111 (dk_at dksX1_meanGrade_2 23 rfl rfl)
theorem dX1_meanGrade_70 : decode cX1_meanGrade 70 = .ok (.dreturn, 1) := dk_175 (dk_at dksX1_meanGrade_3 0 rfl rfl)
abbrev cX1_digest : ByteArray := prog_1_method_57_code
def yX1_digest : MethodName := ⟨RX1, "digest", "()J"⟩
def dkwX1_digest_17 : List UInt8 := [132, 5, 1, 167, 255, 233, 167, 255, 207, 31, 173]
abbrev dktX1_digest_17 : List UInt8 := dkwX1_digest_17 ++ []
def dkwX1_digest_16 : List UInt8 := [3, 54, 5, 21, 5, 16, 10, 162, 0, 22, 31, 25, 4, 21, 5, 184, 1, 89, 133, 184, 1, 116, 64]
abbrev dktX1_digest_16 : List UInt8 := dkwX1_digest_16 ++ dktX1_digest_17
def dkwX1_digest_15 : List UInt8 := [182, 0, 79, 78, 45, 185, 0, 37, 1, 0, 153, 0, 46, 45, 185, 0, 43, 1, 0, 192, 0, 52, 58, 4]
abbrev dktX1_digest_15 : List UInt8 := dkwX1_digest_15 ++ dktX1_digest_16
def dkwX1_digest_14 : List UInt8 := [182, 1, 77, 133, 184, 1, 116, 64, 132, 4, 1, 167, 255, 234, 132, 3, 1, 167, 255, 220, 42, 180, 0, 114]
abbrev dktX1_digest_14 : List UInt8 := dkwX1_digest_14 ++ dktX1_digest_15
def dkwX1_digest_13 : List UInt8 := [167, 255, 183, 3, 62, 29, 5, 162, 0, 37, 3, 54, 4, 21, 4, 6, 162, 0, 22, 31, 42, 29, 21, 4]
abbrev dktX1_digest_13 : List UInt8 := dkwX1_digest_13 ++ dktX1_digest_14
def dkwX1_digest_12 : List UInt8 := [25, 4, 180, 1, 0, 4, 160, 0, 18, 31, 42, 25, 4, 3, 16, 8, 182, 1, 108, 133, 184, 1, 116, 64]
abbrev dktX1_digest_12 : List UInt8 := dkwX1_digest_12 ++ dktX1_digest_13
def dkwX1_digest_11 : List UInt8 := [16, 9, 162, 0, 22, 31, 25, 4, 21, 5, 184, 1, 74, 133, 184, 1, 116, 64, 132, 5, 1, 167, 255, 233]
abbrev dktX1_digest_11 : List UInt8 := dkwX1_digest_11 ++ dktX1_digest_12
def dkwX1_digest_10 : List UInt8 := [185, 0, 37, 1, 0, 153, 0, 70, 45, 185, 0, 43, 1, 0, 192, 0, 59, 58, 4, 3, 54, 5, 21, 5]
abbrev dktX1_digest_10 : List UInt8 := dkwX1_digest_10 ++ dktX1_digest_11
def dkwX1_digest_9 : List UInt8 := [182, 1, 99, 133, 184, 1, 116, 64, 167, 255, 195, 42, 180, 0, 108, 182, 0, 79, 78, 45]
abbrev dktX1_digest_9 : List UInt8 := dkwX1_digest_9 ++ dktX1_digest_10
def dkwX1_digest_8 : List UInt8 := [31, 25, 4, 21, 5, 184, 1, 65, 133, 184, 1, 116, 64, 132, 5, 1, 167, 255, 233, 31, 42, 25, 4]
abbrev dktX1_digest_8 : List UInt8 := dkwX1_digest_8 ++ dktX1_digest_9
def dkwX1_digest_7 : List UInt8 := [153, 0, 58, 45, 185, 0, 43, 1, 0, 192, 0, 124, 58, 4, 3, 54, 5, 21, 5, 16, 12, 162, 0, 22]
abbrev dktX1_digest_7 : List UInt8 := dkwX1_digest_7 ++ dktX1_digest_8
def dkwX1_digest_6 : List UInt8 := [132, 5, 1, 167, 255, 234, 167, 255, 208, 42, 180, 0, 105, 182, 0, 79, 78, 45, 185, 0, 37, 1, 0]
abbrev dktX1_digest_6 : List UInt8 := dkwX1_digest_6 ++ dktX1_digest_7
def dkwX1_digest_5 : List UInt8 := [3, 54, 5, 21, 5, 6, 162, 0, 22, 31, 25, 4, 21, 5, 184, 1, 50, 133, 184, 1, 116, 64]
abbrev dktX1_digest_5 : List UInt8 := dkwX1_digest_5 ++ dktX1_digest_6
def dkwX1_digest_4 : List UInt8 := [182, 0, 79, 78, 45, 185, 0, 37, 1, 0, 153, 0, 45, 45, 185, 0, 43, 1, 0, 192, 0, 120, 58, 4]
abbrev dktX1_digest_4 : List UInt8 := dkwX1_digest_4 ++ dktX1_digest_5
def dkwX1_digest_3 : List UInt8 := [21, 5, 184, 1, 46, 133, 184, 1, 116, 64, 132, 5, 1, 167, 255, 233, 167, 255, 207, 42, 180, 0, 102]
abbrev dktX1_digest_3 : List UInt8 := dkwX1_digest_3 ++ dktX1_digest_4
def dkwX1_digest_2 : List UInt8 := [185, 0, 43, 1, 0, 192, 0, 131, 58, 4, 3, 54, 5, 21, 5, 16, 6, 162, 0, 22, 31, 25, 4]
abbrev dktX1_digest_2 : List UInt8 := dkwX1_digest_2 ++ dktX1_digest_3
def dkwX1_digest_1 : List UInt8 := [132, 3, 1, 167, 255, 236, 42, 180, 0, 98, 182, 0, 79, 78, 45, 185, 0, 37, 1, 0, 153, 0, 46, 45]
abbrev dktX1_digest_1 : List UInt8 := dkwX1_digest_1 ++ dktX1_digest_2
def dkwX1_digest_0 : List UInt8 := [20, 1, 114, 64, 3, 62, 29, 16, 12, 162, 0, 20, 31, 42, 29, 182, 1, 92, 133, 184, 1, 116, 64]
abbrev dktX1_digest_0 : List UInt8 := dkwX1_digest_0 ++ dktX1_digest_1
theorem dksX1_digest_0 : cX1_digest.data.toList.drop 0 = dktX1_digest_0 := by decide +kernel
theorem dksX1_digest_1 : cX1_digest.data.toList.drop 23 = dktX1_digest_1 := dk_seg dksX1_digest_0 23 rfl rfl
theorem dksX1_digest_2 : cX1_digest.data.toList.drop 47 = dktX1_digest_2 := dk_seg dksX1_digest_1 24 rfl rfl
theorem dksX1_digest_3 : cX1_digest.data.toList.drop 70 = dktX1_digest_3 := dk_seg dksX1_digest_2 23 rfl rfl
theorem dksX1_digest_4 : cX1_digest.data.toList.drop 93 = dktX1_digest_4 := dk_seg dksX1_digest_3 23 rfl rfl
theorem dksX1_digest_5 : cX1_digest.data.toList.drop 117 = dktX1_digest_5 := dk_seg dksX1_digest_4 24 rfl rfl
theorem dksX1_digest_6 : cX1_digest.data.toList.drop 139 = dktX1_digest_6 := dk_seg dksX1_digest_5 22 rfl rfl
theorem dksX1_digest_7 : cX1_digest.data.toList.drop 162 = dktX1_digest_7 := dk_seg dksX1_digest_6 23 rfl rfl
theorem dksX1_digest_8 : cX1_digest.data.toList.drop 186 = dktX1_digest_8 := dk_seg dksX1_digest_7 24 rfl rfl
theorem dksX1_digest_9 : cX1_digest.data.toList.drop 209 = dktX1_digest_9 := dk_seg dksX1_digest_8 23 rfl rfl
theorem dksX1_digest_10 : cX1_digest.data.toList.drop 229 = dktX1_digest_10 := dk_seg dksX1_digest_9 20 rfl rfl
theorem dksX1_digest_11 : cX1_digest.data.toList.drop 253 = dktX1_digest_11 := dk_seg dksX1_digest_10 24 rfl rfl
theorem dksX1_digest_12 : cX1_digest.data.toList.drop 277 = dktX1_digest_12 := dk_seg dksX1_digest_11 24 rfl rfl
theorem dksX1_digest_13 : cX1_digest.data.toList.drop 301 = dktX1_digest_13 := dk_seg dksX1_digest_12 24 rfl rfl
theorem dksX1_digest_14 : cX1_digest.data.toList.drop 325 = dktX1_digest_14 := dk_seg dksX1_digest_13 24 rfl rfl
theorem dksX1_digest_15 : cX1_digest.data.toList.drop 349 = dktX1_digest_15 := dk_seg dksX1_digest_14 24 rfl rfl
theorem dksX1_digest_16 : cX1_digest.data.toList.drop 373 = dktX1_digest_16 := dk_seg dksX1_digest_15 24 rfl rfl
theorem dksX1_digest_17 : cX1_digest.data.toList.drop 396 = dktX1_digest_17 := dk_seg dksX1_digest_16 23 rfl rfl
theorem dX1_digest_0 : decode cX1_digest 0 = .ok (.ldc2_w 370, 3) := dk_20 1 114 (dk_at dksX1_digest_0 0 rfl rfl)
theorem dX1_digest_3 : decode cX1_digest 3 = .ok (.lstore_n 1, 1) := dk_64 (dk_at dksX1_digest_0 3 rfl rfl)
theorem dX1_digest_4 : decode cX1_digest 4 = .ok (.iconst 0, 1) := dk_3 (dk_at dksX1_digest_0 4 rfl rfl)
theorem dX1_digest_5 : decode cX1_digest 5 = .ok (.istore_n 3, 1) := dk_62 (dk_at dksX1_digest_0 5 rfl rfl)
theorem dX1_digest_6 : decode cX1_digest 6 = .ok (.iload_n 3, 1) := dk_29 (dk_at dksX1_digest_0 6 rfl rfl)
theorem dX1_digest_7 : decode cX1_digest 7 = .ok (.bipush 12, 2) := dk_16 12 (dk_at dksX1_digest_0 7 rfl rfl)
theorem dX1_digest_9 : decode cX1_digest 9 = .ok (.if_icmp .ge 20, 3) := dk_162 0 20 (dk_at dksX1_digest_0 9 rfl rfl)
theorem dX1_digest_12 : decode cX1_digest 12 = .ok (.lload_n 1, 1) := dk_31 (dk_at dksX1_digest_0 12 rfl rfl)
theorem dX1_digest_13 : decode cX1_digest 13 = .ok (.aload_n 0, 1) := dk_42 (dk_at dksX1_digest_0 13 rfl rfl)
theorem dX1_digest_14 : decode cX1_digest 14 = .ok (.iload_n 3, 1) := dk_29 (dk_at dksX1_digest_0 14 rfl rfl)
theorem dX1_digest_15 : decode cX1_digest 15 = .ok (.invokevirtual 348, 3) := dk_182 1 92 (dk_at dksX1_digest_0 15 rfl rfl)
theorem dX1_digest_18 : decode cX1_digest 18 = .ok (.i2l, 1) := dk_133 (dk_at dksX1_digest_0 18 rfl rfl)
theorem dX1_digest_19 : decode cX1_digest 19 = .ok (.invokestatic 372, 3) := dk_184 1 116 (dk_at dksX1_digest_0 19 rfl rfl)
theorem dX1_digest_22 : decode cX1_digest 22 = .ok (.lstore_n 1, 1) := dk_64 (dk_at dksX1_digest_0 22 rfl rfl)
theorem dX1_digest_23 : decode cX1_digest 23 = .ok (.iinc 3 1, 3) := dk_132 3 1 (dk_at dksX1_digest_1 0 rfl rfl)
theorem dX1_digest_26 : decode cX1_digest 26 = .ok (.goto (-20), 3) := dk_167 255 236 (dk_at dksX1_digest_1 3 rfl rfl)
theorem dX1_digest_29 : decode cX1_digest 29 = .ok (.aload_n 0, 1) := dk_42 (dk_at dksX1_digest_1 6 rfl rfl)
theorem dX1_digest_30 : decode cX1_digest 30 = .ok (.getfield 98, 3) := dk_180 0 98 (dk_at dksX1_digest_1 7 rfl rfl)
theorem dX1_digest_33 : decode cX1_digest 33 = .ok (.invokevirtual 79, 3) := dk_182 0 79 (dk_at dksX1_digest_1 10 rfl rfl)
theorem dX1_digest_36 : decode cX1_digest 36 = .ok (.astore_n 3, 1) := dk_78 (dk_at dksX1_digest_1 13 rfl rfl)
theorem dX1_digest_37 : decode cX1_digest 37 = .ok (.aload_n 3, 1) := dk_45 (dk_at dksX1_digest_1 14 rfl rfl)
theorem dX1_digest_38 : decode cX1_digest 38 = .ok (.invokeinterface 37 1, 5) := by decide +kernel
theorem dX1_digest_43 : decode cX1_digest 43 = .ok (.ifCond .eq 46, 3) := dk_153 0 46 (dk_at dksX1_digest_1 20 rfl rfl)
theorem dX1_digest_46 : decode cX1_digest 46 = .ok (.aload_n 3, 1) := dk_45 (dk_at dksX1_digest_1 23 rfl rfl)
theorem dX1_digest_47 : decode cX1_digest 47 = .ok (.invokeinterface 43 1, 5) := by decide +kernel
theorem dX1_digest_52 : decode cX1_digest 52 = .ok (.checkcast 131, 3) := dk_192 0 131 (dk_at dksX1_digest_2 5 rfl rfl)
theorem dX1_digest_55 : decode cX1_digest 55 = .ok (.astore 4, 2) := dk_58 4 (dk_at dksX1_digest_2 8 rfl rfl)
theorem dX1_digest_57 : decode cX1_digest 57 = .ok (.iconst 0, 1) := dk_3 (dk_at dksX1_digest_2 10 rfl rfl)
theorem dX1_digest_58 : decode cX1_digest 58 = .ok (.istore 5, 2) := dk_54 5 (dk_at dksX1_digest_2 11 rfl rfl)
theorem dX1_digest_60 : decode cX1_digest 60 = .ok (.iload 5, 2) := dk_21 5 (dk_at dksX1_digest_2 13 rfl rfl)
theorem dX1_digest_62 : decode cX1_digest 62 = .ok (.bipush 6, 2) := dk_16 6 (dk_at dksX1_digest_2 15 rfl rfl)
theorem dX1_digest_64 : decode cX1_digest 64 = .ok (.if_icmp .ge 22, 3) := dk_162 0 22 (dk_at dksX1_digest_2 17 rfl rfl)
theorem dX1_digest_67 : decode cX1_digest 67 = .ok (.lload_n 1, 1) := dk_31 (dk_at dksX1_digest_2 20 rfl rfl)
theorem dX1_digest_68 : decode cX1_digest 68 = .ok (.aload 4, 2) := dk_25 4 (dk_at dksX1_digest_2 21 rfl rfl)
theorem dX1_digest_70 : decode cX1_digest 70 = .ok (.iload 5, 2) := dk_21 5 (dk_at dksX1_digest_3 0 rfl rfl)
theorem dX1_digest_72 : decode cX1_digest 72 = .ok (.invokestatic 302, 3) := dk_184 1 46 (dk_at dksX1_digest_3 2 rfl rfl)
theorem dX1_digest_75 : decode cX1_digest 75 = .ok (.i2l, 1) := dk_133 (dk_at dksX1_digest_3 5 rfl rfl)
theorem dX1_digest_76 : decode cX1_digest 76 = .ok (.invokestatic 372, 3) := dk_184 1 116 (dk_at dksX1_digest_3 6 rfl rfl)
theorem dX1_digest_79 : decode cX1_digest 79 = .ok (.lstore_n 1, 1) := dk_64 (dk_at dksX1_digest_3 9 rfl rfl)
theorem dX1_digest_80 : decode cX1_digest 80 = .ok (.iinc 5 1, 3) := dk_132 5 1 (dk_at dksX1_digest_3 10 rfl rfl)
theorem dX1_digest_83 : decode cX1_digest 83 = .ok (.goto (-23), 3) := dk_167 255 233 (dk_at dksX1_digest_3 13 rfl rfl)
theorem dX1_digest_86 : decode cX1_digest 86 = .ok (.goto (-49), 3) := dk_167 255 207 (dk_at dksX1_digest_3 16 rfl rfl)
theorem dX1_digest_89 : decode cX1_digest 89 = .ok (.aload_n 0, 1) := dk_42 (dk_at dksX1_digest_3 19 rfl rfl)
theorem dX1_digest_90 : decode cX1_digest 90 = .ok (.getfield 102, 3) := dk_180 0 102 (dk_at dksX1_digest_3 20 rfl rfl)
theorem dX1_digest_93 : decode cX1_digest 93 = .ok (.invokevirtual 79, 3) := dk_182 0 79 (dk_at dksX1_digest_4 0 rfl rfl)
theorem dX1_digest_96 : decode cX1_digest 96 = .ok (.astore_n 3, 1) := dk_78 (dk_at dksX1_digest_4 3 rfl rfl)
theorem dX1_digest_97 : decode cX1_digest 97 = .ok (.aload_n 3, 1) := dk_45 (dk_at dksX1_digest_4 4 rfl rfl)
theorem dX1_digest_98 : decode cX1_digest 98 = .ok (.invokeinterface 37 1, 5) := by decide +kernel
theorem dX1_digest_103 : decode cX1_digest 103 = .ok (.ifCond .eq 45, 3) := dk_153 0 45 (dk_at dksX1_digest_4 10 rfl rfl)
theorem dX1_digest_106 : decode cX1_digest 106 = .ok (.aload_n 3, 1) := dk_45 (dk_at dksX1_digest_4 13 rfl rfl)
theorem dX1_digest_107 : decode cX1_digest 107 = .ok (.invokeinterface 43 1, 5) := by decide +kernel
theorem dX1_digest_112 : decode cX1_digest 112 = .ok (.checkcast 120, 3) := dk_192 0 120 (dk_at dksX1_digest_4 19 rfl rfl)
theorem dX1_digest_115 : decode cX1_digest 115 = .ok (.astore 4, 2) := dk_58 4 (dk_at dksX1_digest_4 22 rfl rfl)
theorem dX1_digest_117 : decode cX1_digest 117 = .ok (.iconst 0, 1) := dk_3 (dk_at dksX1_digest_5 0 rfl rfl)
theorem dX1_digest_118 : decode cX1_digest 118 = .ok (.istore 5, 2) := dk_54 5 (dk_at dksX1_digest_5 1 rfl rfl)
theorem dX1_digest_120 : decode cX1_digest 120 = .ok (.iload 5, 2) := dk_21 5 (dk_at dksX1_digest_5 3 rfl rfl)
theorem dX1_digest_122 : decode cX1_digest 122 = .ok (.iconst 3, 1) := dk_6 (dk_at dksX1_digest_5 5 rfl rfl)
theorem dX1_digest_123 : decode cX1_digest 123 = .ok (.if_icmp .ge 22, 3) := dk_162 0 22 (dk_at dksX1_digest_5 6 rfl rfl)
theorem dX1_digest_126 : decode cX1_digest 126 = .ok (.lload_n 1, 1) := dk_31 (dk_at dksX1_digest_5 9 rfl rfl)
theorem dX1_digest_127 : decode cX1_digest 127 = .ok (.aload 4, 2) := dk_25 4 (dk_at dksX1_digest_5 10 rfl rfl)
theorem dX1_digest_129 : decode cX1_digest 129 = .ok (.iload 5, 2) := dk_21 5 (dk_at dksX1_digest_5 12 rfl rfl)
theorem dX1_digest_131 : decode cX1_digest 131 = .ok (.invokestatic 306, 3) := dk_184 1 50 (dk_at dksX1_digest_5 14 rfl rfl)
theorem dX1_digest_134 : decode cX1_digest 134 = .ok (.i2l, 1) := dk_133 (dk_at dksX1_digest_5 17 rfl rfl)
theorem dX1_digest_135 : decode cX1_digest 135 = .ok (.invokestatic 372, 3) := dk_184 1 116 (dk_at dksX1_digest_5 18 rfl rfl)
theorem dX1_digest_138 : decode cX1_digest 138 = .ok (.lstore_n 1, 1) := dk_64 (dk_at dksX1_digest_5 21 rfl rfl)
theorem dX1_digest_139 : decode cX1_digest 139 = .ok (.iinc 5 1, 3) := dk_132 5 1 (dk_at dksX1_digest_6 0 rfl rfl)
theorem dX1_digest_142 : decode cX1_digest 142 = .ok (.goto (-22), 3) := dk_167 255 234 (dk_at dksX1_digest_6 3 rfl rfl)
theorem dX1_digest_145 : decode cX1_digest 145 = .ok (.goto (-48), 3) := dk_167 255 208 (dk_at dksX1_digest_6 6 rfl rfl)
theorem dX1_digest_148 : decode cX1_digest 148 = .ok (.aload_n 0, 1) := dk_42 (dk_at dksX1_digest_6 9 rfl rfl)
theorem dX1_digest_149 : decode cX1_digest 149 = .ok (.getfield 105, 3) := dk_180 0 105 (dk_at dksX1_digest_6 10 rfl rfl)
theorem dX1_digest_152 : decode cX1_digest 152 = .ok (.invokevirtual 79, 3) := dk_182 0 79 (dk_at dksX1_digest_6 13 rfl rfl)
theorem dX1_digest_155 : decode cX1_digest 155 = .ok (.astore_n 3, 1) := dk_78 (dk_at dksX1_digest_6 16 rfl rfl)
theorem dX1_digest_156 : decode cX1_digest 156 = .ok (.aload_n 3, 1) := dk_45 (dk_at dksX1_digest_6 17 rfl rfl)
theorem dX1_digest_157 : decode cX1_digest 157 = .ok (.invokeinterface 37 1, 5) := by decide +kernel
theorem dX1_digest_162 : decode cX1_digest 162 = .ok (.ifCond .eq 58, 3) := dk_153 0 58 (dk_at dksX1_digest_7 0 rfl rfl)
theorem dX1_digest_165 : decode cX1_digest 165 = .ok (.aload_n 3, 1) := dk_45 (dk_at dksX1_digest_7 3 rfl rfl)
theorem dX1_digest_166 : decode cX1_digest 166 = .ok (.invokeinterface 43 1, 5) := by decide +kernel
theorem dX1_digest_171 : decode cX1_digest 171 = .ok (.checkcast 124, 3) := dk_192 0 124 (dk_at dksX1_digest_7 9 rfl rfl)
theorem dX1_digest_174 : decode cX1_digest 174 = .ok (.astore 4, 2) := dk_58 4 (dk_at dksX1_digest_7 12 rfl rfl)
theorem dX1_digest_176 : decode cX1_digest 176 = .ok (.iconst 0, 1) := dk_3 (dk_at dksX1_digest_7 14 rfl rfl)
theorem dX1_digest_177 : decode cX1_digest 177 = .ok (.istore 5, 2) := dk_54 5 (dk_at dksX1_digest_7 15 rfl rfl)
theorem dX1_digest_179 : decode cX1_digest 179 = .ok (.iload 5, 2) := dk_21 5 (dk_at dksX1_digest_7 17 rfl rfl)
theorem dX1_digest_181 : decode cX1_digest 181 = .ok (.bipush 12, 2) := dk_16 12 (dk_at dksX1_digest_7 19 rfl rfl)
theorem dX1_digest_183 : decode cX1_digest 183 = .ok (.if_icmp .ge 22, 3) := dk_162 0 22 (dk_at dksX1_digest_7 21 rfl rfl)
theorem dX1_digest_186 : decode cX1_digest 186 = .ok (.lload_n 1, 1) := dk_31 (dk_at dksX1_digest_8 0 rfl rfl)
theorem dX1_digest_187 : decode cX1_digest 187 = .ok (.aload 4, 2) := dk_25 4 (dk_at dksX1_digest_8 1 rfl rfl)
theorem dX1_digest_189 : decode cX1_digest 189 = .ok (.iload 5, 2) := dk_21 5 (dk_at dksX1_digest_8 3 rfl rfl)
theorem dX1_digest_191 : decode cX1_digest 191 = .ok (.invokestatic 321, 3) := dk_184 1 65 (dk_at dksX1_digest_8 5 rfl rfl)
theorem dX1_digest_194 : decode cX1_digest 194 = .ok (.i2l, 1) := dk_133 (dk_at dksX1_digest_8 8 rfl rfl)
theorem dX1_digest_195 : decode cX1_digest 195 = .ok (.invokestatic 372, 3) := dk_184 1 116 (dk_at dksX1_digest_8 9 rfl rfl)
theorem dX1_digest_198 : decode cX1_digest 198 = .ok (.lstore_n 1, 1) := dk_64 (dk_at dksX1_digest_8 12 rfl rfl)
theorem dX1_digest_199 : decode cX1_digest 199 = .ok (.iinc 5 1, 3) := dk_132 5 1 (dk_at dksX1_digest_8 13 rfl rfl)
theorem dX1_digest_202 : decode cX1_digest 202 = .ok (.goto (-23), 3) := dk_167 255 233 (dk_at dksX1_digest_8 16 rfl rfl)
theorem dX1_digest_205 : decode cX1_digest 205 = .ok (.lload_n 1, 1) := dk_31 (dk_at dksX1_digest_8 19 rfl rfl)
theorem dX1_digest_206 : decode cX1_digest 206 = .ok (.aload_n 0, 1) := dk_42 (dk_at dksX1_digest_8 20 rfl rfl)
theorem dX1_digest_207 : decode cX1_digest 207 = .ok (.aload 4, 2) := dk_25 4 (dk_at dksX1_digest_8 21 rfl rfl)
theorem dX1_digest_209 : decode cX1_digest 209 = .ok (.invokevirtual 355, 3) := dk_182 1 99 (dk_at dksX1_digest_9 0 rfl rfl)
theorem dX1_digest_212 : decode cX1_digest 212 = .ok (.i2l, 1) := dk_133 (dk_at dksX1_digest_9 3 rfl rfl)
theorem dX1_digest_213 : decode cX1_digest 213 = .ok (.invokestatic 372, 3) := dk_184 1 116 (dk_at dksX1_digest_9 4 rfl rfl)
theorem dX1_digest_216 : decode cX1_digest 216 = .ok (.lstore_n 1, 1) := dk_64 (dk_at dksX1_digest_9 7 rfl rfl)
theorem dX1_digest_217 : decode cX1_digest 217 = .ok (.goto (-61), 3) := dk_167 255 195 (dk_at dksX1_digest_9 8 rfl rfl)
theorem dX1_digest_220 : decode cX1_digest 220 = .ok (.aload_n 0, 1) := dk_42 (dk_at dksX1_digest_9 11 rfl rfl)
theorem dX1_digest_221 : decode cX1_digest 221 = .ok (.getfield 108, 3) := dk_180 0 108 (dk_at dksX1_digest_9 12 rfl rfl)
theorem dX1_digest_224 : decode cX1_digest 224 = .ok (.invokevirtual 79, 3) := dk_182 0 79 (dk_at dksX1_digest_9 15 rfl rfl)
theorem dX1_digest_227 : decode cX1_digest 227 = .ok (.astore_n 3, 1) := dk_78 (dk_at dksX1_digest_9 18 rfl rfl)
theorem dX1_digest_228 : decode cX1_digest 228 = .ok (.aload_n 3, 1) := dk_45 (dk_at dksX1_digest_9 19 rfl rfl)
theorem dX1_digest_229 : decode cX1_digest 229 = .ok (.invokeinterface 37 1, 5) := by decide +kernel
theorem dX1_digest_234 : decode cX1_digest 234 = .ok (.ifCond .eq 70, 3) := dk_153 0 70 (dk_at dksX1_digest_10 5 rfl rfl)
theorem dX1_digest_237 : decode cX1_digest 237 = .ok (.aload_n 3, 1) := dk_45 (dk_at dksX1_digest_10 8 rfl rfl)
theorem dX1_digest_238 : decode cX1_digest 238 = .ok (.invokeinterface 43 1, 5) := by decide +kernel
theorem dX1_digest_243 : decode cX1_digest 243 = .ok (.checkcast 59, 3) := dk_192 0 59 (dk_at dksX1_digest_10 14 rfl rfl)
theorem dX1_digest_246 : decode cX1_digest 246 = .ok (.astore 4, 2) := dk_58 4 (dk_at dksX1_digest_10 17 rfl rfl)
theorem dX1_digest_248 : decode cX1_digest 248 = .ok (.iconst 0, 1) := dk_3 (dk_at dksX1_digest_10 19 rfl rfl)
theorem dX1_digest_249 : decode cX1_digest 249 = .ok (.istore 5, 2) := dk_54 5 (dk_at dksX1_digest_10 20 rfl rfl)
theorem dX1_digest_251 : decode cX1_digest 251 = .ok (.iload 5, 2) := dk_21 5 (dk_at dksX1_digest_10 22 rfl rfl)
theorem dX1_digest_253 : decode cX1_digest 253 = .ok (.bipush 9, 2) := dk_16 9 (dk_at dksX1_digest_11 0 rfl rfl)
theorem dX1_digest_255 : decode cX1_digest 255 = .ok (.if_icmp .ge 22, 3) := dk_162 0 22 (dk_at dksX1_digest_11 2 rfl rfl)
theorem dX1_digest_258 : decode cX1_digest 258 = .ok (.lload_n 1, 1) := dk_31 (dk_at dksX1_digest_11 5 rfl rfl)
theorem dX1_digest_259 : decode cX1_digest 259 = .ok (.aload 4, 2) := dk_25 4 (dk_at dksX1_digest_11 6 rfl rfl)
theorem dX1_digest_261 : decode cX1_digest 261 = .ok (.iload 5, 2) := dk_21 5 (dk_at dksX1_digest_11 8 rfl rfl)
theorem dX1_digest_263 : decode cX1_digest 263 = .ok (.invokestatic 330, 3) := dk_184 1 74 (dk_at dksX1_digest_11 10 rfl rfl)
theorem dX1_digest_266 : decode cX1_digest 266 = .ok (.i2l, 1) := dk_133 (dk_at dksX1_digest_11 13 rfl rfl)
theorem dX1_digest_267 : decode cX1_digest 267 = .ok (.invokestatic 372, 3) := dk_184 1 116 (dk_at dksX1_digest_11 14 rfl rfl)
theorem dX1_digest_270 : decode cX1_digest 270 = .ok (.lstore_n 1, 1) := dk_64 (dk_at dksX1_digest_11 17 rfl rfl)
theorem dX1_digest_271 : decode cX1_digest 271 = .ok (.iinc 5 1, 3) := dk_132 5 1 (dk_at dksX1_digest_11 18 rfl rfl)
theorem dX1_digest_274 : decode cX1_digest 274 = .ok (.goto (-23), 3) := dk_167 255 233 (dk_at dksX1_digest_11 21 rfl rfl)
theorem dX1_digest_277 : decode cX1_digest 277 = .ok (.aload 4, 2) := dk_25 4 (dk_at dksX1_digest_12 0 rfl rfl)
theorem dX1_digest_279 : decode cX1_digest 279 = .ok (.getfield 256, 3) := dk_180 1 0 (dk_at dksX1_digest_12 2 rfl rfl)
theorem dX1_digest_282 : decode cX1_digest 282 = .ok (.iconst 1, 1) := dk_4 (dk_at dksX1_digest_12 5 rfl rfl)
theorem dX1_digest_283 : decode cX1_digest 283 = .ok (.if_icmp .ne 18, 3) := dk_160 0 18 (dk_at dksX1_digest_12 6 rfl rfl)
theorem dX1_digest_286 : decode cX1_digest 286 = .ok (.lload_n 1, 1) := dk_31 (dk_at dksX1_digest_12 9 rfl rfl)
theorem dX1_digest_287 : decode cX1_digest 287 = .ok (.aload_n 0, 1) := dk_42 (dk_at dksX1_digest_12 10 rfl rfl)
theorem dX1_digest_288 : decode cX1_digest 288 = .ok (.aload 4, 2) := dk_25 4 (dk_at dksX1_digest_12 11 rfl rfl)
theorem dX1_digest_290 : decode cX1_digest 290 = .ok (.iconst 0, 1) := dk_3 (dk_at dksX1_digest_12 13 rfl rfl)
theorem dX1_digest_291 : decode cX1_digest 291 = .ok (.bipush 8, 2) := dk_16 8 (dk_at dksX1_digest_12 14 rfl rfl)
theorem dX1_digest_293 : decode cX1_digest 293 = .ok (.invokevirtual 364, 3) := dk_182 1 108 (dk_at dksX1_digest_12 16 rfl rfl)
theorem dX1_digest_296 : decode cX1_digest 296 = .ok (.i2l, 1) := dk_133 (dk_at dksX1_digest_12 19 rfl rfl)
theorem dX1_digest_297 : decode cX1_digest 297 = .ok (.invokestatic 372, 3) := dk_184 1 116 (dk_at dksX1_digest_12 20 rfl rfl)
theorem dX1_digest_300 : decode cX1_digest 300 = .ok (.lstore_n 1, 1) := dk_64 (dk_at dksX1_digest_12 23 rfl rfl)
theorem dX1_digest_301 : decode cX1_digest 301 = .ok (.goto (-73), 3) := dk_167 255 183 (dk_at dksX1_digest_13 0 rfl rfl)
theorem dX1_digest_304 : decode cX1_digest 304 = .ok (.iconst 0, 1) := dk_3 (dk_at dksX1_digest_13 3 rfl rfl)
theorem dX1_digest_305 : decode cX1_digest 305 = .ok (.istore_n 3, 1) := dk_62 (dk_at dksX1_digest_13 4 rfl rfl)
theorem dX1_digest_306 : decode cX1_digest 306 = .ok (.iload_n 3, 1) := dk_29 (dk_at dksX1_digest_13 5 rfl rfl)
theorem dX1_digest_307 : decode cX1_digest 307 = .ok (.iconst 2, 1) := dk_5 (dk_at dksX1_digest_13 6 rfl rfl)
theorem dX1_digest_308 : decode cX1_digest 308 = .ok (.if_icmp .ge 37, 3) := dk_162 0 37 (dk_at dksX1_digest_13 7 rfl rfl)
theorem dX1_digest_311 : decode cX1_digest 311 = .ok (.iconst 0, 1) := dk_3 (dk_at dksX1_digest_13 10 rfl rfl)
theorem dX1_digest_312 : decode cX1_digest 312 = .ok (.istore 4, 2) := dk_54 4 (dk_at dksX1_digest_13 11 rfl rfl)
theorem dX1_digest_314 : decode cX1_digest 314 = .ok (.iload 4, 2) := dk_21 4 (dk_at dksX1_digest_13 13 rfl rfl)
theorem dX1_digest_316 : decode cX1_digest 316 = .ok (.iconst 3, 1) := dk_6 (dk_at dksX1_digest_13 15 rfl rfl)
theorem dX1_digest_317 : decode cX1_digest 317 = .ok (.if_icmp .ge 22, 3) := dk_162 0 22 (dk_at dksX1_digest_13 16 rfl rfl)
theorem dX1_digest_320 : decode cX1_digest 320 = .ok (.lload_n 1, 1) := dk_31 (dk_at dksX1_digest_13 19 rfl rfl)
theorem dX1_digest_321 : decode cX1_digest 321 = .ok (.aload_n 0, 1) := dk_42 (dk_at dksX1_digest_13 20 rfl rfl)
theorem dX1_digest_322 : decode cX1_digest 322 = .ok (.iload_n 3, 1) := dk_29 (dk_at dksX1_digest_13 21 rfl rfl)
theorem dX1_digest_323 : decode cX1_digest 323 = .ok (.iload 4, 2) := dk_21 4 (dk_at dksX1_digest_13 22 rfl rfl)
theorem dX1_digest_325 : decode cX1_digest 325 = .ok (.invokevirtual 333, 3) := dk_182 1 77 (dk_at dksX1_digest_14 0 rfl rfl)
theorem dX1_digest_328 : decode cX1_digest 328 = .ok (.i2l, 1) := dk_133 (dk_at dksX1_digest_14 3 rfl rfl)
theorem dX1_digest_329 : decode cX1_digest 329 = .ok (.invokestatic 372, 3) := dk_184 1 116 (dk_at dksX1_digest_14 4 rfl rfl)
theorem dX1_digest_332 : decode cX1_digest 332 = .ok (.lstore_n 1, 1) := dk_64 (dk_at dksX1_digest_14 7 rfl rfl)
theorem dX1_digest_333 : decode cX1_digest 333 = .ok (.iinc 4 1, 3) := dk_132 4 1 (dk_at dksX1_digest_14 8 rfl rfl)
theorem dX1_digest_336 : decode cX1_digest 336 = .ok (.goto (-22), 3) := dk_167 255 234 (dk_at dksX1_digest_14 11 rfl rfl)
theorem dX1_digest_339 : decode cX1_digest 339 = .ok (.iinc 3 1, 3) := dk_132 3 1 (dk_at dksX1_digest_14 14 rfl rfl)
theorem dX1_digest_342 : decode cX1_digest 342 = .ok (.goto (-36), 3) := dk_167 255 220 (dk_at dksX1_digest_14 17 rfl rfl)
theorem dX1_digest_345 : decode cX1_digest 345 = .ok (.aload_n 0, 1) := dk_42 (dk_at dksX1_digest_14 20 rfl rfl)
theorem dX1_digest_346 : decode cX1_digest 346 = .ok (.getfield 114, 3) := dk_180 0 114 (dk_at dksX1_digest_14 21 rfl rfl)
theorem dX1_digest_349 : decode cX1_digest 349 = .ok (.invokevirtual 79, 3) := dk_182 0 79 (dk_at dksX1_digest_15 0 rfl rfl)
theorem dX1_digest_352 : decode cX1_digest 352 = .ok (.astore_n 3, 1) := dk_78 (dk_at dksX1_digest_15 3 rfl rfl)
theorem dX1_digest_353 : decode cX1_digest 353 = .ok (.aload_n 3, 1) := dk_45 (dk_at dksX1_digest_15 4 rfl rfl)
theorem dX1_digest_354 : decode cX1_digest 354 = .ok (.invokeinterface 37 1, 5) := by decide +kernel
theorem dX1_digest_359 : decode cX1_digest 359 = .ok (.ifCond .eq 46, 3) := dk_153 0 46 (dk_at dksX1_digest_15 10 rfl rfl)
theorem dX1_digest_362 : decode cX1_digest 362 = .ok (.aload_n 3, 1) := dk_45 (dk_at dksX1_digest_15 13 rfl rfl)
theorem dX1_digest_363 : decode cX1_digest 363 = .ok (.invokeinterface 43 1, 5) := by decide +kernel
theorem dX1_digest_368 : decode cX1_digest 368 = .ok (.checkcast 52, 3) := dk_192 0 52 (dk_at dksX1_digest_15 19 rfl rfl)
theorem dX1_digest_371 : decode cX1_digest 371 = .ok (.astore 4, 2) := dk_58 4 (dk_at dksX1_digest_15 22 rfl rfl)
theorem dX1_digest_373 : decode cX1_digest 373 = .ok (.iconst 0, 1) := dk_3 (dk_at dksX1_digest_16 0 rfl rfl)
theorem dX1_digest_374 : decode cX1_digest 374 = .ok (.istore 5, 2) := dk_54 5 (dk_at dksX1_digest_16 1 rfl rfl)
theorem dX1_digest_376 : decode cX1_digest 376 = .ok (.iload 5, 2) := dk_21 5 (dk_at dksX1_digest_16 3 rfl rfl)
theorem dX1_digest_378 : decode cX1_digest 378 = .ok (.bipush 10, 2) := dk_16 10 (dk_at dksX1_digest_16 5 rfl rfl)
theorem dX1_digest_380 : decode cX1_digest 380 = .ok (.if_icmp .ge 22, 3) := dk_162 0 22 (dk_at dksX1_digest_16 7 rfl rfl)
theorem dX1_digest_383 : decode cX1_digest 383 = .ok (.lload_n 1, 1) := dk_31 (dk_at dksX1_digest_16 10 rfl rfl)
theorem dX1_digest_384 : decode cX1_digest 384 = .ok (.aload 4, 2) := dk_25 4 (dk_at dksX1_digest_16 11 rfl rfl)
theorem dX1_digest_386 : decode cX1_digest 386 = .ok (.iload 5, 2) := dk_21 5 (dk_at dksX1_digest_16 13 rfl rfl)
theorem dX1_digest_388 : decode cX1_digest 388 = .ok (.invokestatic 345, 3) := dk_184 1 89 (dk_at dksX1_digest_16 15 rfl rfl)
theorem dX1_digest_391 : decode cX1_digest 391 = .ok (.i2l, 1) := dk_133 (dk_at dksX1_digest_16 18 rfl rfl)
theorem dX1_digest_392 : decode cX1_digest 392 = .ok (.invokestatic 372, 3) := dk_184 1 116 (dk_at dksX1_digest_16 19 rfl rfl)
theorem dX1_digest_395 : decode cX1_digest 395 = .ok (.lstore_n 1, 1) := dk_64 (dk_at dksX1_digest_16 22 rfl rfl)
theorem dX1_digest_396 : decode cX1_digest 396 = .ok (.iinc 5 1, 3) := dk_132 5 1 (dk_at dksX1_digest_17 0 rfl rfl)
theorem dX1_digest_399 : decode cX1_digest 399 = .ok (.goto (-23), 3) := dk_167 255 233 (dk_at dksX1_digest_17 3 rfl rfl)
theorem dX1_digest_402 : decode cX1_digest 402 = .ok (.goto (-49), 3) := dk_167 255 207 (dk_at dksX1_digest_17 6 rfl rfl)
theorem dX1_digest_405 : decode cX1_digest 405 = .ok (.lload_n 1, 1) := dk_31 (dk_at dksX1_digest_17 9 rfl rfl)
theorem dX1_digest_406 : decode cX1_digest 406 = .ok (.lreturn, 1) := dk_173 (dk_at dksX1_digest_17 10 rfl rfl)
abbrev cX1_count : ByteArray := prog_1_method_49_code
def yX1_count : MethodName := ⟨RX1, "count", "(I)I"⟩
def dkwX1_count_7 : List UInt8 := [21, 4, 79, 58, 5, 25, 5, 27, 46, 172]
abbrev dktX1_count_7 : List UInt8 := dkwX1_count_7 ++ []
def dkwX1_count_6 : List UInt8 := [182, 0, 137, 79, 89, 16, 9, 42, 180, 0, 117, 79, 89, 16, 10, 42, 180, 0, 169, 79, 89, 16, 11]
abbrev dktX1_count_6 : List UInt8 := dkwX1_count_6 ++ dktX1_count_7
def dkwX1_count_5 : List UInt8 := [180, 0, 181, 79, 89, 16, 7, 42, 180, 0, 108, 182, 0, 137, 79, 89, 16, 8, 42, 180, 0, 114]
abbrev dktX1_count_5 : List UInt8 := dkwX1_count_5 ++ dktX1_count_6
def dkwX1_count_4 : List UInt8 := [180, 0, 194, 79, 89, 6, 42, 180, 0, 197, 79, 89, 7, 28, 79, 89, 8, 29, 79, 89, 16, 6, 42]
abbrev dktX1_count_4 : List UInt8 := dkwX1_count_4 ++ dktX1_count_5
def dkwX1_count_3 : List UInt8 := [16, 12, 188, 10, 89, 3, 42, 180, 0, 98, 182, 0, 137, 79, 89, 4, 42, 180, 0, 143, 79, 89, 5, 42]
abbrev dktX1_count_3 : List UInt8 := dkwX1_count_3 ++ dktX1_count_4
def dkwX1_count_2 : List UInt8 := [25, 6, 180, 0, 216, 96, 62, 21, 4, 25, 6, 180, 0, 156, 184, 1, 14, 96, 54, 4, 167, 255, 205]
abbrev dktX1_count_2 : List UInt8 := dkwX1_count_2 ++ dktX1_count_3
def dkwX1_count_1 : List UInt8 := [153, 0, 47, 25, 5, 185, 0, 43, 1, 0, 192, 0, 124, 58, 6, 28, 25, 6, 180, 0, 153, 96, 61, 29]
abbrev dktX1_count_1 : List UInt8 := dkwX1_count_1 ++ dktX1_count_2
def dkwX1_count_0 : List UInt8 := [3, 61, 3, 62, 3, 54, 4, 42, 180, 0, 105, 182, 0, 79, 58, 5, 25, 5, 185, 0, 37, 1, 0]
abbrev dktX1_count_0 : List UInt8 := dkwX1_count_0 ++ dktX1_count_1
theorem dksX1_count_0 : cX1_count.data.toList.drop 0 = dktX1_count_0 := by decide +kernel
theorem dksX1_count_1 : cX1_count.data.toList.drop 23 = dktX1_count_1 := dk_seg dksX1_count_0 23 rfl rfl
theorem dksX1_count_2 : cX1_count.data.toList.drop 47 = dktX1_count_2 := dk_seg dksX1_count_1 24 rfl rfl
theorem dksX1_count_3 : cX1_count.data.toList.drop 70 = dktX1_count_3 := dk_seg dksX1_count_2 23 rfl rfl
theorem dksX1_count_4 : cX1_count.data.toList.drop 94 = dktX1_count_4 := dk_seg dksX1_count_3 24 rfl rfl
theorem dksX1_count_5 : cX1_count.data.toList.drop 117 = dktX1_count_5 := dk_seg dksX1_count_4 23 rfl rfl
theorem dksX1_count_6 : cX1_count.data.toList.drop 139 = dktX1_count_6 := dk_seg dksX1_count_5 22 rfl rfl
theorem dksX1_count_7 : cX1_count.data.toList.drop 162 = dktX1_count_7 := dk_seg dksX1_count_6 23 rfl rfl
theorem dX1_count_0 : decode cX1_count 0 = .ok (.iconst 0, 1) := dk_3 (dk_at dksX1_count_0 0 rfl rfl)
theorem dX1_count_1 : decode cX1_count 1 = .ok (.istore_n 2, 1) := dk_61 (dk_at dksX1_count_0 1 rfl rfl)
theorem dX1_count_2 : decode cX1_count 2 = .ok (.iconst 0, 1) := dk_3 (dk_at dksX1_count_0 2 rfl rfl)
theorem dX1_count_3 : decode cX1_count 3 = .ok (.istore_n 3, 1) := dk_62 (dk_at dksX1_count_0 3 rfl rfl)
theorem dX1_count_4 : decode cX1_count 4 = .ok (.iconst 0, 1) := dk_3 (dk_at dksX1_count_0 4 rfl rfl)
theorem dX1_count_5 : decode cX1_count 5 = .ok (.istore 4, 2) := dk_54 4 (dk_at dksX1_count_0 5 rfl rfl)
theorem dX1_count_7 : decode cX1_count 7 = .ok (.aload_n 0, 1) := dk_42 (dk_at dksX1_count_0 7 rfl rfl)
theorem dX1_count_8 : decode cX1_count 8 = .ok (.getfield 105, 3) := dk_180 0 105 (dk_at dksX1_count_0 8 rfl rfl)
theorem dX1_count_11 : decode cX1_count 11 = .ok (.invokevirtual 79, 3) := dk_182 0 79 (dk_at dksX1_count_0 11 rfl rfl)
theorem dX1_count_14 : decode cX1_count 14 = .ok (.astore 5, 2) := dk_58 5 (dk_at dksX1_count_0 14 rfl rfl)
theorem dX1_count_16 : decode cX1_count 16 = .ok (.aload 5, 2) := dk_25 5 (dk_at dksX1_count_0 16 rfl rfl)
theorem dX1_count_18 : decode cX1_count 18 = .ok (.invokeinterface 37 1, 5) := by decide +kernel
theorem dX1_count_23 : decode cX1_count 23 = .ok (.ifCond .eq 47, 3) := dk_153 0 47 (dk_at dksX1_count_1 0 rfl rfl)
theorem dX1_count_26 : decode cX1_count 26 = .ok (.aload 5, 2) := dk_25 5 (dk_at dksX1_count_1 3 rfl rfl)
theorem dX1_count_28 : decode cX1_count 28 = .ok (.invokeinterface 43 1, 5) := by decide +kernel
theorem dX1_count_33 : decode cX1_count 33 = .ok (.checkcast 124, 3) := dk_192 0 124 (dk_at dksX1_count_1 10 rfl rfl)
theorem dX1_count_36 : decode cX1_count 36 = .ok (.astore 6, 2) := dk_58 6 (dk_at dksX1_count_1 13 rfl rfl)
theorem dX1_count_38 : decode cX1_count 38 = .ok (.iload_n 2, 1) := dk_28 (dk_at dksX1_count_1 15 rfl rfl)
theorem dX1_count_39 : decode cX1_count 39 = .ok (.aload 6, 2) := dk_25 6 (dk_at dksX1_count_1 16 rfl rfl)
theorem dX1_count_41 : decode cX1_count 41 = .ok (.getfield 153, 3) := dk_180 0 153 (dk_at dksX1_count_1 18 rfl rfl)
theorem dX1_count_44 : decode cX1_count 44 = .ok (.iadd, 1) := dk_96 (dk_at dksX1_count_1 21 rfl rfl)
theorem dX1_count_45 : decode cX1_count 45 = .ok (.istore_n 2, 1) := dk_61 (dk_at dksX1_count_1 22 rfl rfl)
theorem dX1_count_46 : decode cX1_count 46 = .ok (.iload_n 3, 1) := dk_29 (dk_at dksX1_count_1 23 rfl rfl)
theorem dX1_count_47 : decode cX1_count 47 = .ok (.aload 6, 2) := dk_25 6 (dk_at dksX1_count_2 0 rfl rfl)
theorem dX1_count_49 : decode cX1_count 49 = .ok (.getfield 216, 3) := dk_180 0 216 (dk_at dksX1_count_2 2 rfl rfl)
theorem dX1_count_52 : decode cX1_count 52 = .ok (.iadd, 1) := dk_96 (dk_at dksX1_count_2 5 rfl rfl)
theorem dX1_count_53 : decode cX1_count 53 = .ok (.istore_n 3, 1) := dk_62 (dk_at dksX1_count_2 6 rfl rfl)
theorem dX1_count_54 : decode cX1_count 54 = .ok (.iload 4, 2) := dk_21 4 (dk_at dksX1_count_2 7 rfl rfl)
theorem dX1_count_56 : decode cX1_count 56 = .ok (.aload 6, 2) := dk_25 6 (dk_at dksX1_count_2 9 rfl rfl)
theorem dX1_count_58 : decode cX1_count 58 = .ok (.getfield 156, 3) := dk_180 0 156 (dk_at dksX1_count_2 11 rfl rfl)
theorem dX1_count_61 : decode cX1_count 61 = .ok (.invokestatic 270, 3) := dk_184 1 14 (dk_at dksX1_count_2 14 rfl rfl)
theorem dX1_count_64 : decode cX1_count 64 = .ok (.iadd, 1) := dk_96 (dk_at dksX1_count_2 17 rfl rfl)
theorem dX1_count_65 : decode cX1_count 65 = .ok (.istore 4, 2) := dk_54 4 (dk_at dksX1_count_2 18 rfl rfl)
theorem dX1_count_67 : decode cX1_count 67 = .ok (.goto (-51), 3) := dk_167 255 205 (dk_at dksX1_count_2 20 rfl rfl)
theorem dX1_count_70 : decode cX1_count 70 = .ok (.bipush 12, 2) := dk_16 12 (dk_at dksX1_count_3 0 rfl rfl)
theorem dX1_count_72 : decode cX1_count 72 = .ok (.newarray .int, 2) := dk_188_10 (dk_at dksX1_count_3 2 rfl rfl)
theorem dX1_count_74 : decode cX1_count 74 = .ok (.dup, 1) := dk_89 (dk_at dksX1_count_3 4 rfl rfl)
theorem dX1_count_75 : decode cX1_count 75 = .ok (.iconst 0, 1) := dk_3 (dk_at dksX1_count_3 5 rfl rfl)
theorem dX1_count_76 : decode cX1_count 76 = .ok (.aload_n 0, 1) := dk_42 (dk_at dksX1_count_3 6 rfl rfl)
theorem dX1_count_77 : decode cX1_count 77 = .ok (.getfield 98, 3) := dk_180 0 98 (dk_at dksX1_count_3 7 rfl rfl)
theorem dX1_count_80 : decode cX1_count 80 = .ok (.invokevirtual 137, 3) := dk_182 0 137 (dk_at dksX1_count_3 10 rfl rfl)
theorem dX1_count_83 : decode cX1_count 83 = .ok (.iastore, 1) := dk_79 (dk_at dksX1_count_3 13 rfl rfl)
theorem dX1_count_84 : decode cX1_count 84 = .ok (.dup, 1) := dk_89 (dk_at dksX1_count_3 14 rfl rfl)
theorem dX1_count_85 : decode cX1_count 85 = .ok (.iconst 1, 1) := dk_4 (dk_at dksX1_count_3 15 rfl rfl)
theorem dX1_count_86 : decode cX1_count 86 = .ok (.aload_n 0, 1) := dk_42 (dk_at dksX1_count_3 16 rfl rfl)
theorem dX1_count_87 : decode cX1_count 87 = .ok (.getfield 143, 3) := dk_180 0 143 (dk_at dksX1_count_3 17 rfl rfl)
theorem dX1_count_90 : decode cX1_count 90 = .ok (.iastore, 1) := dk_79 (dk_at dksX1_count_3 20 rfl rfl)
theorem dX1_count_91 : decode cX1_count 91 = .ok (.dup, 1) := dk_89 (dk_at dksX1_count_3 21 rfl rfl)
theorem dX1_count_92 : decode cX1_count 92 = .ok (.iconst 2, 1) := dk_5 (dk_at dksX1_count_3 22 rfl rfl)
theorem dX1_count_93 : decode cX1_count 93 = .ok (.aload_n 0, 1) := dk_42 (dk_at dksX1_count_3 23 rfl rfl)
theorem dX1_count_94 : decode cX1_count 94 = .ok (.getfield 194, 3) := dk_180 0 194 (dk_at dksX1_count_4 0 rfl rfl)
theorem dX1_count_97 : decode cX1_count 97 = .ok (.iastore, 1) := dk_79 (dk_at dksX1_count_4 3 rfl rfl)
theorem dX1_count_98 : decode cX1_count 98 = .ok (.dup, 1) := dk_89 (dk_at dksX1_count_4 4 rfl rfl)
theorem dX1_count_99 : decode cX1_count 99 = .ok (.iconst 3, 1) := dk_6 (dk_at dksX1_count_4 5 rfl rfl)
theorem dX1_count_100 : decode cX1_count 100 = .ok (.aload_n 0, 1) := dk_42 (dk_at dksX1_count_4 6 rfl rfl)
theorem dX1_count_101 : decode cX1_count 101 = .ok (.getfield 197, 3) := dk_180 0 197 (dk_at dksX1_count_4 7 rfl rfl)
theorem dX1_count_104 : decode cX1_count 104 = .ok (.iastore, 1) := dk_79 (dk_at dksX1_count_4 10 rfl rfl)
theorem dX1_count_105 : decode cX1_count 105 = .ok (.dup, 1) := dk_89 (dk_at dksX1_count_4 11 rfl rfl)
theorem dX1_count_106 : decode cX1_count 106 = .ok (.iconst 4, 1) := dk_7 (dk_at dksX1_count_4 12 rfl rfl)
theorem dX1_count_107 : decode cX1_count 107 = .ok (.iload_n 2, 1) := dk_28 (dk_at dksX1_count_4 13 rfl rfl)
theorem dX1_count_108 : decode cX1_count 108 = .ok (.iastore, 1) := dk_79 (dk_at dksX1_count_4 14 rfl rfl)
theorem dX1_count_109 : decode cX1_count 109 = .ok (.dup, 1) := dk_89 (dk_at dksX1_count_4 15 rfl rfl)
theorem dX1_count_110 : decode cX1_count 110 = .ok (.iconst 5, 1) := dk_8 (dk_at dksX1_count_4 16 rfl rfl)
theorem dX1_count_111 : decode cX1_count 111 = .ok (.iload_n 3, 1) := dk_29 (dk_at dksX1_count_4 17 rfl rfl)
theorem dX1_count_112 : decode cX1_count 112 = .ok (.iastore, 1) := dk_79 (dk_at dksX1_count_4 18 rfl rfl)
theorem dX1_count_113 : decode cX1_count 113 = .ok (.dup, 1) := dk_89 (dk_at dksX1_count_4 19 rfl rfl)
theorem dX1_count_114 : decode cX1_count 114 = .ok (.bipush 6, 2) := dk_16 6 (dk_at dksX1_count_4 20 rfl rfl)
theorem dX1_count_116 : decode cX1_count 116 = .ok (.aload_n 0, 1) := dk_42 (dk_at dksX1_count_4 22 rfl rfl)
theorem dX1_count_117 : decode cX1_count 117 = .ok (.getfield 181, 3) := dk_180 0 181 (dk_at dksX1_count_5 0 rfl rfl)
theorem dX1_count_120 : decode cX1_count 120 = .ok (.iastore, 1) := dk_79 (dk_at dksX1_count_5 3 rfl rfl)
theorem dX1_count_121 : decode cX1_count 121 = .ok (.dup, 1) := dk_89 (dk_at dksX1_count_5 4 rfl rfl)
theorem dX1_count_122 : decode cX1_count 122 = .ok (.bipush 7, 2) := dk_16 7 (dk_at dksX1_count_5 5 rfl rfl)
theorem dX1_count_124 : decode cX1_count 124 = .ok (.aload_n 0, 1) := dk_42 (dk_at dksX1_count_5 7 rfl rfl)
theorem dX1_count_125 : decode cX1_count 125 = .ok (.getfield 108, 3) := dk_180 0 108 (dk_at dksX1_count_5 8 rfl rfl)
theorem dX1_count_128 : decode cX1_count 128 = .ok (.invokevirtual 137, 3) := dk_182 0 137 (dk_at dksX1_count_5 11 rfl rfl)
theorem dX1_count_131 : decode cX1_count 131 = .ok (.iastore, 1) := dk_79 (dk_at dksX1_count_5 14 rfl rfl)
theorem dX1_count_132 : decode cX1_count 132 = .ok (.dup, 1) := dk_89 (dk_at dksX1_count_5 15 rfl rfl)
theorem dX1_count_133 : decode cX1_count 133 = .ok (.bipush 8, 2) := dk_16 8 (dk_at dksX1_count_5 16 rfl rfl)
theorem dX1_count_135 : decode cX1_count 135 = .ok (.aload_n 0, 1) := dk_42 (dk_at dksX1_count_5 18 rfl rfl)
theorem dX1_count_136 : decode cX1_count 136 = .ok (.getfield 114, 3) := dk_180 0 114 (dk_at dksX1_count_5 19 rfl rfl)
theorem dX1_count_139 : decode cX1_count 139 = .ok (.invokevirtual 137, 3) := dk_182 0 137 (dk_at dksX1_count_6 0 rfl rfl)
theorem dX1_count_142 : decode cX1_count 142 = .ok (.iastore, 1) := dk_79 (dk_at dksX1_count_6 3 rfl rfl)
theorem dX1_count_143 : decode cX1_count 143 = .ok (.dup, 1) := dk_89 (dk_at dksX1_count_6 4 rfl rfl)
theorem dX1_count_144 : decode cX1_count 144 = .ok (.bipush 9, 2) := dk_16 9 (dk_at dksX1_count_6 5 rfl rfl)
theorem dX1_count_146 : decode cX1_count 146 = .ok (.aload_n 0, 1) := dk_42 (dk_at dksX1_count_6 7 rfl rfl)
theorem dX1_count_147 : decode cX1_count 147 = .ok (.getfield 117, 3) := dk_180 0 117 (dk_at dksX1_count_6 8 rfl rfl)
theorem dX1_count_150 : decode cX1_count 150 = .ok (.iastore, 1) := dk_79 (dk_at dksX1_count_6 11 rfl rfl)
theorem dX1_count_151 : decode cX1_count 151 = .ok (.dup, 1) := dk_89 (dk_at dksX1_count_6 12 rfl rfl)
theorem dX1_count_152 : decode cX1_count 152 = .ok (.bipush 10, 2) := dk_16 10 (dk_at dksX1_count_6 13 rfl rfl)
theorem dX1_count_154 : decode cX1_count 154 = .ok (.aload_n 0, 1) := dk_42 (dk_at dksX1_count_6 15 rfl rfl)
theorem dX1_count_155 : decode cX1_count 155 = .ok (.getfield 169, 3) := dk_180 0 169 (dk_at dksX1_count_6 16 rfl rfl)
theorem dX1_count_158 : decode cX1_count 158 = .ok (.iastore, 1) := dk_79 (dk_at dksX1_count_6 19 rfl rfl)
theorem dX1_count_159 : decode cX1_count 159 = .ok (.dup, 1) := dk_89 (dk_at dksX1_count_6 20 rfl rfl)
theorem dX1_count_160 : decode cX1_count 160 = .ok (.bipush 11, 2) := dk_16 11 (dk_at dksX1_count_6 21 rfl rfl)
theorem dX1_count_162 : decode cX1_count 162 = .ok (.iload 4, 2) := dk_21 4 (dk_at dksX1_count_7 0 rfl rfl)
theorem dX1_count_164 : decode cX1_count 164 = .ok (.iastore, 1) := dk_79 (dk_at dksX1_count_7 2 rfl rfl)
theorem dX1_count_165 : decode cX1_count 165 = .ok (.astore 5, 2) := dk_58 5 (dk_at dksX1_count_7 3 rfl rfl)
theorem dX1_count_167 : decode cX1_count 167 = .ok (.aload 5, 2) := dk_25 5 (dk_at dksX1_count_7 5 rfl rfl)
theorem dX1_count_169 : decode cX1_count 169 = .ok (.iload_n 1, 1) := dk_27 (dk_at dksX1_count_7 7 rfl rfl)
theorem dX1_count_170 : decode cX1_count 170 = .ok (.iaload, 1) := dk_46 (dk_at dksX1_count_7 8 rfl rfl)
theorem dX1_count_171 : decode cX1_count 171 = .ok (.ireturn, 1) := dk_172 (dk_at dksX1_count_7 9 rfl rfl)
abbrev cX1_one : ByteArray := prog_1_method_6_code
def yX1_one : MethodName := ⟨RX1, "one", "(Z)I"⟩
def dkwX1_one_0 : List UInt8 := [26, 153, 0, 7, 4, 167, 0, 4, 3, 172]
abbrev dktX1_one_0 : List UInt8 := dkwX1_one_0 ++ []
theorem dksX1_one_0 : cX1_one.data.toList.drop 0 = dktX1_one_0 := by decide +kernel
theorem dX1_one_0 : decode cX1_one 0 = .ok (.iload_n 0, 1) := dk_26 (dk_at dksX1_one_0 0 rfl rfl)
theorem dX1_one_1 : decode cX1_one 1 = .ok (.ifCond .eq 7, 3) := dk_153 0 7 (dk_at dksX1_one_0 1 rfl rfl)
theorem dX1_one_4 : decode cX1_one 4 = .ok (.iconst 1, 1) := dk_4 (dk_at dksX1_one_0 4 rfl rfl)
theorem dX1_one_5 : decode cX1_one 5 = .ok (.goto 4, 3) := dk_167 0 4 (dk_at dksX1_one_0 5 rfl rfl)
theorem dX1_one_8 : decode cX1_one 8 = .ok (.iconst 0, 1) := dk_3 (dk_at dksX1_one_0 8 rfl rfl)
theorem dX1_one_9 : decode cX1_one 9 = .ok (.ireturn, 1) := dk_172 (dk_at dksX1_one_0 9 rfl rfl)
abbrev cX1_add : ByteArray := prog_1_method_56_code
def yX1_add : MethodName := ⟨RX1, "add", "(JJ)J"⟩
def dkwX1_add_0 : List UInt8 := [30, 20, 1, 112, 105, 32, 97, 173]
abbrev dktX1_add_0 : List UInt8 := dkwX1_add_0 ++ []
theorem dksX1_add_0 : cX1_add.data.toList.drop 0 = dktX1_add_0 := by decide +kernel
theorem dX1_add_0 : decode cX1_add 0 = .ok (.lload_n 0, 1) := dk_30 (dk_at dksX1_add_0 0 rfl rfl)
theorem dX1_add_1 : decode cX1_add 1 = .ok (.ldc2_w 368, 3) := dk_20 1 112 (dk_at dksX1_add_0 1 rfl rfl)
theorem dX1_add_4 : decode cX1_add 4 = .ok (.lmul, 1) := dk_105 (dk_at dksX1_add_0 4 rfl rfl)
theorem dX1_add_5 : decode cX1_add 5 = .ok (.lload_n 2, 1) := dk_32 (dk_at dksX1_add_0 5 rfl rfl)
theorem dX1_add_6 : decode cX1_add 6 = .ok (.ladd, 1) := dk_97 (dk_at dksX1_add_0 6 rfl rfl)
theorem dX1_add_7 : decode cX1_add 7 = .ok (.lreturn, 1) := dk_173 (dk_at dksX1_add_0 7 rfl rfl)
abbrev cX1_told : ByteArray := prog_1_method_37_code
def yX1_told : MethodName := ⟨RX1, "told", "(LSilkRow$Plot;I)I"⟩
def dkwX1_told_1 : List UInt8 := [180, 1, 43, 27, 5, 100, 46, 172]
abbrev dktX1_told_1 : List UInt8 := dkwX1_told_1 ++ []
def dkwX1_told_0 : List UInt8 := [27, 154, 0, 10, 42, 180, 1, 37, 167, 0, 23, 27, 4, 160, 0, 10, 42, 180, 1, 40, 167, 0, 11, 42]
abbrev dktX1_told_0 : List UInt8 := dkwX1_told_0 ++ dktX1_told_1
theorem dksX1_told_0 : cX1_told.data.toList.drop 0 = dktX1_told_0 := by decide +kernel
theorem dksX1_told_1 : cX1_told.data.toList.drop 24 = dktX1_told_1 := dk_seg dksX1_told_0 24 rfl rfl
theorem dX1_told_0 : decode cX1_told 0 = .ok (.iload_n 1, 1) := dk_27 (dk_at dksX1_told_0 0 rfl rfl)
theorem dX1_told_1 : decode cX1_told 1 = .ok (.ifCond .ne 10, 3) := dk_154 0 10 (dk_at dksX1_told_0 1 rfl rfl)
theorem dX1_told_4 : decode cX1_told 4 = .ok (.aload_n 0, 1) := dk_42 (dk_at dksX1_told_0 4 rfl rfl)
theorem dX1_told_5 : decode cX1_told 5 = .ok (.getfield 293, 3) := dk_180 1 37 (dk_at dksX1_told_0 5 rfl rfl)
theorem dX1_told_8 : decode cX1_told 8 = .ok (.goto 23, 3) := dk_167 0 23 (dk_at dksX1_told_0 8 rfl rfl)
theorem dX1_told_11 : decode cX1_told 11 = .ok (.iload_n 1, 1) := dk_27 (dk_at dksX1_told_0 11 rfl rfl)
theorem dX1_told_12 : decode cX1_told 12 = .ok (.iconst 1, 1) := dk_4 (dk_at dksX1_told_0 12 rfl rfl)
theorem dX1_told_13 : decode cX1_told 13 = .ok (.if_icmp .ne 10, 3) := dk_160 0 10 (dk_at dksX1_told_0 13 rfl rfl)
theorem dX1_told_16 : decode cX1_told 16 = .ok (.aload_n 0, 1) := dk_42 (dk_at dksX1_told_0 16 rfl rfl)
theorem dX1_told_17 : decode cX1_told 17 = .ok (.getfield 296, 3) := dk_180 1 40 (dk_at dksX1_told_0 17 rfl rfl)
theorem dX1_told_20 : decode cX1_told 20 = .ok (.goto 11, 3) := dk_167 0 11 (dk_at dksX1_told_0 20 rfl rfl)
theorem dX1_told_23 : decode cX1_told 23 = .ok (.aload_n 0, 1) := dk_42 (dk_at dksX1_told_0 23 rfl rfl)
theorem dX1_told_24 : decode cX1_told 24 = .ok (.getfield 299, 3) := dk_180 1 43 (dk_at dksX1_told_1 0 rfl rfl)
theorem dX1_told_27 : decode cX1_told 27 = .ok (.iload_n 1, 1) := dk_27 (dk_at dksX1_told_1 3 rfl rfl)
theorem dX1_told_28 : decode cX1_told 28 = .ok (.iconst 2, 1) := dk_5 (dk_at dksX1_told_1 4 rfl rfl)
theorem dX1_told_29 : decode cX1_told 29 = .ok (.isub, 1) := dk_100 (dk_at dksX1_told_1 5 rfl rfl)
theorem dX1_told_30 : decode cX1_told 30 = .ok (.iaload, 1) := dk_46 (dk_at dksX1_told_1 6 rfl rfl)
theorem dX1_told_31 : decode cX1_told 31 = .ok (.ireturn, 1) := dk_172 (dk_at dksX1_told_1 7 rfl rfl)
abbrev cX1_told_2 : ByteArray := prog_1_method_39_code
def yX1_told_2 : MethodName := ⟨RX1, "told", "(LSilkRow$Line;I)I"⟩
def dkwX1_told_2_1 : List UInt8 := [180, 0, 207, 172]
abbrev dktX1_told_2_1 : List UInt8 := dkwX1_told_2_1 ++ []
def dkwX1_told_2_0 : List UInt8 := [27, 154, 0, 10, 42, 180, 0, 210, 167, 0, 19, 27, 4, 160, 0, 10, 42, 180, 0, 161, 167, 0, 7, 42]
abbrev dktX1_told_2_0 : List UInt8 := dkwX1_told_2_0 ++ dktX1_told_2_1
theorem dksX1_told_2_0 : cX1_told_2.data.toList.drop 0 = dktX1_told_2_0 := by decide +kernel
theorem dksX1_told_2_1 : cX1_told_2.data.toList.drop 24 = dktX1_told_2_1 := dk_seg dksX1_told_2_0 24 rfl rfl
theorem dX1_told_2_0 : decode cX1_told_2 0 = .ok (.iload_n 1, 1) := dk_27 (dk_at dksX1_told_2_0 0 rfl rfl)
theorem dX1_told_2_1 : decode cX1_told_2 1 = .ok (.ifCond .ne 10, 3) := dk_154 0 10 (dk_at dksX1_told_2_0 1 rfl rfl)
theorem dX1_told_2_4 : decode cX1_told_2 4 = .ok (.aload_n 0, 1) := dk_42 (dk_at dksX1_told_2_0 4 rfl rfl)
theorem dX1_told_2_5 : decode cX1_told_2 5 = .ok (.getfield 210, 3) := dk_180 0 210 (dk_at dksX1_told_2_0 5 rfl rfl)
theorem dX1_told_2_8 : decode cX1_told_2 8 = .ok (.goto 19, 3) := dk_167 0 19 (dk_at dksX1_told_2_0 8 rfl rfl)
theorem dX1_told_2_11 : decode cX1_told_2 11 = .ok (.iload_n 1, 1) := dk_27 (dk_at dksX1_told_2_0 11 rfl rfl)
theorem dX1_told_2_12 : decode cX1_told_2 12 = .ok (.iconst 1, 1) := dk_4 (dk_at dksX1_told_2_0 12 rfl rfl)
theorem dX1_told_2_13 : decode cX1_told_2 13 = .ok (.if_icmp .ne 10, 3) := dk_160 0 10 (dk_at dksX1_told_2_0 13 rfl rfl)
theorem dX1_told_2_16 : decode cX1_told_2 16 = .ok (.aload_n 0, 1) := dk_42 (dk_at dksX1_told_2_0 16 rfl rfl)
theorem dX1_told_2_17 : decode cX1_told_2 17 = .ok (.getfield 161, 3) := dk_180 0 161 (dk_at dksX1_told_2_0 17 rfl rfl)
theorem dX1_told_2_20 : decode cX1_told_2 20 = .ok (.goto 7, 3) := dk_167 0 7 (dk_at dksX1_told_2_0 20 rfl rfl)
theorem dX1_told_2_23 : decode cX1_told_2 23 = .ok (.aload_n 0, 1) := dk_42 (dk_at dksX1_told_2_0 23 rfl rfl)
theorem dX1_told_2_24 : decode cX1_told_2 24 = .ok (.getfield 207, 3) := dk_180 0 207 (dk_at dksX1_told_2_1 0 rfl rfl)
theorem dX1_told_2_27 : decode cX1_told_2 27 = .ok (.ireturn, 1) := dk_172 (dk_at dksX1_told_2_1 3 rfl rfl)
abbrev cX1_told_3 : ByteArray := prog_1_method_41_code
def yX1_told_3 : MethodName := ⟨RX1, "told", "(LSilkRow$Tray;I)I"⟩
def dkwX1_told_3_4 : List UInt8 := [184, 1, 14, 79, 77, 44, 27, 46, 172]
abbrev dktX1_told_3_4 : List UInt8 := dkwX1_told_3_4 ++ []
def dkwX1_told_3_3 : List UInt8 := [16, 9, 42, 180, 0, 228, 79, 89, 16, 10, 42, 182, 1, 62, 79, 89, 16, 11, 42, 180, 0, 156]
abbrev dktX1_told_3_3 : List UInt8 := dkwX1_told_3_3 ++ dktX1_told_3_4
def dkwX1_told_3_2 : List UInt8 := [16, 6, 42, 180, 1, 56, 79, 89, 16, 7, 42, 180, 1, 59, 79, 89, 16, 8, 42, 180, 0, 225, 79, 89]
abbrev dktX1_told_3_2 : List UInt8 := dkwX1_told_3_2 ++ dktX1_told_3_3
def dkwX1_told_3_1 : List UInt8 := [79, 89, 6, 42, 180, 0, 219, 79, 89, 7, 42, 180, 1, 53, 79, 89, 8, 42, 180, 0, 222, 79, 89]
abbrev dktX1_told_3_1 : List UInt8 := dkwX1_told_3_1 ++ dktX1_told_3_2
def dkwX1_told_3_0 : List UInt8 := [16, 12, 188, 10, 89, 3, 42, 180, 0, 153, 79, 89, 4, 42, 180, 0, 216, 79, 89, 5, 42, 180, 0, 159]
abbrev dktX1_told_3_0 : List UInt8 := dkwX1_told_3_0 ++ dktX1_told_3_1
theorem dksX1_told_3_0 : cX1_told_3.data.toList.drop 0 = dktX1_told_3_0 := by decide +kernel
theorem dksX1_told_3_1 : cX1_told_3.data.toList.drop 24 = dktX1_told_3_1 := dk_seg dksX1_told_3_0 24 rfl rfl
theorem dksX1_told_3_2 : cX1_told_3.data.toList.drop 47 = dktX1_told_3_2 := dk_seg dksX1_told_3_1 23 rfl rfl
theorem dksX1_told_3_3 : cX1_told_3.data.toList.drop 71 = dktX1_told_3_3 := dk_seg dksX1_told_3_2 24 rfl rfl
theorem dksX1_told_3_4 : cX1_told_3.data.toList.drop 93 = dktX1_told_3_4 := dk_seg dksX1_told_3_3 22 rfl rfl
theorem dX1_told_3_0 : decode cX1_told_3 0 = .ok (.bipush 12, 2) := dk_16 12 (dk_at dksX1_told_3_0 0 rfl rfl)
theorem dX1_told_3_2 : decode cX1_told_3 2 = .ok (.newarray .int, 2) := dk_188_10 (dk_at dksX1_told_3_0 2 rfl rfl)
theorem dX1_told_3_4 : decode cX1_told_3 4 = .ok (.dup, 1) := dk_89 (dk_at dksX1_told_3_0 4 rfl rfl)
theorem dX1_told_3_5 : decode cX1_told_3 5 = .ok (.iconst 0, 1) := dk_3 (dk_at dksX1_told_3_0 5 rfl rfl)
theorem dX1_told_3_6 : decode cX1_told_3 6 = .ok (.aload_n 0, 1) := dk_42 (dk_at dksX1_told_3_0 6 rfl rfl)
theorem dX1_told_3_7 : decode cX1_told_3 7 = .ok (.getfield 153, 3) := dk_180 0 153 (dk_at dksX1_told_3_0 7 rfl rfl)
theorem dX1_told_3_10 : decode cX1_told_3 10 = .ok (.iastore, 1) := dk_79 (dk_at dksX1_told_3_0 10 rfl rfl)
theorem dX1_told_3_11 : decode cX1_told_3 11 = .ok (.dup, 1) := dk_89 (dk_at dksX1_told_3_0 11 rfl rfl)
theorem dX1_told_3_12 : decode cX1_told_3 12 = .ok (.iconst 1, 1) := dk_4 (dk_at dksX1_told_3_0 12 rfl rfl)
theorem dX1_told_3_13 : decode cX1_told_3 13 = .ok (.aload_n 0, 1) := dk_42 (dk_at dksX1_told_3_0 13 rfl rfl)
theorem dX1_told_3_14 : decode cX1_told_3 14 = .ok (.getfield 216, 3) := dk_180 0 216 (dk_at dksX1_told_3_0 14 rfl rfl)
theorem dX1_told_3_17 : decode cX1_told_3 17 = .ok (.iastore, 1) := dk_79 (dk_at dksX1_told_3_0 17 rfl rfl)
theorem dX1_told_3_18 : decode cX1_told_3 18 = .ok (.dup, 1) := dk_89 (dk_at dksX1_told_3_0 18 rfl rfl)
theorem dX1_told_3_19 : decode cX1_told_3 19 = .ok (.iconst 2, 1) := dk_5 (dk_at dksX1_told_3_0 19 rfl rfl)
theorem dX1_told_3_20 : decode cX1_told_3 20 = .ok (.aload_n 0, 1) := dk_42 (dk_at dksX1_told_3_0 20 rfl rfl)
theorem dX1_told_3_21 : decode cX1_told_3 21 = .ok (.getfield 159, 3) := dk_180 0 159 (dk_at dksX1_told_3_0 21 rfl rfl)
theorem dX1_told_3_24 : decode cX1_told_3 24 = .ok (.iastore, 1) := dk_79 (dk_at dksX1_told_3_1 0 rfl rfl)
theorem dX1_told_3_25 : decode cX1_told_3 25 = .ok (.dup, 1) := dk_89 (dk_at dksX1_told_3_1 1 rfl rfl)
theorem dX1_told_3_26 : decode cX1_told_3 26 = .ok (.iconst 3, 1) := dk_6 (dk_at dksX1_told_3_1 2 rfl rfl)
theorem dX1_told_3_27 : decode cX1_told_3 27 = .ok (.aload_n 0, 1) := dk_42 (dk_at dksX1_told_3_1 3 rfl rfl)
theorem dX1_told_3_28 : decode cX1_told_3 28 = .ok (.getfield 219, 3) := dk_180 0 219 (dk_at dksX1_told_3_1 4 rfl rfl)
theorem dX1_told_3_31 : decode cX1_told_3 31 = .ok (.iastore, 1) := dk_79 (dk_at dksX1_told_3_1 7 rfl rfl)
theorem dX1_told_3_32 : decode cX1_told_3 32 = .ok (.dup, 1) := dk_89 (dk_at dksX1_told_3_1 8 rfl rfl)
theorem dX1_told_3_33 : decode cX1_told_3 33 = .ok (.iconst 4, 1) := dk_7 (dk_at dksX1_told_3_1 9 rfl rfl)
theorem dX1_told_3_34 : decode cX1_told_3 34 = .ok (.aload_n 0, 1) := dk_42 (dk_at dksX1_told_3_1 10 rfl rfl)
theorem dX1_told_3_35 : decode cX1_told_3 35 = .ok (.getfield 309, 3) := dk_180 1 53 (dk_at dksX1_told_3_1 11 rfl rfl)
theorem dX1_told_3_38 : decode cX1_told_3 38 = .ok (.iastore, 1) := dk_79 (dk_at dksX1_told_3_1 14 rfl rfl)
theorem dX1_told_3_39 : decode cX1_told_3 39 = .ok (.dup, 1) := dk_89 (dk_at dksX1_told_3_1 15 rfl rfl)
theorem dX1_told_3_40 : decode cX1_told_3 40 = .ok (.iconst 5, 1) := dk_8 (dk_at dksX1_told_3_1 16 rfl rfl)
theorem dX1_told_3_41 : decode cX1_told_3 41 = .ok (.aload_n 0, 1) := dk_42 (dk_at dksX1_told_3_1 17 rfl rfl)
theorem dX1_told_3_42 : decode cX1_told_3 42 = .ok (.getfield 222, 3) := dk_180 0 222 (dk_at dksX1_told_3_1 18 rfl rfl)
theorem dX1_told_3_45 : decode cX1_told_3 45 = .ok (.iastore, 1) := dk_79 (dk_at dksX1_told_3_1 21 rfl rfl)
theorem dX1_told_3_46 : decode cX1_told_3 46 = .ok (.dup, 1) := dk_89 (dk_at dksX1_told_3_1 22 rfl rfl)
theorem dX1_told_3_47 : decode cX1_told_3 47 = .ok (.bipush 6, 2) := dk_16 6 (dk_at dksX1_told_3_2 0 rfl rfl)
theorem dX1_told_3_49 : decode cX1_told_3 49 = .ok (.aload_n 0, 1) := dk_42 (dk_at dksX1_told_3_2 2 rfl rfl)
theorem dX1_told_3_50 : decode cX1_told_3 50 = .ok (.getfield 312, 3) := dk_180 1 56 (dk_at dksX1_told_3_2 3 rfl rfl)
theorem dX1_told_3_53 : decode cX1_told_3 53 = .ok (.iastore, 1) := dk_79 (dk_at dksX1_told_3_2 6 rfl rfl)
theorem dX1_told_3_54 : decode cX1_told_3 54 = .ok (.dup, 1) := dk_89 (dk_at dksX1_told_3_2 7 rfl rfl)
theorem dX1_told_3_55 : decode cX1_told_3 55 = .ok (.bipush 7, 2) := dk_16 7 (dk_at dksX1_told_3_2 8 rfl rfl)
theorem dX1_told_3_57 : decode cX1_told_3 57 = .ok (.aload_n 0, 1) := dk_42 (dk_at dksX1_told_3_2 10 rfl rfl)
theorem dX1_told_3_58 : decode cX1_told_3 58 = .ok (.getfield 315, 3) := dk_180 1 59 (dk_at dksX1_told_3_2 11 rfl rfl)
theorem dX1_told_3_61 : decode cX1_told_3 61 = .ok (.iastore, 1) := dk_79 (dk_at dksX1_told_3_2 14 rfl rfl)
theorem dX1_told_3_62 : decode cX1_told_3 62 = .ok (.dup, 1) := dk_89 (dk_at dksX1_told_3_2 15 rfl rfl)
theorem dX1_told_3_63 : decode cX1_told_3 63 = .ok (.bipush 8, 2) := dk_16 8 (dk_at dksX1_told_3_2 16 rfl rfl)
theorem dX1_told_3_65 : decode cX1_told_3 65 = .ok (.aload_n 0, 1) := dk_42 (dk_at dksX1_told_3_2 18 rfl rfl)
theorem dX1_told_3_66 : decode cX1_told_3 66 = .ok (.getfield 225, 3) := dk_180 0 225 (dk_at dksX1_told_3_2 19 rfl rfl)
theorem dX1_told_3_69 : decode cX1_told_3 69 = .ok (.iastore, 1) := dk_79 (dk_at dksX1_told_3_2 22 rfl rfl)
theorem dX1_told_3_70 : decode cX1_told_3 70 = .ok (.dup, 1) := dk_89 (dk_at dksX1_told_3_2 23 rfl rfl)
theorem dX1_told_3_71 : decode cX1_told_3 71 = .ok (.bipush 9, 2) := dk_16 9 (dk_at dksX1_told_3_3 0 rfl rfl)
theorem dX1_told_3_73 : decode cX1_told_3 73 = .ok (.aload_n 0, 1) := dk_42 (dk_at dksX1_told_3_3 2 rfl rfl)
theorem dX1_told_3_74 : decode cX1_told_3 74 = .ok (.getfield 228, 3) := dk_180 0 228 (dk_at dksX1_told_3_3 3 rfl rfl)
theorem dX1_told_3_77 : decode cX1_told_3 77 = .ok (.iastore, 1) := dk_79 (dk_at dksX1_told_3_3 6 rfl rfl)
theorem dX1_told_3_78 : decode cX1_told_3 78 = .ok (.dup, 1) := dk_89 (dk_at dksX1_told_3_3 7 rfl rfl)
theorem dX1_told_3_79 : decode cX1_told_3 79 = .ok (.bipush 10, 2) := dk_16 10 (dk_at dksX1_told_3_3 8 rfl rfl)
theorem dX1_told_3_81 : decode cX1_told_3 81 = .ok (.aload_n 0, 1) := dk_42 (dk_at dksX1_told_3_3 10 rfl rfl)
theorem dX1_told_3_82 : decode cX1_told_3 82 = .ok (.invokevirtual 318, 3) := dk_182 1 62 (dk_at dksX1_told_3_3 11 rfl rfl)
theorem dX1_told_3_85 : decode cX1_told_3 85 = .ok (.iastore, 1) := dk_79 (dk_at dksX1_told_3_3 14 rfl rfl)
theorem dX1_told_3_86 : decode cX1_told_3 86 = .ok (.dup, 1) := dk_89 (dk_at dksX1_told_3_3 15 rfl rfl)
theorem dX1_told_3_87 : decode cX1_told_3 87 = .ok (.bipush 11, 2) := dk_16 11 (dk_at dksX1_told_3_3 16 rfl rfl)
theorem dX1_told_3_89 : decode cX1_told_3 89 = .ok (.aload_n 0, 1) := dk_42 (dk_at dksX1_told_3_3 18 rfl rfl)
theorem dX1_told_3_90 : decode cX1_told_3 90 = .ok (.getfield 156, 3) := dk_180 0 156 (dk_at dksX1_told_3_3 19 rfl rfl)
theorem dX1_told_3_93 : decode cX1_told_3 93 = .ok (.invokestatic 270, 3) := dk_184 1 14 (dk_at dksX1_told_3_4 0 rfl rfl)
theorem dX1_told_3_96 : decode cX1_told_3 96 = .ok (.iastore, 1) := dk_79 (dk_at dksX1_told_3_4 3 rfl rfl)
theorem dX1_told_3_97 : decode cX1_told_3 97 = .ok (.astore_n 2, 1) := dk_77 (dk_at dksX1_told_3_4 4 rfl rfl)
theorem dX1_told_3_98 : decode cX1_told_3 98 = .ok (.aload_n 2, 1) := dk_44 (dk_at dksX1_told_3_4 5 rfl rfl)
theorem dX1_told_3_99 : decode cX1_told_3 99 = .ok (.iload_n 1, 1) := dk_27 (dk_at dksX1_told_3_4 6 rfl rfl)
theorem dX1_told_3_100 : decode cX1_told_3 100 = .ok (.iaload, 1) := dk_46 (dk_at dksX1_told_3_4 7 rfl rfl)
theorem dX1_told_3_101 : decode cX1_told_3 101 = .ok (.ireturn, 1) := dk_172 (dk_at dksX1_told_3_4 8 rfl rfl)
abbrev cX1_up : ByteArray := prog_1_method_7_code
def yX1_up : MethodName := ⟨RX1, "up", "(II)I"⟩
def dkwX1_up_0 : List UInt8 := [26, 27, 96, 4, 100, 27, 108, 172]
abbrev dktX1_up_0 : List UInt8 := dkwX1_up_0 ++ []
theorem dksX1_up_0 : cX1_up.data.toList.drop 0 = dktX1_up_0 := by decide +kernel
theorem dX1_up_0 : decode cX1_up 0 = .ok (.iload_n 0, 1) := dk_26 (dk_at dksX1_up_0 0 rfl rfl)
theorem dX1_up_1 : decode cX1_up 1 = .ok (.iload_n 1, 1) := dk_27 (dk_at dksX1_up_0 1 rfl rfl)
theorem dX1_up_2 : decode cX1_up 2 = .ok (.iadd, 1) := dk_96 (dk_at dksX1_up_0 2 rfl rfl)
theorem dX1_up_3 : decode cX1_up 3 = .ok (.iconst 1, 1) := dk_4 (dk_at dksX1_up_0 3 rfl rfl)
theorem dX1_up_4 : decode cX1_up 4 = .ok (.isub, 1) := dk_100 (dk_at dksX1_up_0 4 rfl rfl)
theorem dX1_up_5 : decode cX1_up 5 = .ok (.iload_n 1, 1) := dk_27 (dk_at dksX1_up_0 5 rfl rfl)
theorem dX1_up_6 : decode cX1_up 6 = .ok (.idiv, 1) := dk_108 (dk_at dksX1_up_0 6 rfl rfl)
theorem dX1_up_7 : decode cX1_up 7 = .ok (.ireturn, 1) := dk_172 (dk_at dksX1_up_0 7 rfl rfl)
abbrev cX1_ripeBehind : ByteArray := prog_1_method_52_code
def yX1_ripeBehind : MethodName := ⟨RX1, "ripeBehind", "(LSilkRow$Tray;)I"⟩
def dkwX1_ripeBehind_3 : List UInt8 := [180, 0, 156, 153, 0, 5, 29, 172, 132, 3, 1, 167, 255, 190, 2, 172]
abbrev dktX1_ripeBehind_3 : List UInt8 := dkwX1_ripeBehind_3 ++ []
def dkwX1_ripeBehind_2 : List UInt8 := [44, 42, 180, 0, 102, 44, 180, 0, 159, 182, 0, 160, 192, 0, 120, 180, 0, 161, 182, 0, 164, 87, 44]
abbrev dktX1_ripeBehind_2 : List UInt8 := dkwX1_ripeBehind_2 ++ dktX1_ripeBehind_3
def dkwX1_ripeBehind_1 : List UInt8 := [180, 0, 222, 154, 0, 8, 44, 3, 181, 1, 59, 44, 44, 182, 1, 62, 181, 0, 225, 44, 3, 181, 0, 228]
abbrev dktX1_ripeBehind_1 : List UInt8 := dkwX1_ripeBehind_1 ++ dktX1_ripeBehind_2
def dkwX1_ripeBehind_0 : List UInt8 := [43, 180, 0, 156, 153, 0, 5, 3, 172, 43, 182, 1, 95, 77, 4, 62, 44, 180, 0, 153, 158, 0, 65, 44]
abbrev dktX1_ripeBehind_0 : List UInt8 := dkwX1_ripeBehind_0 ++ dktX1_ripeBehind_1
theorem dksX1_ripeBehind_0 : cX1_ripeBehind.data.toList.drop 0 = dktX1_ripeBehind_0 := by decide +kernel
theorem dksX1_ripeBehind_1 : cX1_ripeBehind.data.toList.drop 24 = dktX1_ripeBehind_1 := dk_seg dksX1_ripeBehind_0 24 rfl rfl
theorem dksX1_ripeBehind_2 : cX1_ripeBehind.data.toList.drop 48 = dktX1_ripeBehind_2 := dk_seg dksX1_ripeBehind_1 24 rfl rfl
theorem dksX1_ripeBehind_3 : cX1_ripeBehind.data.toList.drop 71 = dktX1_ripeBehind_3 := dk_seg dksX1_ripeBehind_2 23 rfl rfl
theorem dX1_ripeBehind_0 : decode cX1_ripeBehind 0 = .ok (.aload_n 1, 1) := dk_43 (dk_at dksX1_ripeBehind_0 0 rfl rfl)
theorem dX1_ripeBehind_1 : decode cX1_ripeBehind 1 = .ok (.getfield 156, 3) := dk_180 0 156 (dk_at dksX1_ripeBehind_0 1 rfl rfl)
theorem dX1_ripeBehind_4 : decode cX1_ripeBehind 4 = .ok (.ifCond .eq 5, 3) := dk_153 0 5 (dk_at dksX1_ripeBehind_0 4 rfl rfl)
theorem dX1_ripeBehind_7 : decode cX1_ripeBehind 7 = .ok (.iconst 0, 1) := dk_3 (dk_at dksX1_ripeBehind_0 7 rfl rfl)
theorem dX1_ripeBehind_8 : decode cX1_ripeBehind 8 = .ok (.ireturn, 1) := dk_172 (dk_at dksX1_ripeBehind_0 8 rfl rfl)
theorem dX1_ripeBehind_9 : decode cX1_ripeBehind 9 = .ok (.aload_n 1, 1) := dk_43 (dk_at dksX1_ripeBehind_0 9 rfl rfl)
theorem dX1_ripeBehind_10 : decode cX1_ripeBehind 10 = .ok (.invokevirtual 351, 3) := dk_182 1 95 (dk_at dksX1_ripeBehind_0 10 rfl rfl)
theorem dX1_ripeBehind_13 : decode cX1_ripeBehind 13 = .ok (.astore_n 2, 1) := dk_77 (dk_at dksX1_ripeBehind_0 13 rfl rfl)
theorem dX1_ripeBehind_14 : decode cX1_ripeBehind 14 = .ok (.iconst 1, 1) := dk_4 (dk_at dksX1_ripeBehind_0 14 rfl rfl)
theorem dX1_ripeBehind_15 : decode cX1_ripeBehind 15 = .ok (.istore_n 3, 1) := dk_62 (dk_at dksX1_ripeBehind_0 15 rfl rfl)
theorem dX1_ripeBehind_16 : decode cX1_ripeBehind 16 = .ok (.aload_n 2, 1) := dk_44 (dk_at dksX1_ripeBehind_0 16 rfl rfl)
theorem dX1_ripeBehind_17 : decode cX1_ripeBehind 17 = .ok (.getfield 153, 3) := dk_180 0 153 (dk_at dksX1_ripeBehind_0 17 rfl rfl)
theorem dX1_ripeBehind_20 : decode cX1_ripeBehind 20 = .ok (.ifCond .le 65, 3) := dk_158 0 65 (dk_at dksX1_ripeBehind_0 20 rfl rfl)
theorem dX1_ripeBehind_23 : decode cX1_ripeBehind 23 = .ok (.aload_n 2, 1) := dk_44 (dk_at dksX1_ripeBehind_0 23 rfl rfl)
theorem dX1_ripeBehind_24 : decode cX1_ripeBehind 24 = .ok (.getfield 222, 3) := dk_180 0 222 (dk_at dksX1_ripeBehind_1 0 rfl rfl)
theorem dX1_ripeBehind_27 : decode cX1_ripeBehind 27 = .ok (.ifCond .ne 8, 3) := dk_154 0 8 (dk_at dksX1_ripeBehind_1 3 rfl rfl)
theorem dX1_ripeBehind_30 : decode cX1_ripeBehind 30 = .ok (.aload_n 2, 1) := dk_44 (dk_at dksX1_ripeBehind_1 6 rfl rfl)
theorem dX1_ripeBehind_31 : decode cX1_ripeBehind 31 = .ok (.iconst 0, 1) := dk_3 (dk_at dksX1_ripeBehind_1 7 rfl rfl)
theorem dX1_ripeBehind_32 : decode cX1_ripeBehind 32 = .ok (.putfield 315, 3) := dk_181 1 59 (dk_at dksX1_ripeBehind_1 8 rfl rfl)
theorem dX1_ripeBehind_35 : decode cX1_ripeBehind 35 = .ok (.aload_n 2, 1) := dk_44 (dk_at dksX1_ripeBehind_1 11 rfl rfl)
theorem dX1_ripeBehind_36 : decode cX1_ripeBehind 36 = .ok (.aload_n 2, 1) := dk_44 (dk_at dksX1_ripeBehind_1 12 rfl rfl)
theorem dX1_ripeBehind_37 : decode cX1_ripeBehind 37 = .ok (.invokevirtual 318, 3) := dk_182 1 62 (dk_at dksX1_ripeBehind_1 13 rfl rfl)
theorem dX1_ripeBehind_40 : decode cX1_ripeBehind 40 = .ok (.putfield 225, 3) := dk_181 0 225 (dk_at dksX1_ripeBehind_1 16 rfl rfl)
theorem dX1_ripeBehind_43 : decode cX1_ripeBehind 43 = .ok (.aload_n 2, 1) := dk_44 (dk_at dksX1_ripeBehind_1 19 rfl rfl)
theorem dX1_ripeBehind_44 : decode cX1_ripeBehind 44 = .ok (.iconst 0, 1) := dk_3 (dk_at dksX1_ripeBehind_1 20 rfl rfl)
theorem dX1_ripeBehind_45 : decode cX1_ripeBehind 45 = .ok (.putfield 228, 3) := dk_181 0 228 (dk_at dksX1_ripeBehind_1 21 rfl rfl)
theorem dX1_ripeBehind_48 : decode cX1_ripeBehind 48 = .ok (.aload_n 2, 1) := dk_44 (dk_at dksX1_ripeBehind_2 0 rfl rfl)
theorem dX1_ripeBehind_49 : decode cX1_ripeBehind 49 = .ok (.aload_n 0, 1) := dk_42 (dk_at dksX1_ripeBehind_2 1 rfl rfl)
theorem dX1_ripeBehind_50 : decode cX1_ripeBehind 50 = .ok (.getfield 102, 3) := dk_180 0 102 (dk_at dksX1_ripeBehind_2 2 rfl rfl)
theorem dX1_ripeBehind_53 : decode cX1_ripeBehind 53 = .ok (.aload_n 2, 1) := dk_44 (dk_at dksX1_ripeBehind_2 5 rfl rfl)
theorem dX1_ripeBehind_54 : decode cX1_ripeBehind 54 = .ok (.getfield 159, 3) := dk_180 0 159 (dk_at dksX1_ripeBehind_2 6 rfl rfl)
theorem dX1_ripeBehind_57 : decode cX1_ripeBehind 57 = .ok (.invokevirtual 160, 3) := dk_182 0 160 (dk_at dksX1_ripeBehind_2 9 rfl rfl)
theorem dX1_ripeBehind_60 : decode cX1_ripeBehind 60 = .ok (.checkcast 120, 3) := dk_192 0 120 (dk_at dksX1_ripeBehind_2 12 rfl rfl)
theorem dX1_ripeBehind_63 : decode cX1_ripeBehind 63 = .ok (.getfield 161, 3) := dk_180 0 161 (dk_at dksX1_ripeBehind_2 15 rfl rfl)
theorem dX1_ripeBehind_66 : decode cX1_ripeBehind 66 = .ok (.invokevirtual 164, 3) := dk_182 0 164 (dk_at dksX1_ripeBehind_2 18 rfl rfl)
theorem dX1_ripeBehind_69 : decode cX1_ripeBehind 69 = .ok (.pop, 1) := dk_87 (dk_at dksX1_ripeBehind_2 21 rfl rfl)
theorem dX1_ripeBehind_70 : decode cX1_ripeBehind 70 = .ok (.aload_n 2, 1) := dk_44 (dk_at dksX1_ripeBehind_2 22 rfl rfl)
theorem dX1_ripeBehind_71 : decode cX1_ripeBehind 71 = .ok (.getfield 156, 3) := dk_180 0 156 (dk_at dksX1_ripeBehind_3 0 rfl rfl)
theorem dX1_ripeBehind_74 : decode cX1_ripeBehind 74 = .ok (.ifCond .eq 5, 3) := dk_153 0 5 (dk_at dksX1_ripeBehind_3 3 rfl rfl)
theorem dX1_ripeBehind_77 : decode cX1_ripeBehind 77 = .ok (.iload_n 3, 1) := dk_29 (dk_at dksX1_ripeBehind_3 6 rfl rfl)
theorem dX1_ripeBehind_78 : decode cX1_ripeBehind 78 = .ok (.ireturn, 1) := dk_172 (dk_at dksX1_ripeBehind_3 7 rfl rfl)
theorem dX1_ripeBehind_79 : decode cX1_ripeBehind 79 = .ok (.iinc 3 1, 3) := dk_132 3 1 (dk_at dksX1_ripeBehind_3 8 rfl rfl)
theorem dX1_ripeBehind_82 : decode cX1_ripeBehind 82 = .ok (.goto (-66), 3) := dk_167 255 190 (dk_at dksX1_ripeBehind_3 11 rfl rfl)
theorem dX1_ripeBehind_85 : decode cX1_ripeBehind 85 = .ok (.iconst (-1), 1) := dk_2 (dk_at dksX1_ripeBehind_3 14 rfl rfl)
theorem dX1_ripeBehind_86 : decode cX1_ripeBehind 86 = .ok (.ireturn, 1) := dk_172 (dk_at dksX1_ripeBehind_3 15 rfl rfl)
abbrev cX1_told_4 : ByteArray := prog_1_method_43_code
def yX1_told_4 : MethodName := ⟨RX1, "told", "(LSilkRow$Lot;I)I"⟩
def dkwX1_told_4_3 : List UInt8 := [46, 79, 89, 16, 8, 42, 180, 1, 71, 79, 77, 44, 27, 46, 172]
abbrev dktX1_told_4_3 : List UInt8 := dkwX1_told_4_3 ++ []
def dkwX1_told_4_2 : List UInt8 := [180, 1, 68, 3, 46, 79, 89, 16, 6, 42, 180, 1, 68, 4, 46, 79, 89, 16, 7, 42, 180, 1, 68, 5]
abbrev dktX1_told_4_2 : List UInt8 := dkwX1_told_4_2 ++ dktX1_told_4_3
def dkwX1_told_4_1 : List UInt8 := [3, 46, 79, 89, 6, 42, 180, 1, 9, 4, 46, 79, 89, 7, 42, 180, 1, 9, 5, 46, 79, 89, 8, 42]
abbrev dktX1_told_4_1 : List UInt8 := dkwX1_told_4_1 ++ dktX1_told_4_2
def dkwX1_told_4_0 : List UInt8 := [16, 9, 188, 10, 89, 3, 42, 180, 1, 0, 79, 89, 4, 42, 180, 1, 67, 79, 89, 5, 42, 180, 1, 9]
abbrev dktX1_told_4_0 : List UInt8 := dkwX1_told_4_0 ++ dktX1_told_4_1
theorem dksX1_told_4_0 : cX1_told_4.data.toList.drop 0 = dktX1_told_4_0 := by decide +kernel
theorem dksX1_told_4_1 : cX1_told_4.data.toList.drop 24 = dktX1_told_4_1 := dk_seg dksX1_told_4_0 24 rfl rfl
theorem dksX1_told_4_2 : cX1_told_4.data.toList.drop 48 = dktX1_told_4_2 := dk_seg dksX1_told_4_1 24 rfl rfl
theorem dksX1_told_4_3 : cX1_told_4.data.toList.drop 72 = dktX1_told_4_3 := dk_seg dksX1_told_4_2 24 rfl rfl
theorem dX1_told_4_0 : decode cX1_told_4 0 = .ok (.bipush 9, 2) := dk_16 9 (dk_at dksX1_told_4_0 0 rfl rfl)
theorem dX1_told_4_2 : decode cX1_told_4 2 = .ok (.newarray .int, 2) := dk_188_10 (dk_at dksX1_told_4_0 2 rfl rfl)
theorem dX1_told_4_4 : decode cX1_told_4 4 = .ok (.dup, 1) := dk_89 (dk_at dksX1_told_4_0 4 rfl rfl)
theorem dX1_told_4_5 : decode cX1_told_4 5 = .ok (.iconst 0, 1) := dk_3 (dk_at dksX1_told_4_0 5 rfl rfl)
theorem dX1_told_4_6 : decode cX1_told_4 6 = .ok (.aload_n 0, 1) := dk_42 (dk_at dksX1_told_4_0 6 rfl rfl)
theorem dX1_told_4_7 : decode cX1_told_4 7 = .ok (.getfield 256, 3) := dk_180 1 0 (dk_at dksX1_told_4_0 7 rfl rfl)
theorem dX1_told_4_10 : decode cX1_told_4 10 = .ok (.iastore, 1) := dk_79 (dk_at dksX1_told_4_0 10 rfl rfl)
theorem dX1_told_4_11 : decode cX1_told_4 11 = .ok (.dup, 1) := dk_89 (dk_at dksX1_told_4_0 11 rfl rfl)
theorem dX1_told_4_12 : decode cX1_told_4 12 = .ok (.iconst 1, 1) := dk_4 (dk_at dksX1_told_4_0 12 rfl rfl)
theorem dX1_told_4_13 : decode cX1_told_4 13 = .ok (.aload_n 0, 1) := dk_42 (dk_at dksX1_told_4_0 13 rfl rfl)
theorem dX1_told_4_14 : decode cX1_told_4 14 = .ok (.getfield 323, 3) := dk_180 1 67 (dk_at dksX1_told_4_0 14 rfl rfl)
theorem dX1_told_4_17 : decode cX1_told_4 17 = .ok (.iastore, 1) := dk_79 (dk_at dksX1_told_4_0 17 rfl rfl)
theorem dX1_told_4_18 : decode cX1_told_4 18 = .ok (.dup, 1) := dk_89 (dk_at dksX1_told_4_0 18 rfl rfl)
theorem dX1_told_4_19 : decode cX1_told_4 19 = .ok (.iconst 2, 1) := dk_5 (dk_at dksX1_told_4_0 19 rfl rfl)
theorem dX1_told_4_20 : decode cX1_told_4 20 = .ok (.aload_n 0, 1) := dk_42 (dk_at dksX1_told_4_0 20 rfl rfl)
theorem dX1_told_4_21 : decode cX1_told_4 21 = .ok (.getfield 265, 3) := dk_180 1 9 (dk_at dksX1_told_4_0 21 rfl rfl)
theorem dX1_told_4_24 : decode cX1_told_4 24 = .ok (.iconst 0, 1) := dk_3 (dk_at dksX1_told_4_1 0 rfl rfl)
theorem dX1_told_4_25 : decode cX1_told_4 25 = .ok (.iaload, 1) := dk_46 (dk_at dksX1_told_4_1 1 rfl rfl)
theorem dX1_told_4_26 : decode cX1_told_4 26 = .ok (.iastore, 1) := dk_79 (dk_at dksX1_told_4_1 2 rfl rfl)
theorem dX1_told_4_27 : decode cX1_told_4 27 = .ok (.dup, 1) := dk_89 (dk_at dksX1_told_4_1 3 rfl rfl)
theorem dX1_told_4_28 : decode cX1_told_4 28 = .ok (.iconst 3, 1) := dk_6 (dk_at dksX1_told_4_1 4 rfl rfl)
theorem dX1_told_4_29 : decode cX1_told_4 29 = .ok (.aload_n 0, 1) := dk_42 (dk_at dksX1_told_4_1 5 rfl rfl)
theorem dX1_told_4_30 : decode cX1_told_4 30 = .ok (.getfield 265, 3) := dk_180 1 9 (dk_at dksX1_told_4_1 6 rfl rfl)
theorem dX1_told_4_33 : decode cX1_told_4 33 = .ok (.iconst 1, 1) := dk_4 (dk_at dksX1_told_4_1 9 rfl rfl)
theorem dX1_told_4_34 : decode cX1_told_4 34 = .ok (.iaload, 1) := dk_46 (dk_at dksX1_told_4_1 10 rfl rfl)
theorem dX1_told_4_35 : decode cX1_told_4 35 = .ok (.iastore, 1) := dk_79 (dk_at dksX1_told_4_1 11 rfl rfl)
theorem dX1_told_4_36 : decode cX1_told_4 36 = .ok (.dup, 1) := dk_89 (dk_at dksX1_told_4_1 12 rfl rfl)
theorem dX1_told_4_37 : decode cX1_told_4 37 = .ok (.iconst 4, 1) := dk_7 (dk_at dksX1_told_4_1 13 rfl rfl)
theorem dX1_told_4_38 : decode cX1_told_4 38 = .ok (.aload_n 0, 1) := dk_42 (dk_at dksX1_told_4_1 14 rfl rfl)
theorem dX1_told_4_39 : decode cX1_told_4 39 = .ok (.getfield 265, 3) := dk_180 1 9 (dk_at dksX1_told_4_1 15 rfl rfl)
theorem dX1_told_4_42 : decode cX1_told_4 42 = .ok (.iconst 2, 1) := dk_5 (dk_at dksX1_told_4_1 18 rfl rfl)
theorem dX1_told_4_43 : decode cX1_told_4 43 = .ok (.iaload, 1) := dk_46 (dk_at dksX1_told_4_1 19 rfl rfl)
theorem dX1_told_4_44 : decode cX1_told_4 44 = .ok (.iastore, 1) := dk_79 (dk_at dksX1_told_4_1 20 rfl rfl)
theorem dX1_told_4_45 : decode cX1_told_4 45 = .ok (.dup, 1) := dk_89 (dk_at dksX1_told_4_1 21 rfl rfl)
theorem dX1_told_4_46 : decode cX1_told_4 46 = .ok (.iconst 5, 1) := dk_8 (dk_at dksX1_told_4_1 22 rfl rfl)
theorem dX1_told_4_47 : decode cX1_told_4 47 = .ok (.aload_n 0, 1) := dk_42 (dk_at dksX1_told_4_1 23 rfl rfl)
theorem dX1_told_4_48 : decode cX1_told_4 48 = .ok (.getfield 324, 3) := dk_180 1 68 (dk_at dksX1_told_4_2 0 rfl rfl)
theorem dX1_told_4_51 : decode cX1_told_4 51 = .ok (.iconst 0, 1) := dk_3 (dk_at dksX1_told_4_2 3 rfl rfl)
theorem dX1_told_4_52 : decode cX1_told_4 52 = .ok (.iaload, 1) := dk_46 (dk_at dksX1_told_4_2 4 rfl rfl)
theorem dX1_told_4_53 : decode cX1_told_4 53 = .ok (.iastore, 1) := dk_79 (dk_at dksX1_told_4_2 5 rfl rfl)
theorem dX1_told_4_54 : decode cX1_told_4 54 = .ok (.dup, 1) := dk_89 (dk_at dksX1_told_4_2 6 rfl rfl)
theorem dX1_told_4_55 : decode cX1_told_4 55 = .ok (.bipush 6, 2) := dk_16 6 (dk_at dksX1_told_4_2 7 rfl rfl)
theorem dX1_told_4_57 : decode cX1_told_4 57 = .ok (.aload_n 0, 1) := dk_42 (dk_at dksX1_told_4_2 9 rfl rfl)
theorem dX1_told_4_58 : decode cX1_told_4 58 = .ok (.getfield 324, 3) := dk_180 1 68 (dk_at dksX1_told_4_2 10 rfl rfl)
theorem dX1_told_4_61 : decode cX1_told_4 61 = .ok (.iconst 1, 1) := dk_4 (dk_at dksX1_told_4_2 13 rfl rfl)
theorem dX1_told_4_62 : decode cX1_told_4 62 = .ok (.iaload, 1) := dk_46 (dk_at dksX1_told_4_2 14 rfl rfl)
theorem dX1_told_4_63 : decode cX1_told_4 63 = .ok (.iastore, 1) := dk_79 (dk_at dksX1_told_4_2 15 rfl rfl)
theorem dX1_told_4_64 : decode cX1_told_4 64 = .ok (.dup, 1) := dk_89 (dk_at dksX1_told_4_2 16 rfl rfl)
theorem dX1_told_4_65 : decode cX1_told_4 65 = .ok (.bipush 7, 2) := dk_16 7 (dk_at dksX1_told_4_2 17 rfl rfl)
theorem dX1_told_4_67 : decode cX1_told_4 67 = .ok (.aload_n 0, 1) := dk_42 (dk_at dksX1_told_4_2 19 rfl rfl)
theorem dX1_told_4_68 : decode cX1_told_4 68 = .ok (.getfield 324, 3) := dk_180 1 68 (dk_at dksX1_told_4_2 20 rfl rfl)
theorem dX1_told_4_71 : decode cX1_told_4 71 = .ok (.iconst 2, 1) := dk_5 (dk_at dksX1_told_4_2 23 rfl rfl)
theorem dX1_told_4_72 : decode cX1_told_4 72 = .ok (.iaload, 1) := dk_46 (dk_at dksX1_told_4_3 0 rfl rfl)
theorem dX1_told_4_73 : decode cX1_told_4 73 = .ok (.iastore, 1) := dk_79 (dk_at dksX1_told_4_3 1 rfl rfl)
theorem dX1_told_4_74 : decode cX1_told_4 74 = .ok (.dup, 1) := dk_89 (dk_at dksX1_told_4_3 2 rfl rfl)
theorem dX1_told_4_75 : decode cX1_told_4 75 = .ok (.bipush 8, 2) := dk_16 8 (dk_at dksX1_told_4_3 3 rfl rfl)
theorem dX1_told_4_77 : decode cX1_told_4 77 = .ok (.aload_n 0, 1) := dk_42 (dk_at dksX1_told_4_3 5 rfl rfl)
theorem dX1_told_4_78 : decode cX1_told_4 78 = .ok (.getfield 327, 3) := dk_180 1 71 (dk_at dksX1_told_4_3 6 rfl rfl)
theorem dX1_told_4_81 : decode cX1_told_4 81 = .ok (.iastore, 1) := dk_79 (dk_at dksX1_told_4_3 9 rfl rfl)
theorem dX1_told_4_82 : decode cX1_told_4 82 = .ok (.astore_n 2, 1) := dk_77 (dk_at dksX1_told_4_3 10 rfl rfl)
theorem dX1_told_4_83 : decode cX1_told_4 83 = .ok (.aload_n 2, 1) := dk_44 (dk_at dksX1_told_4_3 11 rfl rfl)
theorem dX1_told_4_84 : decode cX1_told_4 84 = .ok (.iload_n 1, 1) := dk_27 (dk_at dksX1_told_4_3 12 rfl rfl)
theorem dX1_told_4_85 : decode cX1_told_4 85 = .ok (.iaload, 1) := dk_46 (dk_at dksX1_told_4_3 13 rfl rfl)
theorem dX1_told_4_86 : decode cX1_told_4 86 = .ok (.ireturn, 1) := dk_172 (dk_at dksX1_told_4_3 14 rfl rfl)
abbrev cX1_bestTargetOf : ByteArray := prog_1_method_54_code
def yX1_bestTargetOf : MethodName := ⟨RX1, "bestTargetOf", "(LSilkRow$Lot;II)I"⟩
def dkwX1_bestTargetOf_6 : List UInt8 := [21, 4, 172]
abbrev dktX1_bestTargetOf_6 : List UInt8 := dkwX1_bestTargetOf_6 ++ []
def dkwX1_bestTargetOf_5 : List UInt8 := [162, 0, 6, 167, 0, 14, 25, 8, 180, 1, 28, 54, 5, 21, 6, 54, 4, 132, 6, 1, 167, 255, 130]
abbrev dktX1_bestTargetOf_5 : List UInt8 := dkwX1_bestTargetOf_5 ++ dktX1_bestTargetOf_6
def dkwX1_bestTargetOf_4 : List UInt8 := [25, 8, 180, 1, 28, 153, 0, 36, 25, 8, 182, 1, 34, 4, 163, 0, 27, 25, 8, 180, 1, 28, 21, 5]
abbrev dktX1_bestTargetOf_4 : List UInt8 := dkwX1_bestTargetOf_4 ++ dktX1_bestTargetOf_5
def dkwX1_bestTargetOf_3 : List UInt8 := [182, 1, 103, 182, 0, 123, 87, 167, 255, 223, 43, 182, 1, 105, 25, 7, 21, 6, 29, 184, 1, 24, 58, 8]
abbrev dktX1_bestTargetOf_3 : List UInt8 := dkwX1_bestTargetOf_3 ++ dktX1_bestTargetOf_4
def dkwX1_bestTargetOf_2 : List UInt8 := [185, 0, 37, 1, 0, 153, 0, 29, 25, 8, 185, 0, 43, 1, 0, 192, 0, 47, 58, 9, 25, 7, 25, 9]
abbrev dktX1_bestTargetOf_2 : List UInt8 := dkwX1_bestTargetOf_2 ++ dktX1_bestTargetOf_3
def dkwX1_bestTargetOf_1 : List UInt8 := [58, 7, 42, 180, 0, 111, 28, 182, 0, 160, 192, 0, 74, 182, 0, 79, 58, 8, 25, 8]
abbrev dktX1_bestTargetOf_1 : List UInt8 := dkwX1_bestTargetOf_1 ++ dktX1_bestTargetOf_2
def dkwX1_bestTargetOf_0 : List UInt8 := [2, 54, 4, 3, 54, 5, 4, 54, 6, 21, 6, 16, 40, 163, 0, 125, 187, 0, 74, 89, 183, 0, 97]
abbrev dktX1_bestTargetOf_0 : List UInt8 := dkwX1_bestTargetOf_0 ++ dktX1_bestTargetOf_1
theorem dksX1_bestTargetOf_0 : cX1_bestTargetOf.data.toList.drop 0 = dktX1_bestTargetOf_0 := by decide +kernel
theorem dksX1_bestTargetOf_1 : cX1_bestTargetOf.data.toList.drop 23 = dktX1_bestTargetOf_1 := dk_seg dksX1_bestTargetOf_0 23 rfl rfl
theorem dksX1_bestTargetOf_2 : cX1_bestTargetOf.data.toList.drop 43 = dktX1_bestTargetOf_2 := dk_seg dksX1_bestTargetOf_1 20 rfl rfl
theorem dksX1_bestTargetOf_3 : cX1_bestTargetOf.data.toList.drop 67 = dktX1_bestTargetOf_3 := dk_seg dksX1_bestTargetOf_2 24 rfl rfl
theorem dksX1_bestTargetOf_4 : cX1_bestTargetOf.data.toList.drop 91 = dktX1_bestTargetOf_4 := dk_seg dksX1_bestTargetOf_3 24 rfl rfl
theorem dksX1_bestTargetOf_5 : cX1_bestTargetOf.data.toList.drop 115 = dktX1_bestTargetOf_5 := dk_seg dksX1_bestTargetOf_4 24 rfl rfl
theorem dksX1_bestTargetOf_6 : cX1_bestTargetOf.data.toList.drop 138 = dktX1_bestTargetOf_6 := dk_seg dksX1_bestTargetOf_5 23 rfl rfl
theorem dX1_bestTargetOf_0 : decode cX1_bestTargetOf 0 = .ok (.iconst (-1), 1) := dk_2 (dk_at dksX1_bestTargetOf_0 0 rfl rfl)
theorem dX1_bestTargetOf_1 : decode cX1_bestTargetOf 1 = .ok (.istore 4, 2) := dk_54 4 (dk_at dksX1_bestTargetOf_0 1 rfl rfl)
theorem dX1_bestTargetOf_3 : decode cX1_bestTargetOf 3 = .ok (.iconst 0, 1) := dk_3 (dk_at dksX1_bestTargetOf_0 3 rfl rfl)
theorem dX1_bestTargetOf_4 : decode cX1_bestTargetOf 4 = .ok (.istore 5, 2) := dk_54 5 (dk_at dksX1_bestTargetOf_0 4 rfl rfl)
theorem dX1_bestTargetOf_6 : decode cX1_bestTargetOf 6 = .ok (.iconst 1, 1) := dk_4 (dk_at dksX1_bestTargetOf_0 6 rfl rfl)
theorem dX1_bestTargetOf_7 : decode cX1_bestTargetOf 7 = .ok (.istore 6, 2) := dk_54 6 (dk_at dksX1_bestTargetOf_0 7 rfl rfl)
theorem dX1_bestTargetOf_9 : decode cX1_bestTargetOf 9 = .ok (.iload 6, 2) := dk_21 6 (dk_at dksX1_bestTargetOf_0 9 rfl rfl)
theorem dX1_bestTargetOf_11 : decode cX1_bestTargetOf 11 = .ok (.bipush 40, 2) := dk_16 40 (dk_at dksX1_bestTargetOf_0 11 rfl rfl)
theorem dX1_bestTargetOf_13 : decode cX1_bestTargetOf 13 = .ok (.if_icmp .gt 125, 3) := dk_163 0 125 (dk_at dksX1_bestTargetOf_0 13 rfl rfl)
theorem dX1_bestTargetOf_16 : decode cX1_bestTargetOf 16 = .ok (.new 74, 3) := dk_187 0 74 (dk_at dksX1_bestTargetOf_0 16 rfl rfl)
theorem dX1_bestTargetOf_19 : decode cX1_bestTargetOf 19 = .ok (.dup, 1) := dk_89 (dk_at dksX1_bestTargetOf_0 19 rfl rfl)
theorem dX1_bestTargetOf_20 : decode cX1_bestTargetOf 20 = .ok (.invokespecial 97, 3) := dk_183 0 97 (dk_at dksX1_bestTargetOf_0 20 rfl rfl)
theorem dX1_bestTargetOf_23 : decode cX1_bestTargetOf 23 = .ok (.astore 7, 2) := dk_58 7 (dk_at dksX1_bestTargetOf_1 0 rfl rfl)
theorem dX1_bestTargetOf_25 : decode cX1_bestTargetOf 25 = .ok (.aload_n 0, 1) := dk_42 (dk_at dksX1_bestTargetOf_1 2 rfl rfl)
theorem dX1_bestTargetOf_26 : decode cX1_bestTargetOf 26 = .ok (.getfield 111, 3) := dk_180 0 111 (dk_at dksX1_bestTargetOf_1 3 rfl rfl)
theorem dX1_bestTargetOf_29 : decode cX1_bestTargetOf 29 = .ok (.iload_n 2, 1) := dk_28 (dk_at dksX1_bestTargetOf_1 6 rfl rfl)
theorem dX1_bestTargetOf_30 : decode cX1_bestTargetOf 30 = .ok (.invokevirtual 160, 3) := dk_182 0 160 (dk_at dksX1_bestTargetOf_1 7 rfl rfl)
theorem dX1_bestTargetOf_33 : decode cX1_bestTargetOf 33 = .ok (.checkcast 74, 3) := dk_192 0 74 (dk_at dksX1_bestTargetOf_1 10 rfl rfl)
theorem dX1_bestTargetOf_36 : decode cX1_bestTargetOf 36 = .ok (.invokevirtual 79, 3) := dk_182 0 79 (dk_at dksX1_bestTargetOf_1 13 rfl rfl)
theorem dX1_bestTargetOf_39 : decode cX1_bestTargetOf 39 = .ok (.astore 8, 2) := dk_58 8 (dk_at dksX1_bestTargetOf_1 16 rfl rfl)
theorem dX1_bestTargetOf_41 : decode cX1_bestTargetOf 41 = .ok (.aload 8, 2) := dk_25 8 (dk_at dksX1_bestTargetOf_1 18 rfl rfl)
theorem dX1_bestTargetOf_43 : decode cX1_bestTargetOf 43 = .ok (.invokeinterface 37 1, 5) := by decide +kernel
theorem dX1_bestTargetOf_48 : decode cX1_bestTargetOf 48 = .ok (.ifCond .eq 29, 3) := dk_153 0 29 (dk_at dksX1_bestTargetOf_2 5 rfl rfl)
theorem dX1_bestTargetOf_51 : decode cX1_bestTargetOf 51 = .ok (.aload 8, 2) := dk_25 8 (dk_at dksX1_bestTargetOf_2 8 rfl rfl)
theorem dX1_bestTargetOf_53 : decode cX1_bestTargetOf 53 = .ok (.invokeinterface 43 1, 5) := by decide +kernel
theorem dX1_bestTargetOf_58 : decode cX1_bestTargetOf 58 = .ok (.checkcast 47, 3) := dk_192 0 47 (dk_at dksX1_bestTargetOf_2 15 rfl rfl)
theorem dX1_bestTargetOf_61 : decode cX1_bestTargetOf 61 = .ok (.astore 9, 2) := dk_58 9 (dk_at dksX1_bestTargetOf_2 18 rfl rfl)
theorem dX1_bestTargetOf_63 : decode cX1_bestTargetOf 63 = .ok (.aload 7, 2) := dk_25 7 (dk_at dksX1_bestTargetOf_2 20 rfl rfl)
theorem dX1_bestTargetOf_65 : decode cX1_bestTargetOf 65 = .ok (.aload 9, 2) := dk_25 9 (dk_at dksX1_bestTargetOf_2 22 rfl rfl)
theorem dX1_bestTargetOf_67 : decode cX1_bestTargetOf 67 = .ok (.invokevirtual 359, 3) := dk_182 1 103 (dk_at dksX1_bestTargetOf_3 0 rfl rfl)
theorem dX1_bestTargetOf_70 : decode cX1_bestTargetOf 70 = .ok (.invokevirtual 123, 3) := dk_182 0 123 (dk_at dksX1_bestTargetOf_3 3 rfl rfl)
theorem dX1_bestTargetOf_73 : decode cX1_bestTargetOf 73 = .ok (.pop, 1) := dk_87 (dk_at dksX1_bestTargetOf_3 6 rfl rfl)
theorem dX1_bestTargetOf_74 : decode cX1_bestTargetOf 74 = .ok (.goto (-33), 3) := dk_167 255 223 (dk_at dksX1_bestTargetOf_3 7 rfl rfl)
theorem dX1_bestTargetOf_77 : decode cX1_bestTargetOf 77 = .ok (.aload_n 1, 1) := dk_43 (dk_at dksX1_bestTargetOf_3 10 rfl rfl)
theorem dX1_bestTargetOf_78 : decode cX1_bestTargetOf 78 = .ok (.invokevirtual 361, 3) := dk_182 1 105 (dk_at dksX1_bestTargetOf_3 11 rfl rfl)
theorem dX1_bestTargetOf_81 : decode cX1_bestTargetOf 81 = .ok (.aload 7, 2) := dk_25 7 (dk_at dksX1_bestTargetOf_3 14 rfl rfl)
theorem dX1_bestTargetOf_83 : decode cX1_bestTargetOf 83 = .ok (.iload 6, 2) := dk_21 6 (dk_at dksX1_bestTargetOf_3 16 rfl rfl)
theorem dX1_bestTargetOf_85 : decode cX1_bestTargetOf 85 = .ok (.iload_n 3, 1) := dk_29 (dk_at dksX1_bestTargetOf_3 18 rfl rfl)
theorem dX1_bestTargetOf_86 : decode cX1_bestTargetOf 86 = .ok (.invokestatic 280, 3) := dk_184 1 24 (dk_at dksX1_bestTargetOf_3 19 rfl rfl)
theorem dX1_bestTargetOf_89 : decode cX1_bestTargetOf 89 = .ok (.astore 8, 2) := dk_58 8 (dk_at dksX1_bestTargetOf_3 22 rfl rfl)
theorem dX1_bestTargetOf_91 : decode cX1_bestTargetOf 91 = .ok (.aload 8, 2) := dk_25 8 (dk_at dksX1_bestTargetOf_4 0 rfl rfl)
theorem dX1_bestTargetOf_93 : decode cX1_bestTargetOf 93 = .ok (.getfield 284, 3) := dk_180 1 28 (dk_at dksX1_bestTargetOf_4 2 rfl rfl)
theorem dX1_bestTargetOf_96 : decode cX1_bestTargetOf 96 = .ok (.ifCond .eq 36, 3) := dk_153 0 36 (dk_at dksX1_bestTargetOf_4 5 rfl rfl)
theorem dX1_bestTargetOf_99 : decode cX1_bestTargetOf 99 = .ok (.aload 8, 2) := dk_25 8 (dk_at dksX1_bestTargetOf_4 8 rfl rfl)
theorem dX1_bestTargetOf_101 : decode cX1_bestTargetOf 101 = .ok (.invokevirtual 290, 3) := dk_182 1 34 (dk_at dksX1_bestTargetOf_4 10 rfl rfl)
theorem dX1_bestTargetOf_104 : decode cX1_bestTargetOf 104 = .ok (.iconst 1, 1) := dk_4 (dk_at dksX1_bestTargetOf_4 13 rfl rfl)
theorem dX1_bestTargetOf_105 : decode cX1_bestTargetOf 105 = .ok (.if_icmp .gt 27, 3) := dk_163 0 27 (dk_at dksX1_bestTargetOf_4 14 rfl rfl)
theorem dX1_bestTargetOf_108 : decode cX1_bestTargetOf 108 = .ok (.aload 8, 2) := dk_25 8 (dk_at dksX1_bestTargetOf_4 17 rfl rfl)
theorem dX1_bestTargetOf_110 : decode cX1_bestTargetOf 110 = .ok (.getfield 284, 3) := dk_180 1 28 (dk_at dksX1_bestTargetOf_4 19 rfl rfl)
theorem dX1_bestTargetOf_113 : decode cX1_bestTargetOf 113 = .ok (.iload 5, 2) := dk_21 5 (dk_at dksX1_bestTargetOf_4 22 rfl rfl)
theorem dX1_bestTargetOf_115 : decode cX1_bestTargetOf 115 = .ok (.if_icmp .ge 6, 3) := dk_162 0 6 (dk_at dksX1_bestTargetOf_5 0 rfl rfl)
theorem dX1_bestTargetOf_118 : decode cX1_bestTargetOf 118 = .ok (.goto 14, 3) := dk_167 0 14 (dk_at dksX1_bestTargetOf_5 3 rfl rfl)
theorem dX1_bestTargetOf_121 : decode cX1_bestTargetOf 121 = .ok (.aload 8, 2) := dk_25 8 (dk_at dksX1_bestTargetOf_5 6 rfl rfl)
theorem dX1_bestTargetOf_123 : decode cX1_bestTargetOf 123 = .ok (.getfield 284, 3) := dk_180 1 28 (dk_at dksX1_bestTargetOf_5 8 rfl rfl)
theorem dX1_bestTargetOf_126 : decode cX1_bestTargetOf 126 = .ok (.istore 5, 2) := dk_54 5 (dk_at dksX1_bestTargetOf_5 11 rfl rfl)
theorem dX1_bestTargetOf_128 : decode cX1_bestTargetOf 128 = .ok (.iload 6, 2) := dk_21 6 (dk_at dksX1_bestTargetOf_5 13 rfl rfl)
theorem dX1_bestTargetOf_130 : decode cX1_bestTargetOf 130 = .ok (.istore 4, 2) := dk_54 4 (dk_at dksX1_bestTargetOf_5 15 rfl rfl)
theorem dX1_bestTargetOf_132 : decode cX1_bestTargetOf 132 = .ok (.iinc 6 1, 3) := dk_132 6 1 (dk_at dksX1_bestTargetOf_5 17 rfl rfl)
theorem dX1_bestTargetOf_135 : decode cX1_bestTargetOf 135 = .ok (.goto (-126), 3) := dk_167 255 130 (dk_at dksX1_bestTargetOf_5 20 rfl rfl)
theorem dX1_bestTargetOf_138 : decode cX1_bestTargetOf 138 = .ok (.iload 4, 2) := dk_21 4 (dk_at dksX1_bestTargetOf_6 0 rfl rfl)
theorem dX1_bestTargetOf_140 : decode cX1_bestTargetOf 140 = .ok (.ireturn, 1) := dk_172 (dk_at dksX1_bestTargetOf_6 2 rfl rfl)
abbrev cX1_reeled : ByteArray := prog_1_method_9_code
def yX1_reeled : MethodName := ⟨RX1, "reeled", "(LSilkRow$Lot;Ljava/util/List;II)LSilkRow$Skein;"⟩
def dkwX1_reeled_7 : List UInt8 := [167, 255, 185, 132, 5, 1, 167, 255, 105, 25, 4, 176]
abbrev dktX1_reeled_7 : List UInt8 := dkwX1_reeled_7 ++ []
def dkwX1_reeled_6 : List UInt8 := [25, 7, 180, 0, 88, 25, 7, 180, 0, 90, 190, 160, 0, 12, 43, 25, 7, 185, 0, 91, 2, 0, 87]
abbrev dktX1_reeled_6 : List UInt8 := dkwX1_reeled_6 ++ dktX1_reeled_7
def dkwX1_reeled_5 : List UInt8 := [180, 0, 80, 25, 7, 180, 0, 84, 92, 46, 4, 96, 79, 25, 7, 89, 180, 0, 88, 4, 96, 181, 0, 88]
abbrev dktX1_reeled_5 : List UInt8 := dkwX1_reeled_5 ++ dktX1_reeled_6
def dkwX1_reeled_4 : List UInt8 := [185, 0, 37, 1, 0, 153, 0, 67, 25, 6, 185, 0, 43, 1, 0, 192, 0, 47, 58, 7, 25, 4]
abbrev dktX1_reeled_4 : List UInt8 := dkwX1_reeled_4 ++ dktX1_reeled_5
def dkwX1_reeled_3 : List UInt8 := [184, 0, 55, 182, 0, 71, 187, 0, 74, 89, 43, 183, 0, 76, 182, 0, 79, 58, 6, 25, 6]
abbrev dktX1_reeled_3 : List UInt8 := dkwX1_reeled_3 ++ dktX1_reeled_4
def dkwX1_reeled_2 : List UInt8 := [185, 0, 64, 2, 0, 87, 167, 255, 225, 43, 185, 0, 68, 1, 0, 153, 0, 6, 167, 0, 105, 25, 4, 43]
abbrev dktX1_reeled_2 : List UInt8 := dkwX1_reeled_2 ++ dktX1_reeled_3
def dkwX1_reeled_1 : List UInt8 := [162, 0, 29, 42, 182, 0, 58, 58, 6, 25, 6, 199, 0, 6, 167, 0, 15, 43, 25, 6]
abbrev dktX1_reeled_1 : List UInt8 := dkwX1_reeled_1 ++ dktX1_reeled_2
def dkwX1_reeled_0 : List UInt8 := [187, 0, 52, 89, 183, 0, 54, 58, 4, 3, 54, 5, 21, 5, 29, 162, 0, 151, 43, 184, 0, 55, 28]
abbrev dktX1_reeled_0 : List UInt8 := dkwX1_reeled_0 ++ dktX1_reeled_1
theorem dksX1_reeled_0 : cX1_reeled.data.toList.drop 0 = dktX1_reeled_0 := by decide +kernel
theorem dksX1_reeled_1 : cX1_reeled.data.toList.drop 23 = dktX1_reeled_1 := dk_seg dksX1_reeled_0 23 rfl rfl
theorem dksX1_reeled_2 : cX1_reeled.data.toList.drop 43 = dktX1_reeled_2 := dk_seg dksX1_reeled_1 20 rfl rfl
theorem dksX1_reeled_3 : cX1_reeled.data.toList.drop 67 = dktX1_reeled_3 := dk_seg dksX1_reeled_2 24 rfl rfl
theorem dksX1_reeled_4 : cX1_reeled.data.toList.drop 88 = dktX1_reeled_4 := dk_seg dksX1_reeled_3 21 rfl rfl
theorem dksX1_reeled_5 : cX1_reeled.data.toList.drop 110 = dktX1_reeled_5 := dk_seg dksX1_reeled_4 22 rfl rfl
theorem dksX1_reeled_6 : cX1_reeled.data.toList.drop 134 = dktX1_reeled_6 := dk_seg dksX1_reeled_5 24 rfl rfl
theorem dksX1_reeled_7 : cX1_reeled.data.toList.drop 157 = dktX1_reeled_7 := dk_seg dksX1_reeled_6 23 rfl rfl
theorem dX1_reeled_0 : decode cX1_reeled 0 = .ok (.new 52, 3) := dk_187 0 52 (dk_at dksX1_reeled_0 0 rfl rfl)
theorem dX1_reeled_3 : decode cX1_reeled 3 = .ok (.dup, 1) := dk_89 (dk_at dksX1_reeled_0 3 rfl rfl)
theorem dX1_reeled_4 : decode cX1_reeled 4 = .ok (.invokespecial 54, 3) := dk_183 0 54 (dk_at dksX1_reeled_0 4 rfl rfl)
theorem dX1_reeled_7 : decode cX1_reeled 7 = .ok (.astore 4, 2) := dk_58 4 (dk_at dksX1_reeled_0 7 rfl rfl)
theorem dX1_reeled_9 : decode cX1_reeled 9 = .ok (.iconst 0, 1) := dk_3 (dk_at dksX1_reeled_0 9 rfl rfl)
theorem dX1_reeled_10 : decode cX1_reeled 10 = .ok (.istore 5, 2) := dk_54 5 (dk_at dksX1_reeled_0 10 rfl rfl)
theorem dX1_reeled_12 : decode cX1_reeled 12 = .ok (.iload 5, 2) := dk_21 5 (dk_at dksX1_reeled_0 12 rfl rfl)
theorem dX1_reeled_14 : decode cX1_reeled 14 = .ok (.iload_n 3, 1) := dk_29 (dk_at dksX1_reeled_0 14 rfl rfl)
theorem dX1_reeled_15 : decode cX1_reeled 15 = .ok (.if_icmp .ge 151, 3) := dk_162 0 151 (dk_at dksX1_reeled_0 15 rfl rfl)
theorem dX1_reeled_18 : decode cX1_reeled 18 = .ok (.aload_n 1, 1) := dk_43 (dk_at dksX1_reeled_0 18 rfl rfl)
theorem dX1_reeled_19 : decode cX1_reeled 19 = .ok (.invokestatic 55, 3) := dk_184 0 55 (dk_at dksX1_reeled_0 19 rfl rfl)
theorem dX1_reeled_22 : decode cX1_reeled 22 = .ok (.iload_n 2, 1) := dk_28 (dk_at dksX1_reeled_0 22 rfl rfl)
theorem dX1_reeled_23 : decode cX1_reeled 23 = .ok (.if_icmp .ge 29, 3) := dk_162 0 29 (dk_at dksX1_reeled_1 0 rfl rfl)
theorem dX1_reeled_26 : decode cX1_reeled 26 = .ok (.aload_n 0, 1) := dk_42 (dk_at dksX1_reeled_1 3 rfl rfl)
theorem dX1_reeled_27 : decode cX1_reeled 27 = .ok (.invokevirtual 58, 3) := dk_182 0 58 (dk_at dksX1_reeled_1 4 rfl rfl)
theorem dX1_reeled_30 : decode cX1_reeled 30 = .ok (.astore 6, 2) := dk_58 6 (dk_at dksX1_reeled_1 7 rfl rfl)
theorem dX1_reeled_32 : decode cX1_reeled 32 = .ok (.aload 6, 2) := dk_25 6 (dk_at dksX1_reeled_1 9 rfl rfl)
theorem dX1_reeled_34 : decode cX1_reeled 34 = .ok (.ifnonnull 6, 3) := dk_199 0 6 (dk_at dksX1_reeled_1 11 rfl rfl)
theorem dX1_reeled_37 : decode cX1_reeled 37 = .ok (.goto 15, 3) := dk_167 0 15 (dk_at dksX1_reeled_1 14 rfl rfl)
theorem dX1_reeled_40 : decode cX1_reeled 40 = .ok (.aload_n 1, 1) := dk_43 (dk_at dksX1_reeled_1 17 rfl rfl)
theorem dX1_reeled_41 : decode cX1_reeled 41 = .ok (.aload 6, 2) := dk_25 6 (dk_at dksX1_reeled_1 18 rfl rfl)
theorem dX1_reeled_43 : decode cX1_reeled 43 = .ok (.invokeinterface 64 2, 5) := by decide +kernel
theorem dX1_reeled_48 : decode cX1_reeled 48 = .ok (.pop, 1) := dk_87 (dk_at dksX1_reeled_2 5 rfl rfl)
theorem dX1_reeled_49 : decode cX1_reeled 49 = .ok (.goto (-31), 3) := dk_167 255 225 (dk_at dksX1_reeled_2 6 rfl rfl)
theorem dX1_reeled_52 : decode cX1_reeled 52 = .ok (.aload_n 1, 1) := dk_43 (dk_at dksX1_reeled_2 9 rfl rfl)
theorem dX1_reeled_53 : decode cX1_reeled 53 = .ok (.invokeinterface 68 1, 5) := by decide +kernel
theorem dX1_reeled_58 : decode cX1_reeled 58 = .ok (.ifCond .eq 6, 3) := dk_153 0 6 (dk_at dksX1_reeled_2 15 rfl rfl)
theorem dX1_reeled_61 : decode cX1_reeled 61 = .ok (.goto 105, 3) := dk_167 0 105 (dk_at dksX1_reeled_2 18 rfl rfl)
theorem dX1_reeled_64 : decode cX1_reeled 64 = .ok (.aload 4, 2) := dk_25 4 (dk_at dksX1_reeled_2 21 rfl rfl)
theorem dX1_reeled_66 : decode cX1_reeled 66 = .ok (.aload_n 1, 1) := dk_43 (dk_at dksX1_reeled_2 23 rfl rfl)
theorem dX1_reeled_67 : decode cX1_reeled 67 = .ok (.invokestatic 55, 3) := dk_184 0 55 (dk_at dksX1_reeled_3 0 rfl rfl)
theorem dX1_reeled_70 : decode cX1_reeled 70 = .ok (.invokevirtual 71, 3) := dk_182 0 71 (dk_at dksX1_reeled_3 3 rfl rfl)
theorem dX1_reeled_73 : decode cX1_reeled 73 = .ok (.new 74, 3) := dk_187 0 74 (dk_at dksX1_reeled_3 6 rfl rfl)
theorem dX1_reeled_76 : decode cX1_reeled 76 = .ok (.dup, 1) := dk_89 (dk_at dksX1_reeled_3 9 rfl rfl)
theorem dX1_reeled_77 : decode cX1_reeled 77 = .ok (.aload_n 1, 1) := dk_43 (dk_at dksX1_reeled_3 10 rfl rfl)
theorem dX1_reeled_78 : decode cX1_reeled 78 = .ok (.invokespecial 76, 3) := dk_183 0 76 (dk_at dksX1_reeled_3 11 rfl rfl)
theorem dX1_reeled_81 : decode cX1_reeled 81 = .ok (.invokevirtual 79, 3) := dk_182 0 79 (dk_at dksX1_reeled_3 14 rfl rfl)
theorem dX1_reeled_84 : decode cX1_reeled 84 = .ok (.astore 6, 2) := dk_58 6 (dk_at dksX1_reeled_3 17 rfl rfl)
theorem dX1_reeled_86 : decode cX1_reeled 86 = .ok (.aload 6, 2) := dk_25 6 (dk_at dksX1_reeled_3 19 rfl rfl)
theorem dX1_reeled_88 : decode cX1_reeled 88 = .ok (.invokeinterface 37 1, 5) := by decide +kernel
theorem dX1_reeled_93 : decode cX1_reeled 93 = .ok (.ifCond .eq 67, 3) := dk_153 0 67 (dk_at dksX1_reeled_4 5 rfl rfl)
theorem dX1_reeled_96 : decode cX1_reeled 96 = .ok (.aload 6, 2) := dk_25 6 (dk_at dksX1_reeled_4 8 rfl rfl)
theorem dX1_reeled_98 : decode cX1_reeled 98 = .ok (.invokeinterface 43 1, 5) := by decide +kernel
theorem dX1_reeled_103 : decode cX1_reeled 103 = .ok (.checkcast 47, 3) := dk_192 0 47 (dk_at dksX1_reeled_4 15 rfl rfl)
theorem dX1_reeled_106 : decode cX1_reeled 106 = .ok (.astore 7, 2) := dk_58 7 (dk_at dksX1_reeled_4 18 rfl rfl)
theorem dX1_reeled_108 : decode cX1_reeled 108 = .ok (.aload 4, 2) := dk_25 4 (dk_at dksX1_reeled_4 20 rfl rfl)
theorem dX1_reeled_110 : decode cX1_reeled 110 = .ok (.getfield 80, 3) := dk_180 0 80 (dk_at dksX1_reeled_5 0 rfl rfl)
theorem dX1_reeled_113 : decode cX1_reeled 113 = .ok (.aload 7, 2) := dk_25 7 (dk_at dksX1_reeled_5 3 rfl rfl)
theorem dX1_reeled_115 : decode cX1_reeled 115 = .ok (.getfield 84, 3) := dk_180 0 84 (dk_at dksX1_reeled_5 5 rfl rfl)
theorem dX1_reeled_118 : decode cX1_reeled 118 = .ok (.dup2, 1) := dk_92 (dk_at dksX1_reeled_5 8 rfl rfl)
theorem dX1_reeled_119 : decode cX1_reeled 119 = .ok (.iaload, 1) := dk_46 (dk_at dksX1_reeled_5 9 rfl rfl)
theorem dX1_reeled_120 : decode cX1_reeled 120 = .ok (.iconst 1, 1) := dk_4 (dk_at dksX1_reeled_5 10 rfl rfl)
theorem dX1_reeled_121 : decode cX1_reeled 121 = .ok (.iadd, 1) := dk_96 (dk_at dksX1_reeled_5 11 rfl rfl)
theorem dX1_reeled_122 : decode cX1_reeled 122 = .ok (.iastore, 1) := dk_79 (dk_at dksX1_reeled_5 12 rfl rfl)
theorem dX1_reeled_123 : decode cX1_reeled 123 = .ok (.aload 7, 2) := dk_25 7 (dk_at dksX1_reeled_5 13 rfl rfl)
theorem dX1_reeled_125 : decode cX1_reeled 125 = .ok (.dup, 1) := dk_89 (dk_at dksX1_reeled_5 15 rfl rfl)
theorem dX1_reeled_126 : decode cX1_reeled 126 = .ok (.getfield 88, 3) := dk_180 0 88 (dk_at dksX1_reeled_5 16 rfl rfl)
theorem dX1_reeled_129 : decode cX1_reeled 129 = .ok (.iconst 1, 1) := dk_4 (dk_at dksX1_reeled_5 19 rfl rfl)
theorem dX1_reeled_130 : decode cX1_reeled 130 = .ok (.iadd, 1) := dk_96 (dk_at dksX1_reeled_5 20 rfl rfl)
theorem dX1_reeled_131 : decode cX1_reeled 131 = .ok (.putfield 88, 3) := dk_181 0 88 (dk_at dksX1_reeled_5 21 rfl rfl)
theorem dX1_reeled_134 : decode cX1_reeled 134 = .ok (.aload 7, 2) := dk_25 7 (dk_at dksX1_reeled_6 0 rfl rfl)
theorem dX1_reeled_136 : decode cX1_reeled 136 = .ok (.getfield 88, 3) := dk_180 0 88 (dk_at dksX1_reeled_6 2 rfl rfl)
theorem dX1_reeled_139 : decode cX1_reeled 139 = .ok (.aload 7, 2) := dk_25 7 (dk_at dksX1_reeled_6 5 rfl rfl)
theorem dX1_reeled_141 : decode cX1_reeled 141 = .ok (.getfield 90, 3) := dk_180 0 90 (dk_at dksX1_reeled_6 7 rfl rfl)
theorem dX1_reeled_144 : decode cX1_reeled 144 = .ok (.arraylength, 1) := dk_190 (dk_at dksX1_reeled_6 10 rfl rfl)
theorem dX1_reeled_145 : decode cX1_reeled 145 = .ok (.if_icmp .ne 12, 3) := dk_160 0 12 (dk_at dksX1_reeled_6 11 rfl rfl)
theorem dX1_reeled_148 : decode cX1_reeled 148 = .ok (.aload_n 1, 1) := dk_43 (dk_at dksX1_reeled_6 14 rfl rfl)
theorem dX1_reeled_149 : decode cX1_reeled 149 = .ok (.aload 7, 2) := dk_25 7 (dk_at dksX1_reeled_6 15 rfl rfl)
theorem dX1_reeled_151 : decode cX1_reeled 151 = .ok (.invokeinterface 91 2, 5) := by decide +kernel
theorem dX1_reeled_156 : decode cX1_reeled 156 = .ok (.pop, 1) := dk_87 (dk_at dksX1_reeled_6 22 rfl rfl)
theorem dX1_reeled_157 : decode cX1_reeled 157 = .ok (.goto (-71), 3) := dk_167 255 185 (dk_at dksX1_reeled_7 0 rfl rfl)
theorem dX1_reeled_160 : decode cX1_reeled 160 = .ok (.iinc 5 1, 3) := dk_132 5 1 (dk_at dksX1_reeled_7 3 rfl rfl)
theorem dX1_reeled_163 : decode cX1_reeled 163 = .ok (.goto (-151), 3) := dk_167 255 105 (dk_at dksX1_reeled_7 6 rfl rfl)
theorem dX1_reeled_166 : decode cX1_reeled 166 = .ok (.aload 4, 2) := dk_25 4 (dk_at dksX1_reeled_7 9 rfl rfl)
theorem dX1_reeled_168 : decode cX1_reeled 168 = .ok (.areturn, 1) := dk_176 (dk_at dksX1_reeled_7 11 rfl rfl)
abbrev cX1_next : ByteArray := prog_1_method_8_code
def yX1_next : MethodName := ⟨RX1, "next", "(Ljava/util/List;)I"⟩
def dkwX1_next_1 : List UInt8 := [192, 0, 47, 78, 27, 45, 182, 0, 49, 96, 60, 167, 255, 230, 27, 172]
abbrev dktX1_next_1 : List UInt8 := dkwX1_next_1 ++ []
def dkwX1_next_0 : List UInt8 := [3, 60, 42, 185, 0, 33, 1, 0, 77, 44, 185, 0, 37, 1, 0, 153, 0, 23, 44, 185, 0, 43, 1, 0]
abbrev dktX1_next_0 : List UInt8 := dkwX1_next_0 ++ dktX1_next_1
theorem dksX1_next_0 : cX1_next.data.toList.drop 0 = dktX1_next_0 := by decide +kernel
theorem dksX1_next_1 : cX1_next.data.toList.drop 24 = dktX1_next_1 := dk_seg dksX1_next_0 24 rfl rfl
theorem dX1_next_0 : decode cX1_next 0 = .ok (.iconst 0, 1) := dk_3 (dk_at dksX1_next_0 0 rfl rfl)
theorem dX1_next_1 : decode cX1_next 1 = .ok (.istore_n 1, 1) := dk_60 (dk_at dksX1_next_0 1 rfl rfl)
theorem dX1_next_2 : decode cX1_next 2 = .ok (.aload_n 0, 1) := dk_42 (dk_at dksX1_next_0 2 rfl rfl)
theorem dX1_next_3 : decode cX1_next 3 = .ok (.invokeinterface 33 1, 5) := by decide +kernel
theorem dX1_next_8 : decode cX1_next 8 = .ok (.astore_n 2, 1) := dk_77 (dk_at dksX1_next_0 8 rfl rfl)
theorem dX1_next_9 : decode cX1_next 9 = .ok (.aload_n 2, 1) := dk_44 (dk_at dksX1_next_0 9 rfl rfl)
theorem dX1_next_10 : decode cX1_next 10 = .ok (.invokeinterface 37 1, 5) := by decide +kernel
theorem dX1_next_15 : decode cX1_next 15 = .ok (.ifCond .eq 23, 3) := dk_153 0 23 (dk_at dksX1_next_0 15 rfl rfl)
theorem dX1_next_18 : decode cX1_next 18 = .ok (.aload_n 2, 1) := dk_44 (dk_at dksX1_next_0 18 rfl rfl)
theorem dX1_next_19 : decode cX1_next 19 = .ok (.invokeinterface 43 1, 5) := by decide +kernel
theorem dX1_next_24 : decode cX1_next 24 = .ok (.checkcast 47, 3) := dk_192 0 47 (dk_at dksX1_next_1 0 rfl rfl)
theorem dX1_next_27 : decode cX1_next 27 = .ok (.astore_n 3, 1) := dk_78 (dk_at dksX1_next_1 3 rfl rfl)
theorem dX1_next_28 : decode cX1_next 28 = .ok (.iload_n 1, 1) := dk_27 (dk_at dksX1_next_1 4 rfl rfl)
theorem dX1_next_29 : decode cX1_next 29 = .ok (.aload_n 3, 1) := dk_45 (dk_at dksX1_next_1 5 rfl rfl)
theorem dX1_next_30 : decode cX1_next 30 = .ok (.invokevirtual 49, 3) := dk_182 0 49 (dk_at dksX1_next_1 6 rfl rfl)
theorem dX1_next_33 : decode cX1_next 33 = .ok (.iadd, 1) := dk_96 (dk_at dksX1_next_1 9 rfl rfl)
theorem dX1_next_34 : decode cX1_next 34 = .ok (.istore_n 1, 1) := dk_60 (dk_at dksX1_next_1 10 rfl rfl)
theorem dX1_next_35 : decode cX1_next 35 = .ok (.goto (-26), 3) := dk_167 255 230 (dk_at dksX1_next_1 11 rfl rfl)
theorem dX1_next_38 : decode cX1_next 38 = .ok (.iload_n 1, 1) := dk_27 (dk_at dksX1_next_1 14 rfl rfl)
theorem dX1_next_39 : decode cX1_next 39 = .ok (.ireturn, 1) := dk_172 (dk_at dksX1_next_1 15 rfl rfl)
abbrev cX1_pieceIn : ByteArray := prog_1_method_45_code
def yX1_pieceIn : MethodName := ⟨RX1, "pieceIn", "(II)I"⟩
def dkwX1_pieceIn_1 : List UInt8 := [182, 0, 160, 192, 0, 74, 28, 182, 0, 160, 192, 0, 47, 182, 0, 49, 167, 0, 4, 2, 172]
abbrev dktX1_pieceIn_1 : List UInt8 := dkwX1_pieceIn_1 ++ []
def dkwX1_pieceIn_0 : List UInt8 := [28, 42, 180, 0, 111, 27, 182, 0, 160, 192, 0, 74, 182, 0, 137, 162, 0, 27, 42, 180, 0, 111, 27]
abbrev dktX1_pieceIn_0 : List UInt8 := dkwX1_pieceIn_0 ++ dktX1_pieceIn_1
theorem dksX1_pieceIn_0 : cX1_pieceIn.data.toList.drop 0 = dktX1_pieceIn_0 := by decide +kernel
theorem dksX1_pieceIn_1 : cX1_pieceIn.data.toList.drop 23 = dktX1_pieceIn_1 := dk_seg dksX1_pieceIn_0 23 rfl rfl
theorem dX1_pieceIn_0 : decode cX1_pieceIn 0 = .ok (.iload_n 2, 1) := dk_28 (dk_at dksX1_pieceIn_0 0 rfl rfl)
theorem dX1_pieceIn_1 : decode cX1_pieceIn 1 = .ok (.aload_n 0, 1) := dk_42 (dk_at dksX1_pieceIn_0 1 rfl rfl)
theorem dX1_pieceIn_2 : decode cX1_pieceIn 2 = .ok (.getfield 111, 3) := dk_180 0 111 (dk_at dksX1_pieceIn_0 2 rfl rfl)
theorem dX1_pieceIn_5 : decode cX1_pieceIn 5 = .ok (.iload_n 1, 1) := dk_27 (dk_at dksX1_pieceIn_0 5 rfl rfl)
theorem dX1_pieceIn_6 : decode cX1_pieceIn 6 = .ok (.invokevirtual 160, 3) := dk_182 0 160 (dk_at dksX1_pieceIn_0 6 rfl rfl)
theorem dX1_pieceIn_9 : decode cX1_pieceIn 9 = .ok (.checkcast 74, 3) := dk_192 0 74 (dk_at dksX1_pieceIn_0 9 rfl rfl)
theorem dX1_pieceIn_12 : decode cX1_pieceIn 12 = .ok (.invokevirtual 137, 3) := dk_182 0 137 (dk_at dksX1_pieceIn_0 12 rfl rfl)
theorem dX1_pieceIn_15 : decode cX1_pieceIn 15 = .ok (.if_icmp .ge 27, 3) := dk_162 0 27 (dk_at dksX1_pieceIn_0 15 rfl rfl)
theorem dX1_pieceIn_18 : decode cX1_pieceIn 18 = .ok (.aload_n 0, 1) := dk_42 (dk_at dksX1_pieceIn_0 18 rfl rfl)
theorem dX1_pieceIn_19 : decode cX1_pieceIn 19 = .ok (.getfield 111, 3) := dk_180 0 111 (dk_at dksX1_pieceIn_0 19 rfl rfl)
theorem dX1_pieceIn_22 : decode cX1_pieceIn 22 = .ok (.iload_n 1, 1) := dk_27 (dk_at dksX1_pieceIn_0 22 rfl rfl)
theorem dX1_pieceIn_23 : decode cX1_pieceIn 23 = .ok (.invokevirtual 160, 3) := dk_182 0 160 (dk_at dksX1_pieceIn_1 0 rfl rfl)
theorem dX1_pieceIn_26 : decode cX1_pieceIn 26 = .ok (.checkcast 74, 3) := dk_192 0 74 (dk_at dksX1_pieceIn_1 3 rfl rfl)
theorem dX1_pieceIn_29 : decode cX1_pieceIn 29 = .ok (.iload_n 2, 1) := dk_28 (dk_at dksX1_pieceIn_1 6 rfl rfl)
theorem dX1_pieceIn_30 : decode cX1_pieceIn 30 = .ok (.invokevirtual 160, 3) := dk_182 0 160 (dk_at dksX1_pieceIn_1 7 rfl rfl)
theorem dX1_pieceIn_33 : decode cX1_pieceIn 33 = .ok (.checkcast 47, 3) := dk_192 0 47 (dk_at dksX1_pieceIn_1 10 rfl rfl)
theorem dX1_pieceIn_36 : decode cX1_pieceIn 36 = .ok (.invokevirtual 49, 3) := dk_182 0 49 (dk_at dksX1_pieceIn_1 13 rfl rfl)
theorem dX1_pieceIn_39 : decode cX1_pieceIn 39 = .ok (.goto 4, 3) := dk_167 0 4 (dk_at dksX1_pieceIn_1 16 rfl rfl)
theorem dX1_pieceIn_42 : decode cX1_pieceIn 42 = .ok (.iconst (-1), 1) := dk_2 (dk_at dksX1_pieceIn_1 19 rfl rfl)
theorem dX1_pieceIn_43 : decode cX1_pieceIn 43 = .ok (.ireturn, 1) := dk_172 (dk_at dksX1_pieceIn_1 20 rfl rfl)
abbrev cX1_told_5 : ByteArray := prog_1_method_47_code
def yX1_told_5 : MethodName := ⟨RX1, "told", "(LSilkRow$Skein;I)I"⟩
def dkwX1_told_5_2 : List UInt8 := [79, 77, 27, 16, 6, 162, 0, 9, 44, 27, 46, 167, 0, 12, 42, 180, 0, 80, 27, 16, 6, 100, 46, 172]
abbrev dktX1_told_5_2 : List UInt8 := dkwX1_told_5_2 ++ []
def dkwX1_told_5_1 : List UInt8 := [79, 89, 6, 42, 180, 1, 86, 79, 89, 7, 42, 182, 1, 34, 79, 89, 8, 42, 180, 1, 31, 184, 1, 14]
abbrev dktX1_told_5_1 : List UInt8 := dkwX1_told_5_1 ++ dktX1_told_5_2
def dkwX1_told_5_0 : List UInt8 := [16, 6, 188, 10, 89, 3, 42, 180, 1, 28, 79, 89, 4, 42, 180, 1, 80, 79, 89, 5, 42, 180, 1, 83]
abbrev dktX1_told_5_0 : List UInt8 := dkwX1_told_5_0 ++ dktX1_told_5_1
theorem dksX1_told_5_0 : cX1_told_5.data.toList.drop 0 = dktX1_told_5_0 := by decide +kernel
theorem dksX1_told_5_1 : cX1_told_5.data.toList.drop 24 = dktX1_told_5_1 := dk_seg dksX1_told_5_0 24 rfl rfl
theorem dksX1_told_5_2 : cX1_told_5.data.toList.drop 48 = dktX1_told_5_2 := dk_seg dksX1_told_5_1 24 rfl rfl
theorem dX1_told_5_0 : decode cX1_told_5 0 = .ok (.bipush 6, 2) := dk_16 6 (dk_at dksX1_told_5_0 0 rfl rfl)
theorem dX1_told_5_2 : decode cX1_told_5 2 = .ok (.newarray .int, 2) := dk_188_10 (dk_at dksX1_told_5_0 2 rfl rfl)
theorem dX1_told_5_4 : decode cX1_told_5 4 = .ok (.dup, 1) := dk_89 (dk_at dksX1_told_5_0 4 rfl rfl)
theorem dX1_told_5_5 : decode cX1_told_5 5 = .ok (.iconst 0, 1) := dk_3 (dk_at dksX1_told_5_0 5 rfl rfl)
theorem dX1_told_5_6 : decode cX1_told_5 6 = .ok (.aload_n 0, 1) := dk_42 (dk_at dksX1_told_5_0 6 rfl rfl)
theorem dX1_told_5_7 : decode cX1_told_5 7 = .ok (.getfield 284, 3) := dk_180 1 28 (dk_at dksX1_told_5_0 7 rfl rfl)
theorem dX1_told_5_10 : decode cX1_told_5 10 = .ok (.iastore, 1) := dk_79 (dk_at dksX1_told_5_0 10 rfl rfl)
theorem dX1_told_5_11 : decode cX1_told_5 11 = .ok (.dup, 1) := dk_89 (dk_at dksX1_told_5_0 11 rfl rfl)
theorem dX1_told_5_12 : decode cX1_told_5 12 = .ok (.iconst 1, 1) := dk_4 (dk_at dksX1_told_5_0 12 rfl rfl)
theorem dX1_told_5_13 : decode cX1_told_5 13 = .ok (.aload_n 0, 1) := dk_42 (dk_at dksX1_told_5_0 13 rfl rfl)
theorem dX1_told_5_14 : decode cX1_told_5 14 = .ok (.getfield 336, 3) := dk_180 1 80 (dk_at dksX1_told_5_0 14 rfl rfl)
theorem dX1_told_5_17 : decode cX1_told_5 17 = .ok (.iastore, 1) := dk_79 (dk_at dksX1_told_5_0 17 rfl rfl)
theorem dX1_told_5_18 : decode cX1_told_5 18 = .ok (.dup, 1) := dk_89 (dk_at dksX1_told_5_0 18 rfl rfl)
theorem dX1_told_5_19 : decode cX1_told_5 19 = .ok (.iconst 2, 1) := dk_5 (dk_at dksX1_told_5_0 19 rfl rfl)
theorem dX1_told_5_20 : decode cX1_told_5 20 = .ok (.aload_n 0, 1) := dk_42 (dk_at dksX1_told_5_0 20 rfl rfl)
theorem dX1_told_5_21 : decode cX1_told_5 21 = .ok (.getfield 339, 3) := dk_180 1 83 (dk_at dksX1_told_5_0 21 rfl rfl)
theorem dX1_told_5_24 : decode cX1_told_5 24 = .ok (.iastore, 1) := dk_79 (dk_at dksX1_told_5_1 0 rfl rfl)
theorem dX1_told_5_25 : decode cX1_told_5 25 = .ok (.dup, 1) := dk_89 (dk_at dksX1_told_5_1 1 rfl rfl)
theorem dX1_told_5_26 : decode cX1_told_5 26 = .ok (.iconst 3, 1) := dk_6 (dk_at dksX1_told_5_1 2 rfl rfl)
theorem dX1_told_5_27 : decode cX1_told_5 27 = .ok (.aload_n 0, 1) := dk_42 (dk_at dksX1_told_5_1 3 rfl rfl)
theorem dX1_told_5_28 : decode cX1_told_5 28 = .ok (.getfield 342, 3) := dk_180 1 86 (dk_at dksX1_told_5_1 4 rfl rfl)
theorem dX1_told_5_31 : decode cX1_told_5 31 = .ok (.iastore, 1) := dk_79 (dk_at dksX1_told_5_1 7 rfl rfl)
theorem dX1_told_5_32 : decode cX1_told_5 32 = .ok (.dup, 1) := dk_89 (dk_at dksX1_told_5_1 8 rfl rfl)
theorem dX1_told_5_33 : decode cX1_told_5 33 = .ok (.iconst 4, 1) := dk_7 (dk_at dksX1_told_5_1 9 rfl rfl)
theorem dX1_told_5_34 : decode cX1_told_5 34 = .ok (.aload_n 0, 1) := dk_42 (dk_at dksX1_told_5_1 10 rfl rfl)
theorem dX1_told_5_35 : decode cX1_told_5 35 = .ok (.invokevirtual 290, 3) := dk_182 1 34 (dk_at dksX1_told_5_1 11 rfl rfl)
theorem dX1_told_5_38 : decode cX1_told_5 38 = .ok (.iastore, 1) := dk_79 (dk_at dksX1_told_5_1 14 rfl rfl)
theorem dX1_told_5_39 : decode cX1_told_5 39 = .ok (.dup, 1) := dk_89 (dk_at dksX1_told_5_1 15 rfl rfl)
theorem dX1_told_5_40 : decode cX1_told_5 40 = .ok (.iconst 5, 1) := dk_8 (dk_at dksX1_told_5_1 16 rfl rfl)
theorem dX1_told_5_41 : decode cX1_told_5 41 = .ok (.aload_n 0, 1) := dk_42 (dk_at dksX1_told_5_1 17 rfl rfl)
theorem dX1_told_5_42 : decode cX1_told_5 42 = .ok (.getfield 287, 3) := dk_180 1 31 (dk_at dksX1_told_5_1 18 rfl rfl)
theorem dX1_told_5_45 : decode cX1_told_5 45 = .ok (.invokestatic 270, 3) := dk_184 1 14 (dk_at dksX1_told_5_1 21 rfl rfl)
theorem dX1_told_5_48 : decode cX1_told_5 48 = .ok (.iastore, 1) := dk_79 (dk_at dksX1_told_5_2 0 rfl rfl)
theorem dX1_told_5_49 : decode cX1_told_5 49 = .ok (.astore_n 2, 1) := dk_77 (dk_at dksX1_told_5_2 1 rfl rfl)
theorem dX1_told_5_50 : decode cX1_told_5 50 = .ok (.iload_n 1, 1) := dk_27 (dk_at dksX1_told_5_2 2 rfl rfl)
theorem dX1_told_5_51 : decode cX1_told_5 51 = .ok (.bipush 6, 2) := dk_16 6 (dk_at dksX1_told_5_2 3 rfl rfl)
theorem dX1_told_5_53 : decode cX1_told_5 53 = .ok (.if_icmp .ge 9, 3) := dk_162 0 9 (dk_at dksX1_told_5_2 5 rfl rfl)
theorem dX1_told_5_56 : decode cX1_told_5 56 = .ok (.aload_n 2, 1) := dk_44 (dk_at dksX1_told_5_2 8 rfl rfl)
theorem dX1_told_5_57 : decode cX1_told_5 57 = .ok (.iload_n 1, 1) := dk_27 (dk_at dksX1_told_5_2 9 rfl rfl)
theorem dX1_told_5_58 : decode cX1_told_5 58 = .ok (.iaload, 1) := dk_46 (dk_at dksX1_told_5_2 10 rfl rfl)
theorem dX1_told_5_59 : decode cX1_told_5 59 = .ok (.goto 12, 3) := dk_167 0 12 (dk_at dksX1_told_5_2 11 rfl rfl)
theorem dX1_told_5_62 : decode cX1_told_5 62 = .ok (.aload_n 0, 1) := dk_42 (dk_at dksX1_told_5_2 14 rfl rfl)
theorem dX1_told_5_63 : decode cX1_told_5 63 = .ok (.getfield 80, 3) := dk_180 0 80 (dk_at dksX1_told_5_2 15 rfl rfl)
theorem dX1_told_5_66 : decode cX1_told_5 66 = .ok (.iload_n 1, 1) := dk_27 (dk_at dksX1_told_5_2 18 rfl rfl)
theorem dX1_told_5_67 : decode cX1_told_5 67 = .ok (.bipush 6, 2) := dk_16 6 (dk_at dksX1_told_5_2 19 rfl rfl)
theorem dX1_told_5_69 : decode cX1_told_5 69 = .ok (.isub, 1) := dk_100 (dk_at dksX1_told_5_2 21 rfl rfl)
theorem dX1_told_5_70 : decode cX1_told_5 70 = .ok (.iaload, 1) := dk_46 (dk_at dksX1_told_5_2 22 rfl rfl)
theorem dX1_told_5_71 : decode cX1_told_5 71 = .ok (.ireturn, 1) := dk_172 (dk_at dksX1_told_5_2 23 rfl rfl)
abbrev cX1_plot : ByteArray := prog_1_method_15_code
def yX1_plot : MethodName := ⟨RX1, "plot", "(I)I"⟩
def dkwX1_plot_2 : List UInt8 := [182, 0, 137, 4, 100, 172]
abbrev dktX1_plot_2 : List UInt8 := dkwX1_plot_2 ++ []
def dkwX1_plot_1 : List UInt8 := [184, 0, 138, 42, 180, 0, 98, 187, 0, 131, 89, 27, 183, 0, 141, 182, 0, 123, 87, 42, 180, 0, 98]
abbrev dktX1_plot_1 : List UInt8 := dkwX1_plot_1 ++ dktX1_plot_2
def dkwX1_plot_0 : List UInt8 := [4, 16, 9, 27, 184, 0, 133, 42, 180, 0, 98, 182, 0, 137, 6, 162, 0, 7, 4, 167, 0, 4, 3]
abbrev dktX1_plot_0 : List UInt8 := dkwX1_plot_0 ++ dktX1_plot_1
theorem dksX1_plot_0 : cX1_plot.data.toList.drop 0 = dktX1_plot_0 := by decide +kernel
theorem dksX1_plot_1 : cX1_plot.data.toList.drop 23 = dktX1_plot_1 := dk_seg dksX1_plot_0 23 rfl rfl
theorem dksX1_plot_2 : cX1_plot.data.toList.drop 46 = dktX1_plot_2 := dk_seg dksX1_plot_1 23 rfl rfl
theorem dX1_plot_0 : decode cX1_plot 0 = .ok (.iconst 1, 1) := dk_4 (dk_at dksX1_plot_0 0 rfl rfl)
theorem dX1_plot_1 : decode cX1_plot 1 = .ok (.bipush 9, 2) := dk_16 9 (dk_at dksX1_plot_0 1 rfl rfl)
theorem dX1_plot_3 : decode cX1_plot 3 = .ok (.iload_n 1, 1) := dk_27 (dk_at dksX1_plot_0 3 rfl rfl)
theorem dX1_plot_4 : decode cX1_plot 4 = .ok (.invokestatic 133, 3) := dk_184 0 133 (dk_at dksX1_plot_0 4 rfl rfl)
theorem dX1_plot_7 : decode cX1_plot 7 = .ok (.aload_n 0, 1) := dk_42 (dk_at dksX1_plot_0 7 rfl rfl)
theorem dX1_plot_8 : decode cX1_plot 8 = .ok (.getfield 98, 3) := dk_180 0 98 (dk_at dksX1_plot_0 8 rfl rfl)
theorem dX1_plot_11 : decode cX1_plot 11 = .ok (.invokevirtual 137, 3) := dk_182 0 137 (dk_at dksX1_plot_0 11 rfl rfl)
theorem dX1_plot_14 : decode cX1_plot 14 = .ok (.iconst 3, 1) := dk_6 (dk_at dksX1_plot_0 14 rfl rfl)
theorem dX1_plot_15 : decode cX1_plot 15 = .ok (.if_icmp .ge 7, 3) := dk_162 0 7 (dk_at dksX1_plot_0 15 rfl rfl)
theorem dX1_plot_18 : decode cX1_plot 18 = .ok (.iconst 1, 1) := dk_4 (dk_at dksX1_plot_0 18 rfl rfl)
theorem dX1_plot_19 : decode cX1_plot 19 = .ok (.goto 4, 3) := dk_167 0 4 (dk_at dksX1_plot_0 19 rfl rfl)
theorem dX1_plot_22 : decode cX1_plot 22 = .ok (.iconst 0, 1) := dk_3 (dk_at dksX1_plot_0 22 rfl rfl)
theorem dX1_plot_23 : decode cX1_plot 23 = .ok (.invokestatic 138, 3) := dk_184 0 138 (dk_at dksX1_plot_1 0 rfl rfl)
theorem dX1_plot_26 : decode cX1_plot 26 = .ok (.aload_n 0, 1) := dk_42 (dk_at dksX1_plot_1 3 rfl rfl)
theorem dX1_plot_27 : decode cX1_plot 27 = .ok (.getfield 98, 3) := dk_180 0 98 (dk_at dksX1_plot_1 4 rfl rfl)
theorem dX1_plot_30 : decode cX1_plot 30 = .ok (.new 131, 3) := dk_187 0 131 (dk_at dksX1_plot_1 7 rfl rfl)
theorem dX1_plot_33 : decode cX1_plot 33 = .ok (.dup, 1) := dk_89 (dk_at dksX1_plot_1 10 rfl rfl)
theorem dX1_plot_34 : decode cX1_plot 34 = .ok (.iload_n 1, 1) := dk_27 (dk_at dksX1_plot_1 11 rfl rfl)
theorem dX1_plot_35 : decode cX1_plot 35 = .ok (.invokespecial 141, 3) := dk_183 0 141 (dk_at dksX1_plot_1 12 rfl rfl)
theorem dX1_plot_38 : decode cX1_plot 38 = .ok (.invokevirtual 123, 3) := dk_182 0 123 (dk_at dksX1_plot_1 15 rfl rfl)
theorem dX1_plot_41 : decode cX1_plot 41 = .ok (.pop, 1) := dk_87 (dk_at dksX1_plot_1 18 rfl rfl)
theorem dX1_plot_42 : decode cX1_plot 42 = .ok (.aload_n 0, 1) := dk_42 (dk_at dksX1_plot_1 19 rfl rfl)
theorem dX1_plot_43 : decode cX1_plot 43 = .ok (.getfield 98, 3) := dk_180 0 98 (dk_at dksX1_plot_1 20 rfl rfl)
theorem dX1_plot_46 : decode cX1_plot 46 = .ok (.invokevirtual 137, 3) := dk_182 0 137 (dk_at dksX1_plot_2 0 rfl rfl)
theorem dX1_plot_49 : decode cX1_plot 49 = .ok (.iconst 1, 1) := dk_4 (dk_at dksX1_plot_2 3 rfl rfl)
theorem dX1_plot_50 : decode cX1_plot 50 = .ok (.isub, 1) := dk_100 (dk_at dksX1_plot_2 4 rfl rfl)
theorem dX1_plot_51 : decode cX1_plot 51 = .ok (.ireturn, 1) := dk_172 (dk_at dksX1_plot_2 5 rfl rfl)
abbrev cX1_requireFrom : ByteArray := prog_1_method_4_code
def yX1_requireFrom : MethodName := ⟨RX1, "requireFrom", "(III)V"⟩
def dkwX1_requireFrom_0 : List UInt8 := [28, 26, 161, 0, 12, 28, 27, 163, 0, 7, 4, 167, 0, 4, 3, 184, 0, 13, 177]
abbrev dktX1_requireFrom_0 : List UInt8 := dkwX1_requireFrom_0 ++ []
theorem dksX1_requireFrom_0 : cX1_requireFrom.data.toList.drop 0 = dktX1_requireFrom_0 := by decide +kernel
theorem dX1_requireFrom_0 : decode cX1_requireFrom 0 = .ok (.iload_n 2, 1) := dk_28 (dk_at dksX1_requireFrom_0 0 rfl rfl)
theorem dX1_requireFrom_1 : decode cX1_requireFrom 1 = .ok (.iload_n 0, 1) := dk_26 (dk_at dksX1_requireFrom_0 1 rfl rfl)
theorem dX1_requireFrom_2 : decode cX1_requireFrom 2 = .ok (.if_icmp .lt 12, 3) := dk_161 0 12 (dk_at dksX1_requireFrom_0 2 rfl rfl)
theorem dX1_requireFrom_5 : decode cX1_requireFrom 5 = .ok (.iload_n 2, 1) := dk_28 (dk_at dksX1_requireFrom_0 5 rfl rfl)
theorem dX1_requireFrom_6 : decode cX1_requireFrom 6 = .ok (.iload_n 1, 1) := dk_27 (dk_at dksX1_requireFrom_0 6 rfl rfl)
theorem dX1_requireFrom_7 : decode cX1_requireFrom 7 = .ok (.if_icmp .gt 7, 3) := dk_163 0 7 (dk_at dksX1_requireFrom_0 7 rfl rfl)
theorem dX1_requireFrom_10 : decode cX1_requireFrom 10 = .ok (.iconst 1, 1) := dk_4 (dk_at dksX1_requireFrom_0 10 rfl rfl)
theorem dX1_requireFrom_11 : decode cX1_requireFrom 11 = .ok (.goto 4, 3) := dk_167 0 4 (dk_at dksX1_requireFrom_0 11 rfl rfl)
theorem dX1_requireFrom_14 : decode cX1_requireFrom 14 = .ok (.iconst 0, 1) := dk_3 (dk_at dksX1_requireFrom_0 14 rfl rfl)
theorem dX1_requireFrom_15 : decode cX1_requireFrom 15 = .ok (.invokestatic 13, 3) := dk_184 0 13 (dk_at dksX1_requireFrom_0 15 rfl rfl)
theorem dX1_requireFrom_18 : decode cX1_requireFrom 18 = .ok (.return_, 1) := dk_177 (dk_at dksX1_requireFrom_0 18 rfl rfl)
abbrev cX1_require : ByteArray := prog_1_method_1_code
def yX1_require : MethodName := ⟨RX1, "require", "(Z)V"⟩
def dkwX1_require_0 : List UInt8 := [26, 154, 0, 11, 187, 0, 1, 89, 183, 0, 3, 191, 177]
abbrev dktX1_require_0 : List UInt8 := dkwX1_require_0 ++ []
theorem dksX1_require_0 : cX1_require.data.toList.drop 0 = dktX1_require_0 := by decide +kernel
theorem dX1_require_0 : decode cX1_require 0 = .ok (.iload_n 0, 1) := dk_26 (dk_at dksX1_require_0 0 rfl rfl)
theorem dX1_require_1 : decode cX1_require 1 = .ok (.ifCond .ne 11, 3) := dk_154 0 11 (dk_at dksX1_require_0 1 rfl rfl)
theorem dX1_require_4 : decode cX1_require 4 = .ok (.new 1, 3) := dk_187 0 1 (dk_at dksX1_require_0 4 rfl rfl)
theorem dX1_require_7 : decode cX1_require 7 = .ok (.dup, 1) := dk_89 (dk_at dksX1_require_0 7 rfl rfl)
theorem dX1_require_8 : decode cX1_require 8 = .ok (.invokespecial 3, 3) := dk_183 0 3 (dk_at dksX1_require_0 8 rfl rfl)
theorem dX1_require_11 : decode cX1_require 11 = .ok (.athrow, 1) := dk_191 (dk_at dksX1_require_0 11 rfl rfl)
theorem dX1_require_12 : decode cX1_require 12 = .ok (.return_, 1) := dk_177 (dk_at dksX1_require_0 12 rfl rfl)
abbrev cX1_requireState : ByteArray := prog_1_method_2_code
def yX1_requireState : MethodName := ⟨RX1, "requireState", "(Z)V"⟩
def dkwX1_requireState_0 : List UInt8 := [26, 154, 0, 11, 187, 0, 7, 89, 183, 0, 9, 191, 177]
abbrev dktX1_requireState_0 : List UInt8 := dkwX1_requireState_0 ++ []
theorem dksX1_requireState_0 : cX1_requireState.data.toList.drop 0 = dktX1_requireState_0 := by decide +kernel
theorem dX1_requireState_0 : decode cX1_requireState 0 = .ok (.iload_n 0, 1) := dk_26 (dk_at dksX1_requireState_0 0 rfl rfl)
theorem dX1_requireState_1 : decode cX1_requireState 1 = .ok (.ifCond .ne 11, 3) := dk_154 0 11 (dk_at dksX1_requireState_0 1 rfl rfl)
theorem dX1_requireState_4 : decode cX1_requireState 4 = .ok (.new 7, 3) := dk_187 0 7 (dk_at dksX1_requireState_0 4 rfl rfl)
theorem dX1_requireState_7 : decode cX1_requireState 7 = .ok (.dup, 1) := dk_89 (dk_at dksX1_requireState_0 7 rfl rfl)
theorem dX1_requireState_8 : decode cX1_requireState 8 = .ok (.invokespecial 9, 3) := dk_183 0 9 (dk_at dksX1_requireState_0 8 rfl rfl)
theorem dX1_requireState_11 : decode cX1_requireState 11 = .ok (.athrow, 1) := dk_191 (dk_at dksX1_requireState_0 11 rfl rfl)
theorem dX1_requireState_12 : decode cX1_requireState 12 = .ok (.return_, 1) := dk_177 (dk_at dksX1_requireState_0 12 rfl rfl)
abbrev cX1_pass : ByteArray := prog_1_method_17_code
def yX1_pass : MethodName := ⟨RX1, "pass", "(IZI)I"⟩
def dkwX1_pass_1 : List UInt8 := [162, 0, 20, 21, 4, 42, 27, 28, 182, 0, 184, 96, 54, 4, 132, 5, 1, 167, 255, 236, 21, 4, 172]
abbrev dktX1_pass_1 : List UInt8 := dkwX1_pass_1 ++ []
def dkwX1_pass_0 : List UInt8 := [3, 8, 27, 184, 0, 133, 4, 16, 20, 29, 184, 0, 133, 3, 54, 4, 3, 54, 5, 21, 5, 29]
abbrev dktX1_pass_0 : List UInt8 := dkwX1_pass_0 ++ dktX1_pass_1
theorem dksX1_pass_0 : cX1_pass.data.toList.drop 0 = dktX1_pass_0 := by decide +kernel
theorem dksX1_pass_1 : cX1_pass.data.toList.drop 22 = dktX1_pass_1 := dk_seg dksX1_pass_0 22 rfl rfl
theorem dX1_pass_0 : decode cX1_pass 0 = .ok (.iconst 0, 1) := dk_3 (dk_at dksX1_pass_0 0 rfl rfl)
theorem dX1_pass_1 : decode cX1_pass 1 = .ok (.iconst 5, 1) := dk_8 (dk_at dksX1_pass_0 1 rfl rfl)
theorem dX1_pass_2 : decode cX1_pass 2 = .ok (.iload_n 1, 1) := dk_27 (dk_at dksX1_pass_0 2 rfl rfl)
theorem dX1_pass_3 : decode cX1_pass 3 = .ok (.invokestatic 133, 3) := dk_184 0 133 (dk_at dksX1_pass_0 3 rfl rfl)
theorem dX1_pass_6 : decode cX1_pass 6 = .ok (.iconst 1, 1) := dk_4 (dk_at dksX1_pass_0 6 rfl rfl)
theorem dX1_pass_7 : decode cX1_pass 7 = .ok (.bipush 20, 2) := dk_16 20 (dk_at dksX1_pass_0 7 rfl rfl)
theorem dX1_pass_9 : decode cX1_pass 9 = .ok (.iload_n 3, 1) := dk_29 (dk_at dksX1_pass_0 9 rfl rfl)
theorem dX1_pass_10 : decode cX1_pass 10 = .ok (.invokestatic 133, 3) := dk_184 0 133 (dk_at dksX1_pass_0 10 rfl rfl)
theorem dX1_pass_13 : decode cX1_pass 13 = .ok (.iconst 0, 1) := dk_3 (dk_at dksX1_pass_0 13 rfl rfl)
theorem dX1_pass_14 : decode cX1_pass 14 = .ok (.istore 4, 2) := dk_54 4 (dk_at dksX1_pass_0 14 rfl rfl)
theorem dX1_pass_16 : decode cX1_pass 16 = .ok (.iconst 0, 1) := dk_3 (dk_at dksX1_pass_0 16 rfl rfl)
theorem dX1_pass_17 : decode cX1_pass 17 = .ok (.istore 5, 2) := dk_54 5 (dk_at dksX1_pass_0 17 rfl rfl)
theorem dX1_pass_19 : decode cX1_pass 19 = .ok (.iload 5, 2) := dk_21 5 (dk_at dksX1_pass_0 19 rfl rfl)
theorem dX1_pass_21 : decode cX1_pass 21 = .ok (.iload_n 3, 1) := dk_29 (dk_at dksX1_pass_0 21 rfl rfl)
theorem dX1_pass_22 : decode cX1_pass 22 = .ok (.if_icmp .ge 20, 3) := dk_162 0 20 (dk_at dksX1_pass_1 0 rfl rfl)
theorem dX1_pass_25 : decode cX1_pass 25 = .ok (.iload 4, 2) := dk_21 4 (dk_at dksX1_pass_1 3 rfl rfl)
theorem dX1_pass_27 : decode cX1_pass 27 = .ok (.aload_n 0, 1) := dk_42 (dk_at dksX1_pass_1 5 rfl rfl)
theorem dX1_pass_28 : decode cX1_pass 28 = .ok (.iload_n 1, 1) := dk_27 (dk_at dksX1_pass_1 6 rfl rfl)
theorem dX1_pass_29 : decode cX1_pass 29 = .ok (.iload_n 2, 1) := dk_28 (dk_at dksX1_pass_1 7 rfl rfl)
theorem dX1_pass_30 : decode cX1_pass 30 = .ok (.invokevirtual 184, 3) := dk_182 0 184 (dk_at dksX1_pass_1 8 rfl rfl)
theorem dX1_pass_33 : decode cX1_pass 33 = .ok (.iadd, 1) := dk_96 (dk_at dksX1_pass_1 11 rfl rfl)
theorem dX1_pass_34 : decode cX1_pass 34 = .ok (.istore 4, 2) := dk_54 4 (dk_at dksX1_pass_1 12 rfl rfl)
theorem dX1_pass_36 : decode cX1_pass 36 = .ok (.iinc 5 1, 3) := dk_132 5 1 (dk_at dksX1_pass_1 14 rfl rfl)
theorem dX1_pass_39 : decode cX1_pass 39 = .ok (.goto (-20), 3) := dk_167 255 236 (dk_at dksX1_pass_1 17 rfl rfl)
theorem dX1_pass_42 : decode cX1_pass 42 = .ok (.iload 4, 2) := dk_21 4 (dk_at dksX1_pass_1 20 rfl rfl)
theorem dX1_pass_44 : decode cX1_pass 44 = .ok (.ireturn, 1) := dk_172 (dk_at dksX1_pass_1 22 rfl rfl)
abbrev cX1_pass_2 : ByteArray := prog_1_method_16_code
def yX1_pass_2 : MethodName := ⟨RX1, "pass", "(IZ)I"⟩
def dkwX1_pass_2_9 : List UInt8 := [181, 0, 181, 29, 172]
abbrev dktX1_pass_2_9 : List UInt8 := dkwX1_pass_2_9 ++ []
def dkwX1_pass_2_8 : List UInt8 := [42, 180, 0, 169, 16, 10, 184, 0, 172, 96, 184, 0, 176, 181, 0, 169, 42, 89, 180, 0, 181, 29, 96]
abbrev dktX1_pass_2_8 : List UInt8 := dkwX1_pass_2_8 ++ dktX1_pass_2_9
def dkwX1_pass_2_7 : List UInt8 := [182, 0, 167, 167, 255, 229, 42, 180, 0, 143, 16, 10, 112, 154, 0, 27, 42, 17, 39, 15, 42, 180, 0, 169]
abbrev dktX1_pass_2_7 : List UInt8 := dkwX1_pass_2_7 ++ dktX1_pass_2_8
def dkwX1_pass_2_6 : List UInt8 := [25, 4, 185, 0, 37, 1, 0, 153, 0, 23, 25, 4, 185, 0, 43, 1, 0, 192, 0, 59, 58, 5, 25, 5]
abbrev dktX1_pass_2_6 : List UInt8 := dkwX1_pass_2_6 ++ dktX1_pass_2_7
def dkwX1_pass_2_5 : List UInt8 := [192, 0, 120, 180, 0, 161, 182, 0, 164, 96, 62, 167, 255, 192, 42, 180, 0, 108, 182, 0, 79, 58, 4]
abbrev dktX1_pass_2_5 : List UInt8 := dkwX1_pass_2_5 ++ dktX1_pass_2_6
def dkwX1_pass_2_4 : List UInt8 := [25, 5, 180, 0, 156, 154, 0, 29, 29, 25, 5, 42, 180, 0, 102, 25, 5, 180, 0, 159, 182, 0, 160]
abbrev dktX1_pass_2_4 : List UInt8 := dkwX1_pass_2_4 ++ dktX1_pass_2_5
def dkwX1_pass_2_3 : List UInt8 := [153, 0, 60, 25, 4, 185, 0, 43, 1, 0, 192, 0, 124, 58, 5, 25, 5, 180, 0, 153, 158, 0, 37]
abbrev dktX1_pass_2_3 : List UInt8 := dkwX1_pass_2_3 ++ dktX1_pass_2_4
def dkwX1_pass_2_2 : List UInt8 := [182, 0, 150, 167, 255, 230, 3, 62, 42, 180, 0, 105, 182, 0, 79, 58, 4, 25, 4, 185, 0, 37, 1, 0]
abbrev dktX1_pass_2_2 : List UInt8 := dkwX1_pass_2_2 ++ dktX1_pass_2_3
def dkwX1_pass_2_1 : List UInt8 := [185, 0, 37, 1, 0, 153, 0, 23, 45, 185, 0, 43, 1, 0, 192, 0, 131, 58, 4, 25, 4, 27]
abbrev dktX1_pass_2_1 : List UInt8 := dkwX1_pass_2_1 ++ dktX1_pass_2_2
def dkwX1_pass_2_0 : List UInt8 := [42, 89, 180, 0, 143, 4, 96, 181, 0, 143, 42, 28, 181, 0, 146, 42, 180, 0, 98, 182, 0, 79, 78, 45]
abbrev dktX1_pass_2_0 : List UInt8 := dkwX1_pass_2_0 ++ dktX1_pass_2_1
theorem dksX1_pass_2_0 : cX1_pass_2.data.toList.drop 0 = dktX1_pass_2_0 := by decide +kernel
theorem dksX1_pass_2_1 : cX1_pass_2.data.toList.drop 24 = dktX1_pass_2_1 := dk_seg dksX1_pass_2_0 24 rfl rfl
theorem dksX1_pass_2_2 : cX1_pass_2.data.toList.drop 46 = dktX1_pass_2_2 := dk_seg dksX1_pass_2_1 22 rfl rfl
theorem dksX1_pass_2_3 : cX1_pass_2.data.toList.drop 70 = dktX1_pass_2_3 := dk_seg dksX1_pass_2_2 24 rfl rfl
theorem dksX1_pass_2_4 : cX1_pass_2.data.toList.drop 93 = dktX1_pass_2_4 := dk_seg dksX1_pass_2_3 23 rfl rfl
theorem dksX1_pass_2_5 : cX1_pass_2.data.toList.drop 116 = dktX1_pass_2_5 := dk_seg dksX1_pass_2_4 23 rfl rfl
theorem dksX1_pass_2_6 : cX1_pass_2.data.toList.drop 139 = dktX1_pass_2_6 := dk_seg dksX1_pass_2_5 23 rfl rfl
theorem dksX1_pass_2_7 : cX1_pass_2.data.toList.drop 163 = dktX1_pass_2_7 := dk_seg dksX1_pass_2_6 24 rfl rfl
theorem dksX1_pass_2_8 : cX1_pass_2.data.toList.drop 187 = dktX1_pass_2_8 := dk_seg dksX1_pass_2_7 24 rfl rfl
theorem dksX1_pass_2_9 : cX1_pass_2.data.toList.drop 210 = dktX1_pass_2_9 := dk_seg dksX1_pass_2_8 23 rfl rfl
theorem dX1_pass_2_0 : decode cX1_pass_2 0 = .ok (.aload_n 0, 1) := dk_42 (dk_at dksX1_pass_2_0 0 rfl rfl)
theorem dX1_pass_2_1 : decode cX1_pass_2 1 = .ok (.dup, 1) := dk_89 (dk_at dksX1_pass_2_0 1 rfl rfl)
theorem dX1_pass_2_2 : decode cX1_pass_2 2 = .ok (.getfield 143, 3) := dk_180 0 143 (dk_at dksX1_pass_2_0 2 rfl rfl)
theorem dX1_pass_2_5 : decode cX1_pass_2 5 = .ok (.iconst 1, 1) := dk_4 (dk_at dksX1_pass_2_0 5 rfl rfl)
theorem dX1_pass_2_6 : decode cX1_pass_2 6 = .ok (.iadd, 1) := dk_96 (dk_at dksX1_pass_2_0 6 rfl rfl)
theorem dX1_pass_2_7 : decode cX1_pass_2 7 = .ok (.putfield 143, 3) := dk_181 0 143 (dk_at dksX1_pass_2_0 7 rfl rfl)
theorem dX1_pass_2_10 : decode cX1_pass_2 10 = .ok (.aload_n 0, 1) := dk_42 (dk_at dksX1_pass_2_0 10 rfl rfl)
theorem dX1_pass_2_11 : decode cX1_pass_2 11 = .ok (.iload_n 2, 1) := dk_28 (dk_at dksX1_pass_2_0 11 rfl rfl)
theorem dX1_pass_2_12 : decode cX1_pass_2 12 = .ok (.putfield 146, 3) := dk_181 0 146 (dk_at dksX1_pass_2_0 12 rfl rfl)
theorem dX1_pass_2_15 : decode cX1_pass_2 15 = .ok (.aload_n 0, 1) := dk_42 (dk_at dksX1_pass_2_0 15 rfl rfl)
theorem dX1_pass_2_16 : decode cX1_pass_2 16 = .ok (.getfield 98, 3) := dk_180 0 98 (dk_at dksX1_pass_2_0 16 rfl rfl)
theorem dX1_pass_2_19 : decode cX1_pass_2 19 = .ok (.invokevirtual 79, 3) := dk_182 0 79 (dk_at dksX1_pass_2_0 19 rfl rfl)
theorem dX1_pass_2_22 : decode cX1_pass_2 22 = .ok (.astore_n 3, 1) := dk_78 (dk_at dksX1_pass_2_0 22 rfl rfl)
theorem dX1_pass_2_23 : decode cX1_pass_2 23 = .ok (.aload_n 3, 1) := dk_45 (dk_at dksX1_pass_2_0 23 rfl rfl)
theorem dX1_pass_2_24 : decode cX1_pass_2 24 = .ok (.invokeinterface 37 1, 5) := by decide +kernel
theorem dX1_pass_2_29 : decode cX1_pass_2 29 = .ok (.ifCond .eq 23, 3) := dk_153 0 23 (dk_at dksX1_pass_2_1 5 rfl rfl)
theorem dX1_pass_2_32 : decode cX1_pass_2 32 = .ok (.aload_n 3, 1) := dk_45 (dk_at dksX1_pass_2_1 8 rfl rfl)
theorem dX1_pass_2_33 : decode cX1_pass_2 33 = .ok (.invokeinterface 43 1, 5) := by decide +kernel
theorem dX1_pass_2_38 : decode cX1_pass_2 38 = .ok (.checkcast 131, 3) := dk_192 0 131 (dk_at dksX1_pass_2_1 14 rfl rfl)
theorem dX1_pass_2_41 : decode cX1_pass_2 41 = .ok (.astore 4, 2) := dk_58 4 (dk_at dksX1_pass_2_1 17 rfl rfl)
theorem dX1_pass_2_43 : decode cX1_pass_2 43 = .ok (.aload 4, 2) := dk_25 4 (dk_at dksX1_pass_2_1 19 rfl rfl)
theorem dX1_pass_2_45 : decode cX1_pass_2 45 = .ok (.iload_n 1, 1) := dk_27 (dk_at dksX1_pass_2_1 21 rfl rfl)
theorem dX1_pass_2_46 : decode cX1_pass_2 46 = .ok (.invokevirtual 150, 3) := dk_182 0 150 (dk_at dksX1_pass_2_2 0 rfl rfl)
theorem dX1_pass_2_49 : decode cX1_pass_2 49 = .ok (.goto (-26), 3) := dk_167 255 230 (dk_at dksX1_pass_2_2 3 rfl rfl)
theorem dX1_pass_2_52 : decode cX1_pass_2 52 = .ok (.iconst 0, 1) := dk_3 (dk_at dksX1_pass_2_2 6 rfl rfl)
theorem dX1_pass_2_53 : decode cX1_pass_2 53 = .ok (.istore_n 3, 1) := dk_62 (dk_at dksX1_pass_2_2 7 rfl rfl)
theorem dX1_pass_2_54 : decode cX1_pass_2 54 = .ok (.aload_n 0, 1) := dk_42 (dk_at dksX1_pass_2_2 8 rfl rfl)
theorem dX1_pass_2_55 : decode cX1_pass_2 55 = .ok (.getfield 105, 3) := dk_180 0 105 (dk_at dksX1_pass_2_2 9 rfl rfl)
theorem dX1_pass_2_58 : decode cX1_pass_2 58 = .ok (.invokevirtual 79, 3) := dk_182 0 79 (dk_at dksX1_pass_2_2 12 rfl rfl)
theorem dX1_pass_2_61 : decode cX1_pass_2 61 = .ok (.astore 4, 2) := dk_58 4 (dk_at dksX1_pass_2_2 15 rfl rfl)
theorem dX1_pass_2_63 : decode cX1_pass_2 63 = .ok (.aload 4, 2) := dk_25 4 (dk_at dksX1_pass_2_2 17 rfl rfl)
theorem dX1_pass_2_65 : decode cX1_pass_2 65 = .ok (.invokeinterface 37 1, 5) := by decide +kernel
theorem dX1_pass_2_70 : decode cX1_pass_2 70 = .ok (.ifCond .eq 60, 3) := dk_153 0 60 (dk_at dksX1_pass_2_3 0 rfl rfl)
theorem dX1_pass_2_73 : decode cX1_pass_2 73 = .ok (.aload 4, 2) := dk_25 4 (dk_at dksX1_pass_2_3 3 rfl rfl)
theorem dX1_pass_2_75 : decode cX1_pass_2 75 = .ok (.invokeinterface 43 1, 5) := by decide +kernel
theorem dX1_pass_2_80 : decode cX1_pass_2 80 = .ok (.checkcast 124, 3) := dk_192 0 124 (dk_at dksX1_pass_2_3 10 rfl rfl)
theorem dX1_pass_2_83 : decode cX1_pass_2 83 = .ok (.astore 5, 2) := dk_58 5 (dk_at dksX1_pass_2_3 13 rfl rfl)
theorem dX1_pass_2_85 : decode cX1_pass_2 85 = .ok (.aload 5, 2) := dk_25 5 (dk_at dksX1_pass_2_3 15 rfl rfl)
theorem dX1_pass_2_87 : decode cX1_pass_2 87 = .ok (.getfield 153, 3) := dk_180 0 153 (dk_at dksX1_pass_2_3 17 rfl rfl)
theorem dX1_pass_2_90 : decode cX1_pass_2 90 = .ok (.ifCond .le 37, 3) := dk_158 0 37 (dk_at dksX1_pass_2_3 20 rfl rfl)
theorem dX1_pass_2_93 : decode cX1_pass_2 93 = .ok (.aload 5, 2) := dk_25 5 (dk_at dksX1_pass_2_4 0 rfl rfl)
theorem dX1_pass_2_95 : decode cX1_pass_2 95 = .ok (.getfield 156, 3) := dk_180 0 156 (dk_at dksX1_pass_2_4 2 rfl rfl)
theorem dX1_pass_2_98 : decode cX1_pass_2 98 = .ok (.ifCond .ne 29, 3) := dk_154 0 29 (dk_at dksX1_pass_2_4 5 rfl rfl)
theorem dX1_pass_2_101 : decode cX1_pass_2 101 = .ok (.iload_n 3, 1) := dk_29 (dk_at dksX1_pass_2_4 8 rfl rfl)
theorem dX1_pass_2_102 : decode cX1_pass_2 102 = .ok (.aload 5, 2) := dk_25 5 (dk_at dksX1_pass_2_4 9 rfl rfl)
theorem dX1_pass_2_104 : decode cX1_pass_2 104 = .ok (.aload_n 0, 1) := dk_42 (dk_at dksX1_pass_2_4 11 rfl rfl)
theorem dX1_pass_2_105 : decode cX1_pass_2 105 = .ok (.getfield 102, 3) := dk_180 0 102 (dk_at dksX1_pass_2_4 12 rfl rfl)
theorem dX1_pass_2_108 : decode cX1_pass_2 108 = .ok (.aload 5, 2) := dk_25 5 (dk_at dksX1_pass_2_4 15 rfl rfl)
theorem dX1_pass_2_110 : decode cX1_pass_2 110 = .ok (.getfield 159, 3) := dk_180 0 159 (dk_at dksX1_pass_2_4 17 rfl rfl)
theorem dX1_pass_2_113 : decode cX1_pass_2 113 = .ok (.invokevirtual 160, 3) := dk_182 0 160 (dk_at dksX1_pass_2_4 20 rfl rfl)
theorem dX1_pass_2_116 : decode cX1_pass_2 116 = .ok (.checkcast 120, 3) := dk_192 0 120 (dk_at dksX1_pass_2_5 0 rfl rfl)
theorem dX1_pass_2_119 : decode cX1_pass_2 119 = .ok (.getfield 161, 3) := dk_180 0 161 (dk_at dksX1_pass_2_5 3 rfl rfl)
theorem dX1_pass_2_122 : decode cX1_pass_2 122 = .ok (.invokevirtual 164, 3) := dk_182 0 164 (dk_at dksX1_pass_2_5 6 rfl rfl)
theorem dX1_pass_2_125 : decode cX1_pass_2 125 = .ok (.iadd, 1) := dk_96 (dk_at dksX1_pass_2_5 9 rfl rfl)
theorem dX1_pass_2_126 : decode cX1_pass_2 126 = .ok (.istore_n 3, 1) := dk_62 (dk_at dksX1_pass_2_5 10 rfl rfl)
theorem dX1_pass_2_127 : decode cX1_pass_2 127 = .ok (.goto (-64), 3) := dk_167 255 192 (dk_at dksX1_pass_2_5 11 rfl rfl)
theorem dX1_pass_2_130 : decode cX1_pass_2 130 = .ok (.aload_n 0, 1) := dk_42 (dk_at dksX1_pass_2_5 14 rfl rfl)
theorem dX1_pass_2_131 : decode cX1_pass_2 131 = .ok (.getfield 108, 3) := dk_180 0 108 (dk_at dksX1_pass_2_5 15 rfl rfl)
theorem dX1_pass_2_134 : decode cX1_pass_2 134 = .ok (.invokevirtual 79, 3) := dk_182 0 79 (dk_at dksX1_pass_2_5 18 rfl rfl)
theorem dX1_pass_2_137 : decode cX1_pass_2 137 = .ok (.astore 4, 2) := dk_58 4 (dk_at dksX1_pass_2_5 21 rfl rfl)
theorem dX1_pass_2_139 : decode cX1_pass_2 139 = .ok (.aload 4, 2) := dk_25 4 (dk_at dksX1_pass_2_6 0 rfl rfl)
theorem dX1_pass_2_141 : decode cX1_pass_2 141 = .ok (.invokeinterface 37 1, 5) := by decide +kernel
theorem dX1_pass_2_146 : decode cX1_pass_2 146 = .ok (.ifCond .eq 23, 3) := dk_153 0 23 (dk_at dksX1_pass_2_6 7 rfl rfl)
theorem dX1_pass_2_149 : decode cX1_pass_2 149 = .ok (.aload 4, 2) := dk_25 4 (dk_at dksX1_pass_2_6 10 rfl rfl)
theorem dX1_pass_2_151 : decode cX1_pass_2 151 = .ok (.invokeinterface 43 1, 5) := by decide +kernel
theorem dX1_pass_2_156 : decode cX1_pass_2 156 = .ok (.checkcast 59, 3) := dk_192 0 59 (dk_at dksX1_pass_2_6 17 rfl rfl)
theorem dX1_pass_2_159 : decode cX1_pass_2 159 = .ok (.astore 5, 2) := dk_58 5 (dk_at dksX1_pass_2_6 20 rfl rfl)
theorem dX1_pass_2_161 : decode cX1_pass_2 161 = .ok (.aload 5, 2) := dk_25 5 (dk_at dksX1_pass_2_6 22 rfl rfl)
theorem dX1_pass_2_163 : decode cX1_pass_2 163 = .ok (.invokevirtual 167, 3) := dk_182 0 167 (dk_at dksX1_pass_2_7 0 rfl rfl)
theorem dX1_pass_2_166 : decode cX1_pass_2 166 = .ok (.goto (-27), 3) := dk_167 255 229 (dk_at dksX1_pass_2_7 3 rfl rfl)
theorem dX1_pass_2_169 : decode cX1_pass_2 169 = .ok (.aload_n 0, 1) := dk_42 (dk_at dksX1_pass_2_7 6 rfl rfl)
theorem dX1_pass_2_170 : decode cX1_pass_2 170 = .ok (.getfield 143, 3) := dk_180 0 143 (dk_at dksX1_pass_2_7 7 rfl rfl)
theorem dX1_pass_2_173 : decode cX1_pass_2 173 = .ok (.bipush 10, 2) := dk_16 10 (dk_at dksX1_pass_2_7 10 rfl rfl)
theorem dX1_pass_2_175 : decode cX1_pass_2 175 = .ok (.irem, 1) := dk_112 (dk_at dksX1_pass_2_7 12 rfl rfl)
theorem dX1_pass_2_176 : decode cX1_pass_2 176 = .ok (.ifCond .ne 27, 3) := dk_154 0 27 (dk_at dksX1_pass_2_7 13 rfl rfl)
theorem dX1_pass_2_179 : decode cX1_pass_2 179 = .ok (.aload_n 0, 1) := dk_42 (dk_at dksX1_pass_2_7 16 rfl rfl)
theorem dX1_pass_2_180 : decode cX1_pass_2 180 = .ok (.sipush 9999, 3) := dk_17 39 15 (dk_at dksX1_pass_2_7 17 rfl rfl)
theorem dX1_pass_2_183 : decode cX1_pass_2 183 = .ok (.aload_n 0, 1) := dk_42 (dk_at dksX1_pass_2_7 20 rfl rfl)
theorem dX1_pass_2_184 : decode cX1_pass_2 184 = .ok (.getfield 169, 3) := dk_180 0 169 (dk_at dksX1_pass_2_7 21 rfl rfl)
theorem dX1_pass_2_187 : decode cX1_pass_2 187 = .ok (.aload_n 0, 1) := dk_42 (dk_at dksX1_pass_2_8 0 rfl rfl)
theorem dX1_pass_2_188 : decode cX1_pass_2 188 = .ok (.getfield 169, 3) := dk_180 0 169 (dk_at dksX1_pass_2_8 1 rfl rfl)
theorem dX1_pass_2_191 : decode cX1_pass_2 191 = .ok (.bipush 10, 2) := dk_16 10 (dk_at dksX1_pass_2_8 4 rfl rfl)
theorem dX1_pass_2_193 : decode cX1_pass_2 193 = .ok (.invokestatic 172, 3) := dk_184 0 172 (dk_at dksX1_pass_2_8 6 rfl rfl)
theorem dX1_pass_2_196 : decode cX1_pass_2 196 = .ok (.iadd, 1) := dk_96 (dk_at dksX1_pass_2_8 9 rfl rfl)
theorem dX1_pass_2_197 : decode cX1_pass_2 197 = .ok (.invokestatic 176, 3) := dk_184 0 176 (dk_at dksX1_pass_2_8 10 rfl rfl)
theorem dX1_pass_2_200 : decode cX1_pass_2 200 = .ok (.putfield 169, 3) := dk_181 0 169 (dk_at dksX1_pass_2_8 13 rfl rfl)
theorem dX1_pass_2_203 : decode cX1_pass_2 203 = .ok (.aload_n 0, 1) := dk_42 (dk_at dksX1_pass_2_8 16 rfl rfl)
theorem dX1_pass_2_204 : decode cX1_pass_2 204 = .ok (.dup, 1) := dk_89 (dk_at dksX1_pass_2_8 17 rfl rfl)
theorem dX1_pass_2_205 : decode cX1_pass_2 205 = .ok (.getfield 181, 3) := dk_180 0 181 (dk_at dksX1_pass_2_8 18 rfl rfl)
theorem dX1_pass_2_208 : decode cX1_pass_2 208 = .ok (.iload_n 3, 1) := dk_29 (dk_at dksX1_pass_2_8 21 rfl rfl)
theorem dX1_pass_2_209 : decode cX1_pass_2 209 = .ok (.iadd, 1) := dk_96 (dk_at dksX1_pass_2_8 22 rfl rfl)
theorem dX1_pass_2_210 : decode cX1_pass_2 210 = .ok (.putfield 181, 3) := dk_181 0 181 (dk_at dksX1_pass_2_9 0 rfl rfl)
theorem dX1_pass_2_213 : decode cX1_pass_2 213 = .ok (.iload_n 3, 1) := dk_29 (dk_at dksX1_pass_2_9 3 rfl rfl)
theorem dX1_pass_2_214 : decode cX1_pass_2 214 = .ok (.ireturn, 1) := dk_172 (dk_at dksX1_pass_2_9 4 rfl rfl)
abbrev cX1_pick : ByteArray := prog_1_method_18_code
def yX1_pick : MethodName := ⟨RX1, "pick", "(II)I"⟩
def dkwX1_pick_2 : List UInt8 := [181, 0, 197, 21, 4, 172]
abbrev dktX1_pick_2 : List UInt8 := dkwX1_pick_2 ++ []
def dkwX1_pick_1 : List UInt8 := [180, 0, 194, 21, 4, 96, 181, 0, 194, 42, 180, 0, 146, 153, 0, 14, 42, 89, 180, 0, 197, 21, 4, 96]
abbrev dktX1_pick_1 : List UInt8 := dkwX1_pick_1 ++ dktX1_pick_2
def dkwX1_pick_0 : List UInt8 := [42, 27, 182, 0, 187, 78, 4, 16, 99, 28, 184, 0, 133, 45, 28, 182, 0, 191, 54, 4, 42, 89]
abbrev dktX1_pick_0 : List UInt8 := dkwX1_pick_0 ++ dktX1_pick_1
theorem dksX1_pick_0 : cX1_pick.data.toList.drop 0 = dktX1_pick_0 := by decide +kernel
theorem dksX1_pick_1 : cX1_pick.data.toList.drop 22 = dktX1_pick_1 := dk_seg dksX1_pick_0 22 rfl rfl
theorem dksX1_pick_2 : cX1_pick.data.toList.drop 46 = dktX1_pick_2 := dk_seg dksX1_pick_1 24 rfl rfl
theorem dX1_pick_0 : decode cX1_pick 0 = .ok (.aload_n 0, 1) := dk_42 (dk_at dksX1_pick_0 0 rfl rfl)
theorem dX1_pick_1 : decode cX1_pick 1 = .ok (.iload_n 1, 1) := dk_27 (dk_at dksX1_pick_0 1 rfl rfl)
theorem dX1_pick_2 : decode cX1_pick 2 = .ok (.invokevirtual 187, 3) := dk_182 0 187 (dk_at dksX1_pick_0 2 rfl rfl)
theorem dX1_pick_5 : decode cX1_pick 5 = .ok (.astore_n 3, 1) := dk_78 (dk_at dksX1_pick_0 5 rfl rfl)
theorem dX1_pick_6 : decode cX1_pick 6 = .ok (.iconst 1, 1) := dk_4 (dk_at dksX1_pick_0 6 rfl rfl)
theorem dX1_pick_7 : decode cX1_pick 7 = .ok (.bipush 99, 2) := dk_16 99 (dk_at dksX1_pick_0 7 rfl rfl)
theorem dX1_pick_9 : decode cX1_pick 9 = .ok (.iload_n 2, 1) := dk_28 (dk_at dksX1_pick_0 9 rfl rfl)
theorem dX1_pick_10 : decode cX1_pick 10 = .ok (.invokestatic 133, 3) := dk_184 0 133 (dk_at dksX1_pick_0 10 rfl rfl)
theorem dX1_pick_13 : decode cX1_pick 13 = .ok (.aload_n 3, 1) := dk_45 (dk_at dksX1_pick_0 13 rfl rfl)
theorem dX1_pick_14 : decode cX1_pick 14 = .ok (.iload_n 2, 1) := dk_28 (dk_at dksX1_pick_0 14 rfl rfl)
theorem dX1_pick_15 : decode cX1_pick 15 = .ok (.invokevirtual 191, 3) := dk_182 0 191 (dk_at dksX1_pick_0 15 rfl rfl)
theorem dX1_pick_18 : decode cX1_pick 18 = .ok (.istore 4, 2) := dk_54 4 (dk_at dksX1_pick_0 18 rfl rfl)
theorem dX1_pick_20 : decode cX1_pick 20 = .ok (.aload_n 0, 1) := dk_42 (dk_at dksX1_pick_0 20 rfl rfl)
theorem dX1_pick_21 : decode cX1_pick 21 = .ok (.dup, 1) := dk_89 (dk_at dksX1_pick_0 21 rfl rfl)
theorem dX1_pick_22 : decode cX1_pick 22 = .ok (.getfield 194, 3) := dk_180 0 194 (dk_at dksX1_pick_1 0 rfl rfl)
theorem dX1_pick_25 : decode cX1_pick 25 = .ok (.iload 4, 2) := dk_21 4 (dk_at dksX1_pick_1 3 rfl rfl)
theorem dX1_pick_27 : decode cX1_pick 27 = .ok (.iadd, 1) := dk_96 (dk_at dksX1_pick_1 5 rfl rfl)
theorem dX1_pick_28 : decode cX1_pick 28 = .ok (.putfield 194, 3) := dk_181 0 194 (dk_at dksX1_pick_1 6 rfl rfl)
theorem dX1_pick_31 : decode cX1_pick 31 = .ok (.aload_n 0, 1) := dk_42 (dk_at dksX1_pick_1 9 rfl rfl)
theorem dX1_pick_32 : decode cX1_pick 32 = .ok (.getfield 146, 3) := dk_180 0 146 (dk_at dksX1_pick_1 10 rfl rfl)
theorem dX1_pick_35 : decode cX1_pick 35 = .ok (.ifCond .eq 14, 3) := dk_153 0 14 (dk_at dksX1_pick_1 13 rfl rfl)
theorem dX1_pick_38 : decode cX1_pick 38 = .ok (.aload_n 0, 1) := dk_42 (dk_at dksX1_pick_1 16 rfl rfl)
theorem dX1_pick_39 : decode cX1_pick 39 = .ok (.dup, 1) := dk_89 (dk_at dksX1_pick_1 17 rfl rfl)
theorem dX1_pick_40 : decode cX1_pick 40 = .ok (.getfield 197, 3) := dk_180 0 197 (dk_at dksX1_pick_1 18 rfl rfl)
theorem dX1_pick_43 : decode cX1_pick 43 = .ok (.iload 4, 2) := dk_21 4 (dk_at dksX1_pick_1 21 rfl rfl)
theorem dX1_pick_45 : decode cX1_pick 45 = .ok (.iadd, 1) := dk_96 (dk_at dksX1_pick_1 23 rfl rfl)
theorem dX1_pick_46 : decode cX1_pick 46 = .ok (.putfield 197, 3) := dk_181 0 197 (dk_at dksX1_pick_2 0 rfl rfl)
theorem dX1_pick_49 : decode cX1_pick 49 = .ok (.iload 4, 2) := dk_21 4 (dk_at dksX1_pick_2 3 rfl rfl)
theorem dX1_pick_51 : decode cX1_pick 51 = .ok (.ireturn, 1) := dk_172 (dk_at dksX1_pick_2 5 rfl rfl)
abbrev cX1_plotOf : ByteArray := prog_1_method_11_code
def yX1_plotOf : MethodName := ⟨RX1, "plotOf", "(I)LSilkRow$Plot;"⟩
def dkwX1_plotOf_0 : List UInt8 := [42, 180, 0, 98, 27, 184, 0, 127, 192, 0, 131, 176]
abbrev dktX1_plotOf_0 : List UInt8 := dkwX1_plotOf_0 ++ []
theorem dksX1_plotOf_0 : cX1_plotOf.data.toList.drop 0 = dktX1_plotOf_0 := by decide +kernel
theorem dX1_plotOf_0 : decode cX1_plotOf 0 = .ok (.aload_n 0, 1) := dk_42 (dk_at dksX1_plotOf_0 0 rfl rfl)
theorem dX1_plotOf_1 : decode cX1_plotOf 1 = .ok (.getfield 98, 3) := dk_180 0 98 (dk_at dksX1_plotOf_0 1 rfl rfl)
theorem dX1_plotOf_4 : decode cX1_plotOf 4 = .ok (.iload_n 1, 1) := dk_27 (dk_at dksX1_plotOf_0 4 rfl rfl)
theorem dX1_plotOf_5 : decode cX1_plotOf 5 = .ok (.invokestatic 127, 3) := dk_184 0 127 (dk_at dksX1_plotOf_0 5 rfl rfl)
theorem dX1_plotOf_8 : decode cX1_plotOf 8 = .ok (.checkcast 131, 3) := dk_192 0 131 (dk_at dksX1_plotOf_0 8 rfl rfl)
theorem dX1_plotOf_11 : decode cX1_plotOf 11 = .ok (.areturn, 1) := dk_176 (dk_at dksX1_plotOf_0 11 rfl rfl)
abbrev cX1_at : ByteArray := prog_1_method_5_code
def yX1_at : MethodName := ⟨RX1, "at", "(Ljava/util/List;I)Ljava/lang/Object;"⟩
def dkwX1_at_0 : List UInt8 := [27, 42, 185, 0, 19, 1, 0, 184, 0, 25, 42, 27, 185, 0, 29, 2, 0, 176]
abbrev dktX1_at_0 : List UInt8 := dkwX1_at_0 ++ []
theorem dksX1_at_0 : cX1_at.data.toList.drop 0 = dktX1_at_0 := by decide +kernel
theorem dX1_at_0 : decode cX1_at 0 = .ok (.iload_n 1, 1) := dk_27 (dk_at dksX1_at_0 0 rfl rfl)
theorem dX1_at_1 : decode cX1_at 1 = .ok (.aload_n 0, 1) := dk_42 (dk_at dksX1_at_0 1 rfl rfl)
theorem dX1_at_2 : decode cX1_at 2 = .ok (.invokeinterface 19 1, 5) := by decide +kernel
theorem dX1_at_7 : decode cX1_at 7 = .ok (.invokestatic 25, 3) := dk_184 0 25 (dk_at dksX1_at_0 7 rfl rfl)
theorem dX1_at_10 : decode cX1_at 10 = .ok (.aload_n 0, 1) := dk_42 (dk_at dksX1_at_0 10 rfl rfl)
theorem dX1_at_11 : decode cX1_at 11 = .ok (.iload_n 1, 1) := dk_27 (dk_at dksX1_at_0 11 rfl rfl)
theorem dX1_at_12 : decode cX1_at 12 = .ok (.invokeinterface 29 2, 5) := by decide +kernel
theorem dX1_at_17 : decode cX1_at 17 = .ok (.areturn, 1) := dk_176 (dk_at dksX1_at_0 17 rfl rfl)
abbrev cX1_requireIndex : ByteArray := prog_1_method_3_code
def yX1_requireIndex : MethodName := ⟨RX1, "requireIndex", "(II)V"⟩
def dkwX1_requireIndex_0 : List UInt8 := [26, 155, 0, 8, 26, 27, 161, 0, 11, 187, 0, 10, 89, 183, 0, 12, 191, 177]
abbrev dktX1_requireIndex_0 : List UInt8 := dkwX1_requireIndex_0 ++ []
theorem dksX1_requireIndex_0 : cX1_requireIndex.data.toList.drop 0 = dktX1_requireIndex_0 := by decide +kernel
theorem dX1_requireIndex_0 : decode cX1_requireIndex 0 = .ok (.iload_n 0, 1) := dk_26 (dk_at dksX1_requireIndex_0 0 rfl rfl)
theorem dX1_requireIndex_1 : decode cX1_requireIndex 1 = .ok (.ifCond .lt 8, 3) := dk_155 0 8 (dk_at dksX1_requireIndex_0 1 rfl rfl)
theorem dX1_requireIndex_4 : decode cX1_requireIndex 4 = .ok (.iload_n 0, 1) := dk_26 (dk_at dksX1_requireIndex_0 4 rfl rfl)
theorem dX1_requireIndex_5 : decode cX1_requireIndex 5 = .ok (.iload_n 1, 1) := dk_27 (dk_at dksX1_requireIndex_0 5 rfl rfl)
theorem dX1_requireIndex_6 : decode cX1_requireIndex 6 = .ok (.if_icmp .lt 11, 3) := dk_161 0 11 (dk_at dksX1_requireIndex_0 6 rfl rfl)
theorem dX1_requireIndex_9 : decode cX1_requireIndex 9 = .ok (.new 10, 3) := dk_187 0 10 (dk_at dksX1_requireIndex_0 9 rfl rfl)
theorem dX1_requireIndex_12 : decode cX1_requireIndex 12 = .ok (.dup, 1) := dk_89 (dk_at dksX1_requireIndex_0 12 rfl rfl)
theorem dX1_requireIndex_13 : decode cX1_requireIndex 13 = .ok (.invokespecial 12, 3) := dk_183 0 12 (dk_at dksX1_requireIndex_0 13 rfl rfl)
theorem dX1_requireIndex_16 : decode cX1_requireIndex 16 = .ok (.athrow, 1) := dk_191 (dk_at dksX1_requireIndex_0 16 rfl rfl)
theorem dX1_requireIndex_17 : decode cX1_requireIndex 17 = .ok (.return_, 1) := dk_177 (dk_at dksX1_requireIndex_0 17 rfl rfl)
abbrev cX1_prune : ByteArray := prog_1_method_19_code
def yX1_prune : MethodName := ⟨RX1, "prune", "(I)I"⟩
def dkwX1_prune_0 : List UInt8 := [42, 27, 182, 0, 187, 182, 0, 200, 172]
abbrev dktX1_prune_0 : List UInt8 := dkwX1_prune_0 ++ []
theorem dksX1_prune_0 : cX1_prune.data.toList.drop 0 = dktX1_prune_0 := by decide +kernel
theorem dX1_prune_0 : decode cX1_prune 0 = .ok (.aload_n 0, 1) := dk_42 (dk_at dksX1_prune_0 0 rfl rfl)
theorem dX1_prune_1 : decode cX1_prune 1 = .ok (.iload_n 1, 1) := dk_27 (dk_at dksX1_prune_0 1 rfl rfl)
theorem dX1_prune_2 : decode cX1_prune 2 = .ok (.invokevirtual 187, 3) := dk_182 0 187 (dk_at dksX1_prune_0 2 rfl rfl)
theorem dX1_prune_5 : decode cX1_prune 5 = .ok (.invokevirtual 200, 3) := dk_182 0 200 (dk_at dksX1_prune_0 5 rfl rfl)
theorem dX1_prune_8 : decode cX1_prune 8 = .ok (.ireturn, 1) := dk_172 (dk_at dksX1_prune_0 8 rfl rfl)
abbrev cX1_buy : ByteArray := prog_1_method_20_code
def yX1_buy : MethodName := ⟨RX1, "buy", "(I)I"⟩
def dkwX1_buy_2 : List UInt8 := [181, 0, 194, 28, 172]
abbrev dktX1_buy_2 : List UInt8 := dkwX1_buy_2 ++ []
def dkwX1_buy_1 : List UInt8 := [167, 0, 4, 3, 184, 0, 138, 42, 89, 180, 0, 117, 28, 100, 181, 0, 117, 42, 89, 180, 0, 194, 27, 96]
abbrev dktX1_buy_1 : List UInt8 := dkwX1_buy_1 ++ dktX1_buy_2
def dkwX1_buy_0 : List UInt8 := [4, 17, 1, 44, 27, 184, 0, 133, 27, 6, 184, 0, 172, 61, 28, 42, 180, 0, 117, 163, 0, 7, 4]
abbrev dktX1_buy_0 : List UInt8 := dkwX1_buy_0 ++ dktX1_buy_1
theorem dksX1_buy_0 : cX1_buy.data.toList.drop 0 = dktX1_buy_0 := by decide +kernel
theorem dksX1_buy_1 : cX1_buy.data.toList.drop 23 = dktX1_buy_1 := dk_seg dksX1_buy_0 23 rfl rfl
theorem dksX1_buy_2 : cX1_buy.data.toList.drop 47 = dktX1_buy_2 := dk_seg dksX1_buy_1 24 rfl rfl
theorem dX1_buy_0 : decode cX1_buy 0 = .ok (.iconst 1, 1) := dk_4 (dk_at dksX1_buy_0 0 rfl rfl)
theorem dX1_buy_1 : decode cX1_buy 1 = .ok (.sipush 300, 3) := dk_17 1 44 (dk_at dksX1_buy_0 1 rfl rfl)
theorem dX1_buy_4 : decode cX1_buy 4 = .ok (.iload_n 1, 1) := dk_27 (dk_at dksX1_buy_0 4 rfl rfl)
theorem dX1_buy_5 : decode cX1_buy 5 = .ok (.invokestatic 133, 3) := dk_184 0 133 (dk_at dksX1_buy_0 5 rfl rfl)
theorem dX1_buy_8 : decode cX1_buy 8 = .ok (.iload_n 1, 1) := dk_27 (dk_at dksX1_buy_0 8 rfl rfl)
theorem dX1_buy_9 : decode cX1_buy 9 = .ok (.iconst 3, 1) := dk_6 (dk_at dksX1_buy_0 9 rfl rfl)
theorem dX1_buy_10 : decode cX1_buy 10 = .ok (.invokestatic 172, 3) := dk_184 0 172 (dk_at dksX1_buy_0 10 rfl rfl)
theorem dX1_buy_13 : decode cX1_buy 13 = .ok (.istore_n 2, 1) := dk_61 (dk_at dksX1_buy_0 13 rfl rfl)
theorem dX1_buy_14 : decode cX1_buy 14 = .ok (.iload_n 2, 1) := dk_28 (dk_at dksX1_buy_0 14 rfl rfl)
theorem dX1_buy_15 : decode cX1_buy 15 = .ok (.aload_n 0, 1) := dk_42 (dk_at dksX1_buy_0 15 rfl rfl)
theorem dX1_buy_16 : decode cX1_buy 16 = .ok (.getfield 117, 3) := dk_180 0 117 (dk_at dksX1_buy_0 16 rfl rfl)
theorem dX1_buy_19 : decode cX1_buy 19 = .ok (.if_icmp .gt 7, 3) := dk_163 0 7 (dk_at dksX1_buy_0 19 rfl rfl)
theorem dX1_buy_22 : decode cX1_buy 22 = .ok (.iconst 1, 1) := dk_4 (dk_at dksX1_buy_0 22 rfl rfl)
theorem dX1_buy_23 : decode cX1_buy 23 = .ok (.goto 4, 3) := dk_167 0 4 (dk_at dksX1_buy_1 0 rfl rfl)
theorem dX1_buy_26 : decode cX1_buy 26 = .ok (.iconst 0, 1) := dk_3 (dk_at dksX1_buy_1 3 rfl rfl)
theorem dX1_buy_27 : decode cX1_buy 27 = .ok (.invokestatic 138, 3) := dk_184 0 138 (dk_at dksX1_buy_1 4 rfl rfl)
theorem dX1_buy_30 : decode cX1_buy 30 = .ok (.aload_n 0, 1) := dk_42 (dk_at dksX1_buy_1 7 rfl rfl)
theorem dX1_buy_31 : decode cX1_buy 31 = .ok (.dup, 1) := dk_89 (dk_at dksX1_buy_1 8 rfl rfl)
theorem dX1_buy_32 : decode cX1_buy 32 = .ok (.getfield 117, 3) := dk_180 0 117 (dk_at dksX1_buy_1 9 rfl rfl)
theorem dX1_buy_35 : decode cX1_buy 35 = .ok (.iload_n 2, 1) := dk_28 (dk_at dksX1_buy_1 12 rfl rfl)
theorem dX1_buy_36 : decode cX1_buy 36 = .ok (.isub, 1) := dk_100 (dk_at dksX1_buy_1 13 rfl rfl)
theorem dX1_buy_37 : decode cX1_buy 37 = .ok (.putfield 117, 3) := dk_181 0 117 (dk_at dksX1_buy_1 14 rfl rfl)
theorem dX1_buy_40 : decode cX1_buy 40 = .ok (.aload_n 0, 1) := dk_42 (dk_at dksX1_buy_1 17 rfl rfl)
theorem dX1_buy_41 : decode cX1_buy 41 = .ok (.dup, 1) := dk_89 (dk_at dksX1_buy_1 18 rfl rfl)
theorem dX1_buy_42 : decode cX1_buy 42 = .ok (.getfield 194, 3) := dk_180 0 194 (dk_at dksX1_buy_1 19 rfl rfl)
theorem dX1_buy_45 : decode cX1_buy 45 = .ok (.iload_n 1, 1) := dk_27 (dk_at dksX1_buy_1 22 rfl rfl)
theorem dX1_buy_46 : decode cX1_buy 46 = .ok (.iadd, 1) := dk_96 (dk_at dksX1_buy_1 23 rfl rfl)
theorem dX1_buy_47 : decode cX1_buy 47 = .ok (.putfield 194, 3) := dk_181 0 194 (dk_at dksX1_buy_2 0 rfl rfl)
theorem dX1_buy_50 : decode cX1_buy 50 = .ok (.iload_n 2, 1) := dk_28 (dk_at dksX1_buy_2 3 rfl rfl)
theorem dX1_buy_51 : decode cX1_buy 51 = .ok (.ireturn, 1) := dk_172 (dk_at dksX1_buy_2 4 rfl rfl)
abbrev cX1_line : ByteArray := prog_1_method_21_code
def yX1_line : MethodName := ⟨RX1, "line", "(IIII)I"⟩
def dkwX1_line_2 : List UInt8 := [25, 5, 21, 4, 181, 0, 207, 21, 6, 172]
abbrev dktX1_line_2 : List UInt8 := dkwX1_line_2 ++ []
def dkwX1_line_1 : List UInt8 := [21, 4, 184, 0, 133, 25, 5, 180, 0, 207, 54, 6, 25, 5, 28, 181, 0, 210, 25, 5, 29, 181, 0, 161]
abbrev dktX1_line_1 : List UInt8 := dkwX1_line_1 ++ dktX1_line_2
def dkwX1_line_0 : List UInt8 := [42, 27, 182, 0, 203, 58, 5, 5, 16, 6, 28, 184, 0, 133, 3, 16, 9, 29, 184, 0, 133, 3, 16, 10]
abbrev dktX1_line_0 : List UInt8 := dkwX1_line_0 ++ dktX1_line_1
theorem dksX1_line_0 : cX1_line.data.toList.drop 0 = dktX1_line_0 := by decide +kernel
theorem dksX1_line_1 : cX1_line.data.toList.drop 24 = dktX1_line_1 := dk_seg dksX1_line_0 24 rfl rfl
theorem dksX1_line_2 : cX1_line.data.toList.drop 48 = dktX1_line_2 := dk_seg dksX1_line_1 24 rfl rfl
theorem dX1_line_0 : decode cX1_line 0 = .ok (.aload_n 0, 1) := dk_42 (dk_at dksX1_line_0 0 rfl rfl)
theorem dX1_line_1 : decode cX1_line 1 = .ok (.iload_n 1, 1) := dk_27 (dk_at dksX1_line_0 1 rfl rfl)
theorem dX1_line_2 : decode cX1_line 2 = .ok (.invokevirtual 203, 3) := dk_182 0 203 (dk_at dksX1_line_0 2 rfl rfl)
theorem dX1_line_5 : decode cX1_line 5 = .ok (.astore 5, 2) := dk_58 5 (dk_at dksX1_line_0 5 rfl rfl)
theorem dX1_line_7 : decode cX1_line 7 = .ok (.iconst 2, 1) := dk_5 (dk_at dksX1_line_0 7 rfl rfl)
theorem dX1_line_8 : decode cX1_line 8 = .ok (.bipush 6, 2) := dk_16 6 (dk_at dksX1_line_0 8 rfl rfl)
theorem dX1_line_10 : decode cX1_line 10 = .ok (.iload_n 2, 1) := dk_28 (dk_at dksX1_line_0 10 rfl rfl)
theorem dX1_line_11 : decode cX1_line 11 = .ok (.invokestatic 133, 3) := dk_184 0 133 (dk_at dksX1_line_0 11 rfl rfl)
theorem dX1_line_14 : decode cX1_line 14 = .ok (.iconst 0, 1) := dk_3 (dk_at dksX1_line_0 14 rfl rfl)
theorem dX1_line_15 : decode cX1_line 15 = .ok (.bipush 9, 2) := dk_16 9 (dk_at dksX1_line_0 15 rfl rfl)
theorem dX1_line_17 : decode cX1_line 17 = .ok (.iload_n 3, 1) := dk_29 (dk_at dksX1_line_0 17 rfl rfl)
theorem dX1_line_18 : decode cX1_line 18 = .ok (.invokestatic 133, 3) := dk_184 0 133 (dk_at dksX1_line_0 18 rfl rfl)
theorem dX1_line_21 : decode cX1_line 21 = .ok (.iconst 0, 1) := dk_3 (dk_at dksX1_line_0 21 rfl rfl)
theorem dX1_line_22 : decode cX1_line 22 = .ok (.bipush 10, 2) := dk_16 10 (dk_at dksX1_line_0 22 rfl rfl)
theorem dX1_line_24 : decode cX1_line 24 = .ok (.iload 4, 2) := dk_21 4 (dk_at dksX1_line_1 0 rfl rfl)
theorem dX1_line_26 : decode cX1_line 26 = .ok (.invokestatic 133, 3) := dk_184 0 133 (dk_at dksX1_line_1 2 rfl rfl)
theorem dX1_line_29 : decode cX1_line 29 = .ok (.aload 5, 2) := dk_25 5 (dk_at dksX1_line_1 5 rfl rfl)
theorem dX1_line_31 : decode cX1_line 31 = .ok (.getfield 207, 3) := dk_180 0 207 (dk_at dksX1_line_1 7 rfl rfl)
theorem dX1_line_34 : decode cX1_line 34 = .ok (.istore 6, 2) := dk_54 6 (dk_at dksX1_line_1 10 rfl rfl)
theorem dX1_line_36 : decode cX1_line 36 = .ok (.aload 5, 2) := dk_25 5 (dk_at dksX1_line_1 12 rfl rfl)
theorem dX1_line_38 : decode cX1_line 38 = .ok (.iload_n 2, 1) := dk_28 (dk_at dksX1_line_1 14 rfl rfl)
theorem dX1_line_39 : decode cX1_line 39 = .ok (.putfield 210, 3) := dk_181 0 210 (dk_at dksX1_line_1 15 rfl rfl)
theorem dX1_line_42 : decode cX1_line 42 = .ok (.aload 5, 2) := dk_25 5 (dk_at dksX1_line_1 18 rfl rfl)
theorem dX1_line_44 : decode cX1_line 44 = .ok (.iload_n 3, 1) := dk_29 (dk_at dksX1_line_1 20 rfl rfl)
theorem dX1_line_45 : decode cX1_line 45 = .ok (.putfield 161, 3) := dk_181 0 161 (dk_at dksX1_line_1 21 rfl rfl)
theorem dX1_line_48 : decode cX1_line 48 = .ok (.aload 5, 2) := dk_25 5 (dk_at dksX1_line_2 0 rfl rfl)
theorem dX1_line_50 : decode cX1_line 50 = .ok (.iload 4, 2) := dk_21 4 (dk_at dksX1_line_2 2 rfl rfl)
theorem dX1_line_52 : decode cX1_line 52 = .ok (.putfield 207, 3) := dk_181 0 207 (dk_at dksX1_line_2 4 rfl rfl)
theorem dX1_line_55 : decode cX1_line 55 = .ok (.iload 6, 2) := dk_21 6 (dk_at dksX1_line_2 7 rfl rfl)
theorem dX1_line_57 : decode cX1_line 57 = .ok (.ireturn, 1) := dk_172 (dk_at dksX1_line_2 9 rfl rfl)
abbrev cX1_lineOf : ByteArray := prog_1_method_12_code
def yX1_lineOf : MethodName := ⟨RX1, "lineOf", "(I)LSilkRow$Line;"⟩
def dkwX1_lineOf_0 : List UInt8 := [42, 180, 0, 102, 27, 184, 0, 127, 192, 0, 120, 176]
abbrev dktX1_lineOf_0 : List UInt8 := dkwX1_lineOf_0 ++ []
theorem dksX1_lineOf_0 : cX1_lineOf.data.toList.drop 0 = dktX1_lineOf_0 := by decide +kernel
theorem dX1_lineOf_0 : decode cX1_lineOf 0 = .ok (.aload_n 0, 1) := dk_42 (dk_at dksX1_lineOf_0 0 rfl rfl)
theorem dX1_lineOf_1 : decode cX1_lineOf 1 = .ok (.getfield 102, 3) := dk_180 0 102 (dk_at dksX1_lineOf_0 1 rfl rfl)
theorem dX1_lineOf_4 : decode cX1_lineOf 4 = .ok (.iload_n 1, 1) := dk_27 (dk_at dksX1_lineOf_0 4 rfl rfl)
theorem dX1_lineOf_5 : decode cX1_lineOf 5 = .ok (.invokestatic 127, 3) := dk_184 0 127 (dk_at dksX1_lineOf_0 5 rfl rfl)
theorem dX1_lineOf_8 : decode cX1_lineOf 8 = .ok (.checkcast 120, 3) := dk_192 0 120 (dk_at dksX1_lineOf_0 8 rfl rfl)
theorem dX1_lineOf_11 : decode cX1_lineOf 11 = .ok (.areturn, 1) := dk_176 (dk_at dksX1_lineOf_0 11 rfl rfl)
abbrev cX1_hatch : ByteArray := prog_1_method_22_code
def yX1_hatch : MethodName := ⟨RX1, "hatch", "(III)I"⟩
def dkwX1_hatch_3 : List UInt8 := [25, 5, 180, 0, 216, 172]
abbrev dktX1_hatch_3 : List UInt8 := dkwX1_hatch_3 ++ []
def dkwX1_hatch_2 : List UInt8 := [25, 4, 180, 0, 207, 104, 16, 10, 108, 181, 0, 216, 25, 5, 27, 181, 0, 159, 25, 5, 4, 181, 0, 219]
abbrev dktX1_hatch_2 : List UInt8 := dkwX1_hatch_2 ++ dktX1_hatch_3
def dkwX1_hatch_1 : List UInt8 := [180, 0, 153, 154, 0, 7, 4, 167, 0, 4, 3, 184, 0, 138, 25, 5, 29, 181, 0, 153, 25, 5, 29]
abbrev dktX1_hatch_1 : List UInt8 := dkwX1_hatch_1 ++ dktX1_hatch_2
def dkwX1_hatch_0 : List UInt8 := [42, 27, 182, 0, 203, 58, 4, 42, 28, 182, 0, 212, 58, 5, 4, 17, 0, 200, 29, 184, 0, 133, 25, 5]
abbrev dktX1_hatch_0 : List UInt8 := dkwX1_hatch_0 ++ dktX1_hatch_1
theorem dksX1_hatch_0 : cX1_hatch.data.toList.drop 0 = dktX1_hatch_0 := by decide +kernel
theorem dksX1_hatch_1 : cX1_hatch.data.toList.drop 24 = dktX1_hatch_1 := dk_seg dksX1_hatch_0 24 rfl rfl
theorem dksX1_hatch_2 : cX1_hatch.data.toList.drop 47 = dktX1_hatch_2 := dk_seg dksX1_hatch_1 23 rfl rfl
theorem dksX1_hatch_3 : cX1_hatch.data.toList.drop 71 = dktX1_hatch_3 := dk_seg dksX1_hatch_2 24 rfl rfl
theorem dX1_hatch_0 : decode cX1_hatch 0 = .ok (.aload_n 0, 1) := dk_42 (dk_at dksX1_hatch_0 0 rfl rfl)
theorem dX1_hatch_1 : decode cX1_hatch 1 = .ok (.iload_n 1, 1) := dk_27 (dk_at dksX1_hatch_0 1 rfl rfl)
theorem dX1_hatch_2 : decode cX1_hatch 2 = .ok (.invokevirtual 203, 3) := dk_182 0 203 (dk_at dksX1_hatch_0 2 rfl rfl)
theorem dX1_hatch_5 : decode cX1_hatch 5 = .ok (.astore 4, 2) := dk_58 4 (dk_at dksX1_hatch_0 5 rfl rfl)
theorem dX1_hatch_7 : decode cX1_hatch 7 = .ok (.aload_n 0, 1) := dk_42 (dk_at dksX1_hatch_0 7 rfl rfl)
theorem dX1_hatch_8 : decode cX1_hatch 8 = .ok (.iload_n 2, 1) := dk_28 (dk_at dksX1_hatch_0 8 rfl rfl)
theorem dX1_hatch_9 : decode cX1_hatch 9 = .ok (.invokevirtual 212, 3) := dk_182 0 212 (dk_at dksX1_hatch_0 9 rfl rfl)
theorem dX1_hatch_12 : decode cX1_hatch 12 = .ok (.astore 5, 2) := dk_58 5 (dk_at dksX1_hatch_0 12 rfl rfl)
theorem dX1_hatch_14 : decode cX1_hatch 14 = .ok (.iconst 1, 1) := dk_4 (dk_at dksX1_hatch_0 14 rfl rfl)
theorem dX1_hatch_15 : decode cX1_hatch 15 = .ok (.sipush 200, 3) := dk_17 0 200 (dk_at dksX1_hatch_0 15 rfl rfl)
theorem dX1_hatch_18 : decode cX1_hatch 18 = .ok (.iload_n 3, 1) := dk_29 (dk_at dksX1_hatch_0 18 rfl rfl)
theorem dX1_hatch_19 : decode cX1_hatch 19 = .ok (.invokestatic 133, 3) := dk_184 0 133 (dk_at dksX1_hatch_0 19 rfl rfl)
theorem dX1_hatch_22 : decode cX1_hatch 22 = .ok (.aload 5, 2) := dk_25 5 (dk_at dksX1_hatch_0 22 rfl rfl)
theorem dX1_hatch_24 : decode cX1_hatch 24 = .ok (.getfield 153, 3) := dk_180 0 153 (dk_at dksX1_hatch_1 0 rfl rfl)
theorem dX1_hatch_27 : decode cX1_hatch 27 = .ok (.ifCond .ne 7, 3) := dk_154 0 7 (dk_at dksX1_hatch_1 3 rfl rfl)
theorem dX1_hatch_30 : decode cX1_hatch 30 = .ok (.iconst 1, 1) := dk_4 (dk_at dksX1_hatch_1 6 rfl rfl)
theorem dX1_hatch_31 : decode cX1_hatch 31 = .ok (.goto 4, 3) := dk_167 0 4 (dk_at dksX1_hatch_1 7 rfl rfl)
theorem dX1_hatch_34 : decode cX1_hatch 34 = .ok (.iconst 0, 1) := dk_3 (dk_at dksX1_hatch_1 10 rfl rfl)
theorem dX1_hatch_35 : decode cX1_hatch 35 = .ok (.invokestatic 138, 3) := dk_184 0 138 (dk_at dksX1_hatch_1 11 rfl rfl)
theorem dX1_hatch_38 : decode cX1_hatch 38 = .ok (.aload 5, 2) := dk_25 5 (dk_at dksX1_hatch_1 14 rfl rfl)
theorem dX1_hatch_40 : decode cX1_hatch 40 = .ok (.iload_n 3, 1) := dk_29 (dk_at dksX1_hatch_1 16 rfl rfl)
theorem dX1_hatch_41 : decode cX1_hatch 41 = .ok (.putfield 153, 3) := dk_181 0 153 (dk_at dksX1_hatch_1 17 rfl rfl)
theorem dX1_hatch_44 : decode cX1_hatch 44 = .ok (.aload 5, 2) := dk_25 5 (dk_at dksX1_hatch_1 20 rfl rfl)
theorem dX1_hatch_46 : decode cX1_hatch 46 = .ok (.iload_n 3, 1) := dk_29 (dk_at dksX1_hatch_1 22 rfl rfl)
theorem dX1_hatch_47 : decode cX1_hatch 47 = .ok (.aload 4, 2) := dk_25 4 (dk_at dksX1_hatch_2 0 rfl rfl)
theorem dX1_hatch_49 : decode cX1_hatch 49 = .ok (.getfield 207, 3) := dk_180 0 207 (dk_at dksX1_hatch_2 2 rfl rfl)
theorem dX1_hatch_52 : decode cX1_hatch 52 = .ok (.imul, 1) := dk_104 (dk_at dksX1_hatch_2 5 rfl rfl)
theorem dX1_hatch_53 : decode cX1_hatch 53 = .ok (.bipush 10, 2) := dk_16 10 (dk_at dksX1_hatch_2 6 rfl rfl)
theorem dX1_hatch_55 : decode cX1_hatch 55 = .ok (.idiv, 1) := dk_108 (dk_at dksX1_hatch_2 8 rfl rfl)
theorem dX1_hatch_56 : decode cX1_hatch 56 = .ok (.putfield 216, 3) := dk_181 0 216 (dk_at dksX1_hatch_2 9 rfl rfl)
theorem dX1_hatch_59 : decode cX1_hatch 59 = .ok (.aload 5, 2) := dk_25 5 (dk_at dksX1_hatch_2 12 rfl rfl)
theorem dX1_hatch_61 : decode cX1_hatch 61 = .ok (.iload_n 1, 1) := dk_27 (dk_at dksX1_hatch_2 14 rfl rfl)
theorem dX1_hatch_62 : decode cX1_hatch 62 = .ok (.putfield 159, 3) := dk_181 0 159 (dk_at dksX1_hatch_2 15 rfl rfl)
theorem dX1_hatch_65 : decode cX1_hatch 65 = .ok (.aload 5, 2) := dk_25 5 (dk_at dksX1_hatch_2 18 rfl rfl)
theorem dX1_hatch_67 : decode cX1_hatch 67 = .ok (.iconst 1, 1) := dk_4 (dk_at dksX1_hatch_2 20 rfl rfl)
theorem dX1_hatch_68 : decode cX1_hatch 68 = .ok (.putfield 219, 3) := dk_181 0 219 (dk_at dksX1_hatch_2 21 rfl rfl)
theorem dX1_hatch_71 : decode cX1_hatch 71 = .ok (.aload 5, 2) := dk_25 5 (dk_at dksX1_hatch_3 0 rfl rfl)
theorem dX1_hatch_73 : decode cX1_hatch 73 = .ok (.getfield 216, 3) := dk_180 0 216 (dk_at dksX1_hatch_3 2 rfl rfl)
theorem dX1_hatch_76 : decode cX1_hatch 76 = .ok (.ireturn, 1) := dk_172 (dk_at dksX1_hatch_3 5 rfl rfl)
abbrev cX1_trayOf : ByteArray := prog_1_method_13_code
def yX1_trayOf : MethodName := ⟨RX1, "trayOf", "(I)LSilkRow$Tray;"⟩
def dkwX1_trayOf_0 : List UInt8 := [42, 180, 0, 105, 27, 184, 0, 127, 192, 0, 124, 176]
abbrev dktX1_trayOf_0 : List UInt8 := dkwX1_trayOf_0 ++ []
theorem dksX1_trayOf_0 : cX1_trayOf.data.toList.drop 0 = dktX1_trayOf_0 := by decide +kernel
theorem dX1_trayOf_0 : decode cX1_trayOf 0 = .ok (.aload_n 0, 1) := dk_42 (dk_at dksX1_trayOf_0 0 rfl rfl)
theorem dX1_trayOf_1 : decode cX1_trayOf 1 = .ok (.getfield 105, 3) := dk_180 0 105 (dk_at dksX1_trayOf_0 1 rfl rfl)
theorem dX1_trayOf_4 : decode cX1_trayOf 4 = .ok (.iload_n 1, 1) := dk_27 (dk_at dksX1_trayOf_0 4 rfl rfl)
theorem dX1_trayOf_5 : decode cX1_trayOf 5 = .ok (.invokestatic 127, 3) := dk_184 0 127 (dk_at dksX1_trayOf_0 5 rfl rfl)
theorem dX1_trayOf_8 : decode cX1_trayOf 8 = .ok (.checkcast 124, 3) := dk_192 0 124 (dk_at dksX1_trayOf_0 8 rfl rfl)
theorem dX1_trayOf_11 : decode cX1_trayOf 11 = .ok (.areturn, 1) := dk_176 (dk_at dksX1_trayOf_0 11 rfl rfl)
abbrev cX1_feed : ByteArray := prog_1_method_23_code
def yX1_feed : MethodName := ⟨RX1, "feed", "(II)I"⟩
def dkwX1_feed_4 : List UInt8 := [96, 181, 0, 225, 45, 89, 180, 0, 228, 21, 5, 96, 181, 0, 228, 21, 4, 172]
abbrev dktX1_feed_4 : List UInt8 := dkwX1_feed_4 ++ []
def dkwX1_feed_3 : List UInt8 := [21, 4, 100, 181, 0, 194, 42, 89, 180, 0, 197, 21, 5, 100, 181, 0, 197, 45, 89, 180, 0, 225, 21, 4]
abbrev dktX1_feed_3 : List UInt8 := dkwX1_feed_3 ++ dktX1_feed_4
def dkwX1_feed_2 : List UInt8 := [180, 0, 194, 184, 0, 176, 54, 4, 21, 4, 42, 180, 0, 197, 184, 0, 176, 54, 5, 42, 89, 180, 0, 194]
abbrev dktX1_feed_2 : List UInt8 := dkwX1_feed_2 ++ dktX1_feed_3
def dkwX1_feed_1 : List UInt8 := [180, 0, 222, 154, 0, 14, 45, 180, 0, 156, 154, 0, 7, 4, 167, 0, 4, 3, 184, 0, 138, 28, 42]
abbrev dktX1_feed_1 : List UInt8 := dkwX1_feed_1 ++ dktX1_feed_2
def dkwX1_feed_0 : List UInt8 := [42, 27, 182, 0, 212, 78, 4, 17, 3, 231, 28, 184, 0, 133, 45, 180, 0, 153, 158, 0, 21, 45]
abbrev dktX1_feed_0 : List UInt8 := dkwX1_feed_0 ++ dktX1_feed_1
theorem dksX1_feed_0 : cX1_feed.data.toList.drop 0 = dktX1_feed_0 := by decide +kernel
theorem dksX1_feed_1 : cX1_feed.data.toList.drop 22 = dktX1_feed_1 := dk_seg dksX1_feed_0 22 rfl rfl
theorem dksX1_feed_2 : cX1_feed.data.toList.drop 45 = dktX1_feed_2 := dk_seg dksX1_feed_1 23 rfl rfl
theorem dksX1_feed_3 : cX1_feed.data.toList.drop 69 = dktX1_feed_3 := dk_seg dksX1_feed_2 24 rfl rfl
theorem dksX1_feed_4 : cX1_feed.data.toList.drop 93 = dktX1_feed_4 := dk_seg dksX1_feed_3 24 rfl rfl
theorem dX1_feed_0 : decode cX1_feed 0 = .ok (.aload_n 0, 1) := dk_42 (dk_at dksX1_feed_0 0 rfl rfl)
theorem dX1_feed_1 : decode cX1_feed 1 = .ok (.iload_n 1, 1) := dk_27 (dk_at dksX1_feed_0 1 rfl rfl)
theorem dX1_feed_2 : decode cX1_feed 2 = .ok (.invokevirtual 212, 3) := dk_182 0 212 (dk_at dksX1_feed_0 2 rfl rfl)
theorem dX1_feed_5 : decode cX1_feed 5 = .ok (.astore_n 3, 1) := dk_78 (dk_at dksX1_feed_0 5 rfl rfl)
theorem dX1_feed_6 : decode cX1_feed 6 = .ok (.iconst 1, 1) := dk_4 (dk_at dksX1_feed_0 6 rfl rfl)
theorem dX1_feed_7 : decode cX1_feed 7 = .ok (.sipush 999, 3) := dk_17 3 231 (dk_at dksX1_feed_0 7 rfl rfl)
theorem dX1_feed_10 : decode cX1_feed 10 = .ok (.iload_n 2, 1) := dk_28 (dk_at dksX1_feed_0 10 rfl rfl)
theorem dX1_feed_11 : decode cX1_feed 11 = .ok (.invokestatic 133, 3) := dk_184 0 133 (dk_at dksX1_feed_0 11 rfl rfl)
theorem dX1_feed_14 : decode cX1_feed 14 = .ok (.aload_n 3, 1) := dk_45 (dk_at dksX1_feed_0 14 rfl rfl)
theorem dX1_feed_15 : decode cX1_feed 15 = .ok (.getfield 153, 3) := dk_180 0 153 (dk_at dksX1_feed_0 15 rfl rfl)
theorem dX1_feed_18 : decode cX1_feed 18 = .ok (.ifCond .le 21, 3) := dk_158 0 21 (dk_at dksX1_feed_0 18 rfl rfl)
theorem dX1_feed_21 : decode cX1_feed 21 = .ok (.aload_n 3, 1) := dk_45 (dk_at dksX1_feed_0 21 rfl rfl)
theorem dX1_feed_22 : decode cX1_feed 22 = .ok (.getfield 222, 3) := dk_180 0 222 (dk_at dksX1_feed_1 0 rfl rfl)
theorem dX1_feed_25 : decode cX1_feed 25 = .ok (.ifCond .ne 14, 3) := dk_154 0 14 (dk_at dksX1_feed_1 3 rfl rfl)
theorem dX1_feed_28 : decode cX1_feed 28 = .ok (.aload_n 3, 1) := dk_45 (dk_at dksX1_feed_1 6 rfl rfl)
theorem dX1_feed_29 : decode cX1_feed 29 = .ok (.getfield 156, 3) := dk_180 0 156 (dk_at dksX1_feed_1 7 rfl rfl)
theorem dX1_feed_32 : decode cX1_feed 32 = .ok (.ifCond .ne 7, 3) := dk_154 0 7 (dk_at dksX1_feed_1 10 rfl rfl)
theorem dX1_feed_35 : decode cX1_feed 35 = .ok (.iconst 1, 1) := dk_4 (dk_at dksX1_feed_1 13 rfl rfl)
theorem dX1_feed_36 : decode cX1_feed 36 = .ok (.goto 4, 3) := dk_167 0 4 (dk_at dksX1_feed_1 14 rfl rfl)
theorem dX1_feed_39 : decode cX1_feed 39 = .ok (.iconst 0, 1) := dk_3 (dk_at dksX1_feed_1 17 rfl rfl)
theorem dX1_feed_40 : decode cX1_feed 40 = .ok (.invokestatic 138, 3) := dk_184 0 138 (dk_at dksX1_feed_1 18 rfl rfl)
theorem dX1_feed_43 : decode cX1_feed 43 = .ok (.iload_n 2, 1) := dk_28 (dk_at dksX1_feed_1 21 rfl rfl)
theorem dX1_feed_44 : decode cX1_feed 44 = .ok (.aload_n 0, 1) := dk_42 (dk_at dksX1_feed_1 22 rfl rfl)
theorem dX1_feed_45 : decode cX1_feed 45 = .ok (.getfield 194, 3) := dk_180 0 194 (dk_at dksX1_feed_2 0 rfl rfl)
theorem dX1_feed_48 : decode cX1_feed 48 = .ok (.invokestatic 176, 3) := dk_184 0 176 (dk_at dksX1_feed_2 3 rfl rfl)
theorem dX1_feed_51 : decode cX1_feed 51 = .ok (.istore 4, 2) := dk_54 4 (dk_at dksX1_feed_2 6 rfl rfl)
theorem dX1_feed_53 : decode cX1_feed 53 = .ok (.iload 4, 2) := dk_21 4 (dk_at dksX1_feed_2 8 rfl rfl)
theorem dX1_feed_55 : decode cX1_feed 55 = .ok (.aload_n 0, 1) := dk_42 (dk_at dksX1_feed_2 10 rfl rfl)
theorem dX1_feed_56 : decode cX1_feed 56 = .ok (.getfield 197, 3) := dk_180 0 197 (dk_at dksX1_feed_2 11 rfl rfl)
theorem dX1_feed_59 : decode cX1_feed 59 = .ok (.invokestatic 176, 3) := dk_184 0 176 (dk_at dksX1_feed_2 14 rfl rfl)
theorem dX1_feed_62 : decode cX1_feed 62 = .ok (.istore 5, 2) := dk_54 5 (dk_at dksX1_feed_2 17 rfl rfl)
theorem dX1_feed_64 : decode cX1_feed 64 = .ok (.aload_n 0, 1) := dk_42 (dk_at dksX1_feed_2 19 rfl rfl)
theorem dX1_feed_65 : decode cX1_feed 65 = .ok (.dup, 1) := dk_89 (dk_at dksX1_feed_2 20 rfl rfl)
theorem dX1_feed_66 : decode cX1_feed 66 = .ok (.getfield 194, 3) := dk_180 0 194 (dk_at dksX1_feed_2 21 rfl rfl)
theorem dX1_feed_69 : decode cX1_feed 69 = .ok (.iload 4, 2) := dk_21 4 (dk_at dksX1_feed_3 0 rfl rfl)
theorem dX1_feed_71 : decode cX1_feed 71 = .ok (.isub, 1) := dk_100 (dk_at dksX1_feed_3 2 rfl rfl)
theorem dX1_feed_72 : decode cX1_feed 72 = .ok (.putfield 194, 3) := dk_181 0 194 (dk_at dksX1_feed_3 3 rfl rfl)
theorem dX1_feed_75 : decode cX1_feed 75 = .ok (.aload_n 0, 1) := dk_42 (dk_at dksX1_feed_3 6 rfl rfl)
theorem dX1_feed_76 : decode cX1_feed 76 = .ok (.dup, 1) := dk_89 (dk_at dksX1_feed_3 7 rfl rfl)
theorem dX1_feed_77 : decode cX1_feed 77 = .ok (.getfield 197, 3) := dk_180 0 197 (dk_at dksX1_feed_3 8 rfl rfl)
theorem dX1_feed_80 : decode cX1_feed 80 = .ok (.iload 5, 2) := dk_21 5 (dk_at dksX1_feed_3 11 rfl rfl)
theorem dX1_feed_82 : decode cX1_feed 82 = .ok (.isub, 1) := dk_100 (dk_at dksX1_feed_3 13 rfl rfl)
theorem dX1_feed_83 : decode cX1_feed 83 = .ok (.putfield 197, 3) := dk_181 0 197 (dk_at dksX1_feed_3 14 rfl rfl)
theorem dX1_feed_86 : decode cX1_feed 86 = .ok (.aload_n 3, 1) := dk_45 (dk_at dksX1_feed_3 17 rfl rfl)
theorem dX1_feed_87 : decode cX1_feed 87 = .ok (.dup, 1) := dk_89 (dk_at dksX1_feed_3 18 rfl rfl)
theorem dX1_feed_88 : decode cX1_feed 88 = .ok (.getfield 225, 3) := dk_180 0 225 (dk_at dksX1_feed_3 19 rfl rfl)
theorem dX1_feed_91 : decode cX1_feed 91 = .ok (.iload 4, 2) := dk_21 4 (dk_at dksX1_feed_3 22 rfl rfl)
theorem dX1_feed_93 : decode cX1_feed 93 = .ok (.iadd, 1) := dk_96 (dk_at dksX1_feed_4 0 rfl rfl)
theorem dX1_feed_94 : decode cX1_feed 94 = .ok (.putfield 225, 3) := dk_181 0 225 (dk_at dksX1_feed_4 1 rfl rfl)
theorem dX1_feed_97 : decode cX1_feed 97 = .ok (.aload_n 3, 1) := dk_45 (dk_at dksX1_feed_4 4 rfl rfl)
theorem dX1_feed_98 : decode cX1_feed 98 = .ok (.dup, 1) := dk_89 (dk_at dksX1_feed_4 5 rfl rfl)
theorem dX1_feed_99 : decode cX1_feed 99 = .ok (.getfield 228, 3) := dk_180 0 228 (dk_at dksX1_feed_4 6 rfl rfl)
theorem dX1_feed_102 : decode cX1_feed 102 = .ok (.iload 5, 2) := dk_21 5 (dk_at dksX1_feed_4 9 rfl rfl)
theorem dX1_feed_104 : decode cX1_feed 104 = .ok (.iadd, 1) := dk_96 (dk_at dksX1_feed_4 11 rfl rfl)
theorem dX1_feed_105 : decode cX1_feed 105 = .ok (.putfield 228, 3) := dk_181 0 228 (dk_at dksX1_feed_4 12 rfl rfl)
theorem dX1_feed_108 : decode cX1_feed 108 = .ok (.iload 4, 2) := dk_21 4 (dk_at dksX1_feed_4 15 rfl rfl)
theorem dX1_feed_110 : decode cX1_feed 110 = .ok (.ireturn, 1) := dk_172 (dk_at dksX1_feed_4 17 rfl rfl)
abbrev cX1_clean : ByteArray := prog_1_method_25_code
def yX1_clean : MethodName := ⟨RX1, "clean", "(I)I"⟩
def dkwX1_clean_0 : List UInt8 := [42, 27, 182, 0, 231, 182, 0, 234, 61, 42, 89, 180, 0, 181, 28, 96, 181, 0, 181, 28, 172]
abbrev dktX1_clean_0 : List UInt8 := dkwX1_clean_0 ++ []
theorem dksX1_clean_0 : cX1_clean.data.toList.drop 0 = dktX1_clean_0 := by decide +kernel
theorem dX1_clean_0 : decode cX1_clean 0 = .ok (.aload_n 0, 1) := dk_42 (dk_at dksX1_clean_0 0 rfl rfl)
theorem dX1_clean_1 : decode cX1_clean 1 = .ok (.iload_n 1, 1) := dk_27 (dk_at dksX1_clean_0 1 rfl rfl)
theorem dX1_clean_2 : decode cX1_clean 2 = .ok (.invokevirtual 231, 3) := dk_182 0 231 (dk_at dksX1_clean_0 2 rfl rfl)
theorem dX1_clean_5 : decode cX1_clean 5 = .ok (.invokevirtual 234, 3) := dk_182 0 234 (dk_at dksX1_clean_0 5 rfl rfl)
theorem dX1_clean_8 : decode cX1_clean 8 = .ok (.istore_n 2, 1) := dk_61 (dk_at dksX1_clean_0 8 rfl rfl)
theorem dX1_clean_9 : decode cX1_clean 9 = .ok (.aload_n 0, 1) := dk_42 (dk_at dksX1_clean_0 9 rfl rfl)
theorem dX1_clean_10 : decode cX1_clean 10 = .ok (.dup, 1) := dk_89 (dk_at dksX1_clean_0 10 rfl rfl)
theorem dX1_clean_11 : decode cX1_clean 11 = .ok (.getfield 181, 3) := dk_180 0 181 (dk_at dksX1_clean_0 11 rfl rfl)
theorem dX1_clean_14 : decode cX1_clean 14 = .ok (.iload_n 2, 1) := dk_28 (dk_at dksX1_clean_0 14 rfl rfl)
theorem dX1_clean_15 : decode cX1_clean 15 = .ok (.iadd, 1) := dk_96 (dk_at dksX1_clean_0 15 rfl rfl)
theorem dX1_clean_16 : decode cX1_clean 16 = .ok (.putfield 181, 3) := dk_181 0 181 (dk_at dksX1_clean_0 16 rfl rfl)
theorem dX1_clean_19 : decode cX1_clean 19 = .ok (.iload_n 2, 1) := dk_28 (dk_at dksX1_clean_0 19 rfl rfl)
theorem dX1_clean_20 : decode cX1_clean 20 = .ok (.ireturn, 1) := dk_172 (dk_at dksX1_clean_0 20 rfl rfl)
abbrev cX1_withWorms : ByteArray := prog_1_method_24_code
def yX1_withWorms : MethodName := ⟨RX1, "withWorms", "(I)LSilkRow$Tray;"⟩
def dkwX1_withWorms_0 : List UInt8 := [42, 27, 182, 0, 212, 77, 44, 180, 0, 153, 158, 0, 7, 4, 167, 0, 4, 3, 184, 0, 138, 44, 176]
abbrev dktX1_withWorms_0 : List UInt8 := dkwX1_withWorms_0 ++ []
theorem dksX1_withWorms_0 : cX1_withWorms.data.toList.drop 0 = dktX1_withWorms_0 := by decide +kernel
theorem dX1_withWorms_0 : decode cX1_withWorms 0 = .ok (.aload_n 0, 1) := dk_42 (dk_at dksX1_withWorms_0 0 rfl rfl)
theorem dX1_withWorms_1 : decode cX1_withWorms 1 = .ok (.iload_n 1, 1) := dk_27 (dk_at dksX1_withWorms_0 1 rfl rfl)
theorem dX1_withWorms_2 : decode cX1_withWorms 2 = .ok (.invokevirtual 212, 3) := dk_182 0 212 (dk_at dksX1_withWorms_0 2 rfl rfl)
theorem dX1_withWorms_5 : decode cX1_withWorms 5 = .ok (.astore_n 2, 1) := dk_77 (dk_at dksX1_withWorms_0 5 rfl rfl)
theorem dX1_withWorms_6 : decode cX1_withWorms 6 = .ok (.aload_n 2, 1) := dk_44 (dk_at dksX1_withWorms_0 6 rfl rfl)
theorem dX1_withWorms_7 : decode cX1_withWorms 7 = .ok (.getfield 153, 3) := dk_180 0 153 (dk_at dksX1_withWorms_0 7 rfl rfl)
theorem dX1_withWorms_10 : decode cX1_withWorms 10 = .ok (.ifCond .le 7, 3) := dk_158 0 7 (dk_at dksX1_withWorms_0 10 rfl rfl)
theorem dX1_withWorms_13 : decode cX1_withWorms 13 = .ok (.iconst 1, 1) := dk_4 (dk_at dksX1_withWorms_0 13 rfl rfl)
theorem dX1_withWorms_14 : decode cX1_withWorms 14 = .ok (.goto 4, 3) := dk_167 0 4 (dk_at dksX1_withWorms_0 14 rfl rfl)
theorem dX1_withWorms_17 : decode cX1_withWorms 17 = .ok (.iconst 0, 1) := dk_3 (dk_at dksX1_withWorms_0 17 rfl rfl)
theorem dX1_withWorms_18 : decode cX1_withWorms 18 = .ok (.invokestatic 138, 3) := dk_184 0 138 (dk_at dksX1_withWorms_0 18 rfl rfl)
theorem dX1_withWorms_21 : decode cX1_withWorms 21 = .ok (.aload_n 2, 1) := dk_44 (dk_at dksX1_withWorms_0 21 rfl rfl)
theorem dX1_withWorms_22 : decode cX1_withWorms 22 = .ok (.areturn, 1) := dk_176 (dk_at dksX1_withWorms_0 22 rfl rfl)
abbrev cX1_part : ByteArray := prog_1_method_26_code
def yX1_part : MethodName := ⟨RX1, "part", "(III)I"⟩
def dkwX1_part_4 : List UInt8 := [16, 10, 184, 0, 172, 182, 0, 241, 96, 181, 0, 181, 21, 6, 172]
abbrev dktX1_part_4 : List UInt8 := dkwX1_part_4 ++ []
def dkwX1_part_3 : List UInt8 := [25, 5, 29, 182, 0, 237, 54, 6, 25, 4, 180, 0, 222, 158, 0, 23, 42, 89, 180, 0, 181, 25, 5, 29]
abbrev dktX1_part_3 : List UInt8 := dkwX1_part_3 ++ dktX1_part_4
def dkwX1_part_2 : List UInt8 := [180, 0, 156, 154, 0, 15, 25, 5, 180, 0, 153, 154, 0, 7, 4, 167, 0, 4, 3, 184, 0, 138, 25, 4]
abbrev dktX1_part_2 : List UInt8 := dkwX1_part_2 ++ dktX1_part_3
def dkwX1_part_1 : List UInt8 := [161, 0, 7, 4, 167, 0, 4, 3, 184, 0, 13, 25, 4, 180, 0, 153, 29, 164, 0, 23, 25, 4]
abbrev dktX1_part_1 : List UInt8 := dkwX1_part_1 ++ dktX1_part_2
def dkwX1_part_0 : List UInt8 := [42, 27, 182, 0, 212, 58, 4, 42, 28, 182, 0, 212, 58, 5, 25, 4, 25, 5, 165, 0, 12, 29, 4]
abbrev dktX1_part_0 : List UInt8 := dkwX1_part_0 ++ dktX1_part_1
theorem dksX1_part_0 : cX1_part.data.toList.drop 0 = dktX1_part_0 := by decide +kernel
theorem dksX1_part_1 : cX1_part.data.toList.drop 23 = dktX1_part_1 := dk_seg dksX1_part_0 23 rfl rfl
theorem dksX1_part_2 : cX1_part.data.toList.drop 45 = dktX1_part_2 := dk_seg dksX1_part_1 22 rfl rfl
theorem dksX1_part_3 : cX1_part.data.toList.drop 69 = dktX1_part_3 := dk_seg dksX1_part_2 24 rfl rfl
theorem dksX1_part_4 : cX1_part.data.toList.drop 93 = dktX1_part_4 := dk_seg dksX1_part_3 24 rfl rfl
theorem dX1_part_0 : decode cX1_part 0 = .ok (.aload_n 0, 1) := dk_42 (dk_at dksX1_part_0 0 rfl rfl)
theorem dX1_part_1 : decode cX1_part 1 = .ok (.iload_n 1, 1) := dk_27 (dk_at dksX1_part_0 1 rfl rfl)
theorem dX1_part_2 : decode cX1_part 2 = .ok (.invokevirtual 212, 3) := dk_182 0 212 (dk_at dksX1_part_0 2 rfl rfl)
theorem dX1_part_5 : decode cX1_part 5 = .ok (.astore 4, 2) := dk_58 4 (dk_at dksX1_part_0 5 rfl rfl)
theorem dX1_part_7 : decode cX1_part 7 = .ok (.aload_n 0, 1) := dk_42 (dk_at dksX1_part_0 7 rfl rfl)
theorem dX1_part_8 : decode cX1_part 8 = .ok (.iload_n 2, 1) := dk_28 (dk_at dksX1_part_0 8 rfl rfl)
theorem dX1_part_9 : decode cX1_part 9 = .ok (.invokevirtual 212, 3) := dk_182 0 212 (dk_at dksX1_part_0 9 rfl rfl)
theorem dX1_part_12 : decode cX1_part 12 = .ok (.astore 5, 2) := dk_58 5 (dk_at dksX1_part_0 12 rfl rfl)
theorem dX1_part_14 : decode cX1_part 14 = .ok (.aload 4, 2) := dk_25 4 (dk_at dksX1_part_0 14 rfl rfl)
theorem dX1_part_16 : decode cX1_part 16 = .ok (.aload 5, 2) := dk_25 5 (dk_at dksX1_part_0 16 rfl rfl)
theorem dX1_part_18 : decode cX1_part 18 = .ok (.if_acmp .eq 12, 3) := dk_165 0 12 (dk_at dksX1_part_0 18 rfl rfl)
theorem dX1_part_21 : decode cX1_part 21 = .ok (.iload_n 3, 1) := dk_29 (dk_at dksX1_part_0 21 rfl rfl)
theorem dX1_part_22 : decode cX1_part 22 = .ok (.iconst 1, 1) := dk_4 (dk_at dksX1_part_0 22 rfl rfl)
theorem dX1_part_23 : decode cX1_part 23 = .ok (.if_icmp .lt 7, 3) := dk_161 0 7 (dk_at dksX1_part_1 0 rfl rfl)
theorem dX1_part_26 : decode cX1_part 26 = .ok (.iconst 1, 1) := dk_4 (dk_at dksX1_part_1 3 rfl rfl)
theorem dX1_part_27 : decode cX1_part 27 = .ok (.goto 4, 3) := dk_167 0 4 (dk_at dksX1_part_1 4 rfl rfl)
theorem dX1_part_30 : decode cX1_part 30 = .ok (.iconst 0, 1) := dk_3 (dk_at dksX1_part_1 7 rfl rfl)
theorem dX1_part_31 : decode cX1_part 31 = .ok (.invokestatic 13, 3) := dk_184 0 13 (dk_at dksX1_part_1 8 rfl rfl)
theorem dX1_part_34 : decode cX1_part 34 = .ok (.aload 4, 2) := dk_25 4 (dk_at dksX1_part_1 11 rfl rfl)
theorem dX1_part_36 : decode cX1_part 36 = .ok (.getfield 153, 3) := dk_180 0 153 (dk_at dksX1_part_1 13 rfl rfl)
theorem dX1_part_39 : decode cX1_part 39 = .ok (.iload_n 3, 1) := dk_29 (dk_at dksX1_part_1 16 rfl rfl)
theorem dX1_part_40 : decode cX1_part 40 = .ok (.if_icmp .le 23, 3) := dk_164 0 23 (dk_at dksX1_part_1 17 rfl rfl)
theorem dX1_part_43 : decode cX1_part 43 = .ok (.aload 4, 2) := dk_25 4 (dk_at dksX1_part_1 20 rfl rfl)
theorem dX1_part_45 : decode cX1_part 45 = .ok (.getfield 156, 3) := dk_180 0 156 (dk_at dksX1_part_2 0 rfl rfl)
theorem dX1_part_48 : decode cX1_part 48 = .ok (.ifCond .ne 15, 3) := dk_154 0 15 (dk_at dksX1_part_2 3 rfl rfl)
theorem dX1_part_51 : decode cX1_part 51 = .ok (.aload 5, 2) := dk_25 5 (dk_at dksX1_part_2 6 rfl rfl)
theorem dX1_part_53 : decode cX1_part 53 = .ok (.getfield 153, 3) := dk_180 0 153 (dk_at dksX1_part_2 8 rfl rfl)
theorem dX1_part_56 : decode cX1_part 56 = .ok (.ifCond .ne 7, 3) := dk_154 0 7 (dk_at dksX1_part_2 11 rfl rfl)
theorem dX1_part_59 : decode cX1_part 59 = .ok (.iconst 1, 1) := dk_4 (dk_at dksX1_part_2 14 rfl rfl)
theorem dX1_part_60 : decode cX1_part 60 = .ok (.goto 4, 3) := dk_167 0 4 (dk_at dksX1_part_2 15 rfl rfl)
theorem dX1_part_63 : decode cX1_part 63 = .ok (.iconst 0, 1) := dk_3 (dk_at dksX1_part_2 18 rfl rfl)
theorem dX1_part_64 : decode cX1_part 64 = .ok (.invokestatic 138, 3) := dk_184 0 138 (dk_at dksX1_part_2 19 rfl rfl)
theorem dX1_part_67 : decode cX1_part 67 = .ok (.aload 4, 2) := dk_25 4 (dk_at dksX1_part_2 22 rfl rfl)
theorem dX1_part_69 : decode cX1_part 69 = .ok (.aload 5, 2) := dk_25 5 (dk_at dksX1_part_3 0 rfl rfl)
theorem dX1_part_71 : decode cX1_part 71 = .ok (.iload_n 3, 1) := dk_29 (dk_at dksX1_part_3 2 rfl rfl)
theorem dX1_part_72 : decode cX1_part 72 = .ok (.invokevirtual 237, 3) := dk_182 0 237 (dk_at dksX1_part_3 3 rfl rfl)
theorem dX1_part_75 : decode cX1_part 75 = .ok (.istore 6, 2) := dk_54 6 (dk_at dksX1_part_3 6 rfl rfl)
theorem dX1_part_77 : decode cX1_part 77 = .ok (.aload 4, 2) := dk_25 4 (dk_at dksX1_part_3 8 rfl rfl)
theorem dX1_part_79 : decode cX1_part 79 = .ok (.getfield 222, 3) := dk_180 0 222 (dk_at dksX1_part_3 10 rfl rfl)
theorem dX1_part_82 : decode cX1_part 82 = .ok (.ifCond .le 23, 3) := dk_158 0 23 (dk_at dksX1_part_3 13 rfl rfl)
theorem dX1_part_85 : decode cX1_part 85 = .ok (.aload_n 0, 1) := dk_42 (dk_at dksX1_part_3 16 rfl rfl)
theorem dX1_part_86 : decode cX1_part 86 = .ok (.dup, 1) := dk_89 (dk_at dksX1_part_3 17 rfl rfl)
theorem dX1_part_87 : decode cX1_part 87 = .ok (.getfield 181, 3) := dk_180 0 181 (dk_at dksX1_part_3 18 rfl rfl)
theorem dX1_part_90 : decode cX1_part 90 = .ok (.aload 5, 2) := dk_25 5 (dk_at dksX1_part_3 21 rfl rfl)
theorem dX1_part_92 : decode cX1_part 92 = .ok (.iload_n 3, 1) := dk_29 (dk_at dksX1_part_3 23 rfl rfl)
theorem dX1_part_93 : decode cX1_part 93 = .ok (.bipush 10, 2) := dk_16 10 (dk_at dksX1_part_4 0 rfl rfl)
theorem dX1_part_95 : decode cX1_part 95 = .ok (.invokestatic 172, 3) := dk_184 0 172 (dk_at dksX1_part_4 2 rfl rfl)
theorem dX1_part_98 : decode cX1_part 98 = .ok (.invokevirtual 241, 3) := dk_182 0 241 (dk_at dksX1_part_4 5 rfl rfl)
theorem dX1_part_101 : decode cX1_part 101 = .ok (.iadd, 1) := dk_96 (dk_at dksX1_part_4 8 rfl rfl)
theorem dX1_part_102 : decode cX1_part 102 = .ok (.putfield 181, 3) := dk_181 0 181 (dk_at dksX1_part_4 9 rfl rfl)
theorem dX1_part_105 : decode cX1_part 105 = .ok (.iload 6, 2) := dk_21 6 (dk_at dksX1_part_4 12 rfl rfl)
theorem dX1_part_107 : decode cX1_part 107 = .ok (.ireturn, 1) := dk_172 (dk_at dksX1_part_4 14 rfl rfl)
abbrev cX1_mount : ByteArray := prog_1_method_27_code
def yX1_mount : MethodName := ⟨RX1, "mount", "(I)I"⟩
def dkwX1_mount_4 : List UInt8 := [87, 44, 182, 0, 249, 42, 180, 0, 108, 182, 0, 137, 4, 100, 172]
abbrev dktX1_mount_4 : List UInt8 := dkwX1_mount_4 ++ []
def dkwX1_mount_3 : List UInt8 := [58, 4, 25, 4, 44, 180, 0, 153, 44, 180, 0, 216, 182, 0, 246, 42, 180, 0, 108, 25, 4, 182, 0, 123]
abbrev dktX1_mount_3 : List UInt8 := dkwX1_mount_3 ++ dktX1_mount_4
def dkwX1_mount_2 : List UInt8 := [192, 0, 120, 78, 187, 0, 59, 89, 44, 180, 0, 159, 45, 180, 0, 210, 45, 180, 0, 161, 183, 0, 244]
abbrev dktX1_mount_2 : List UInt8 := dkwX1_mount_2 ++ dktX1_mount_3
def dkwX1_mount_1 : List UInt8 := [162, 0, 7, 4, 167, 0, 4, 3, 184, 0, 138, 42, 180, 0, 102, 44, 180, 0, 159, 182, 0, 160]
abbrev dktX1_mount_1 : List UInt8 := dkwX1_mount_1 ++ dktX1_mount_2
def dkwX1_mount_0 : List UInt8 := [42, 27, 182, 0, 212, 77, 44, 180, 0, 156, 153, 0, 19, 42, 180, 0, 108, 182, 0, 137, 16, 10]
abbrev dktX1_mount_0 : List UInt8 := dkwX1_mount_0 ++ dktX1_mount_1
theorem dksX1_mount_0 : cX1_mount.data.toList.drop 0 = dktX1_mount_0 := by decide +kernel
theorem dksX1_mount_1 : cX1_mount.data.toList.drop 22 = dktX1_mount_1 := dk_seg dksX1_mount_0 22 rfl rfl
theorem dksX1_mount_2 : cX1_mount.data.toList.drop 44 = dktX1_mount_2 := dk_seg dksX1_mount_1 22 rfl rfl
theorem dksX1_mount_3 : cX1_mount.data.toList.drop 67 = dktX1_mount_3 := dk_seg dksX1_mount_2 23 rfl rfl
theorem dksX1_mount_4 : cX1_mount.data.toList.drop 91 = dktX1_mount_4 := dk_seg dksX1_mount_3 24 rfl rfl
theorem dX1_mount_0 : decode cX1_mount 0 = .ok (.aload_n 0, 1) := dk_42 (dk_at dksX1_mount_0 0 rfl rfl)
theorem dX1_mount_1 : decode cX1_mount 1 = .ok (.iload_n 1, 1) := dk_27 (dk_at dksX1_mount_0 1 rfl rfl)
theorem dX1_mount_2 : decode cX1_mount 2 = .ok (.invokevirtual 212, 3) := dk_182 0 212 (dk_at dksX1_mount_0 2 rfl rfl)
theorem dX1_mount_5 : decode cX1_mount 5 = .ok (.astore_n 2, 1) := dk_77 (dk_at dksX1_mount_0 5 rfl rfl)
theorem dX1_mount_6 : decode cX1_mount 6 = .ok (.aload_n 2, 1) := dk_44 (dk_at dksX1_mount_0 6 rfl rfl)
theorem dX1_mount_7 : decode cX1_mount 7 = .ok (.getfield 156, 3) := dk_180 0 156 (dk_at dksX1_mount_0 7 rfl rfl)
theorem dX1_mount_10 : decode cX1_mount 10 = .ok (.ifCond .eq 19, 3) := dk_153 0 19 (dk_at dksX1_mount_0 10 rfl rfl)
theorem dX1_mount_13 : decode cX1_mount 13 = .ok (.aload_n 0, 1) := dk_42 (dk_at dksX1_mount_0 13 rfl rfl)
theorem dX1_mount_14 : decode cX1_mount 14 = .ok (.getfield 108, 3) := dk_180 0 108 (dk_at dksX1_mount_0 14 rfl rfl)
theorem dX1_mount_17 : decode cX1_mount 17 = .ok (.invokevirtual 137, 3) := dk_182 0 137 (dk_at dksX1_mount_0 17 rfl rfl)
theorem dX1_mount_20 : decode cX1_mount 20 = .ok (.bipush 10, 2) := dk_16 10 (dk_at dksX1_mount_0 20 rfl rfl)
theorem dX1_mount_22 : decode cX1_mount 22 = .ok (.if_icmp .ge 7, 3) := dk_162 0 7 (dk_at dksX1_mount_1 0 rfl rfl)
theorem dX1_mount_25 : decode cX1_mount 25 = .ok (.iconst 1, 1) := dk_4 (dk_at dksX1_mount_1 3 rfl rfl)
theorem dX1_mount_26 : decode cX1_mount 26 = .ok (.goto 4, 3) := dk_167 0 4 (dk_at dksX1_mount_1 4 rfl rfl)
theorem dX1_mount_29 : decode cX1_mount 29 = .ok (.iconst 0, 1) := dk_3 (dk_at dksX1_mount_1 7 rfl rfl)
theorem dX1_mount_30 : decode cX1_mount 30 = .ok (.invokestatic 138, 3) := dk_184 0 138 (dk_at dksX1_mount_1 8 rfl rfl)
theorem dX1_mount_33 : decode cX1_mount 33 = .ok (.aload_n 0, 1) := dk_42 (dk_at dksX1_mount_1 11 rfl rfl)
theorem dX1_mount_34 : decode cX1_mount 34 = .ok (.getfield 102, 3) := dk_180 0 102 (dk_at dksX1_mount_1 12 rfl rfl)
theorem dX1_mount_37 : decode cX1_mount 37 = .ok (.aload_n 2, 1) := dk_44 (dk_at dksX1_mount_1 15 rfl rfl)
theorem dX1_mount_38 : decode cX1_mount 38 = .ok (.getfield 159, 3) := dk_180 0 159 (dk_at dksX1_mount_1 16 rfl rfl)
theorem dX1_mount_41 : decode cX1_mount 41 = .ok (.invokevirtual 160, 3) := dk_182 0 160 (dk_at dksX1_mount_1 19 rfl rfl)
theorem dX1_mount_44 : decode cX1_mount 44 = .ok (.checkcast 120, 3) := dk_192 0 120 (dk_at dksX1_mount_2 0 rfl rfl)
theorem dX1_mount_47 : decode cX1_mount 47 = .ok (.astore_n 3, 1) := dk_78 (dk_at dksX1_mount_2 3 rfl rfl)
theorem dX1_mount_48 : decode cX1_mount 48 = .ok (.new 59, 3) := dk_187 0 59 (dk_at dksX1_mount_2 4 rfl rfl)
theorem dX1_mount_51 : decode cX1_mount 51 = .ok (.dup, 1) := dk_89 (dk_at dksX1_mount_2 7 rfl rfl)
theorem dX1_mount_52 : decode cX1_mount 52 = .ok (.aload_n 2, 1) := dk_44 (dk_at dksX1_mount_2 8 rfl rfl)
theorem dX1_mount_53 : decode cX1_mount 53 = .ok (.getfield 159, 3) := dk_180 0 159 (dk_at dksX1_mount_2 9 rfl rfl)
theorem dX1_mount_56 : decode cX1_mount 56 = .ok (.aload_n 3, 1) := dk_45 (dk_at dksX1_mount_2 12 rfl rfl)
theorem dX1_mount_57 : decode cX1_mount 57 = .ok (.getfield 210, 3) := dk_180 0 210 (dk_at dksX1_mount_2 13 rfl rfl)
theorem dX1_mount_60 : decode cX1_mount 60 = .ok (.aload_n 3, 1) := dk_45 (dk_at dksX1_mount_2 16 rfl rfl)
theorem dX1_mount_61 : decode cX1_mount 61 = .ok (.getfield 161, 3) := dk_180 0 161 (dk_at dksX1_mount_2 17 rfl rfl)
theorem dX1_mount_64 : decode cX1_mount 64 = .ok (.invokespecial 244, 3) := dk_183 0 244 (dk_at dksX1_mount_2 20 rfl rfl)
theorem dX1_mount_67 : decode cX1_mount 67 = .ok (.astore 4, 2) := dk_58 4 (dk_at dksX1_mount_3 0 rfl rfl)
theorem dX1_mount_69 : decode cX1_mount 69 = .ok (.aload 4, 2) := dk_25 4 (dk_at dksX1_mount_3 2 rfl rfl)
theorem dX1_mount_71 : decode cX1_mount 71 = .ok (.aload_n 2, 1) := dk_44 (dk_at dksX1_mount_3 4 rfl rfl)
theorem dX1_mount_72 : decode cX1_mount 72 = .ok (.getfield 153, 3) := dk_180 0 153 (dk_at dksX1_mount_3 5 rfl rfl)
theorem dX1_mount_75 : decode cX1_mount 75 = .ok (.aload_n 2, 1) := dk_44 (dk_at dksX1_mount_3 8 rfl rfl)
theorem dX1_mount_76 : decode cX1_mount 76 = .ok (.getfield 216, 3) := dk_180 0 216 (dk_at dksX1_mount_3 9 rfl rfl)
theorem dX1_mount_79 : decode cX1_mount 79 = .ok (.invokevirtual 246, 3) := dk_182 0 246 (dk_at dksX1_mount_3 12 rfl rfl)
theorem dX1_mount_82 : decode cX1_mount 82 = .ok (.aload_n 0, 1) := dk_42 (dk_at dksX1_mount_3 15 rfl rfl)
theorem dX1_mount_83 : decode cX1_mount 83 = .ok (.getfield 108, 3) := dk_180 0 108 (dk_at dksX1_mount_3 16 rfl rfl)
theorem dX1_mount_86 : decode cX1_mount 86 = .ok (.aload 4, 2) := dk_25 4 (dk_at dksX1_mount_3 19 rfl rfl)
theorem dX1_mount_88 : decode cX1_mount 88 = .ok (.invokevirtual 123, 3) := dk_182 0 123 (dk_at dksX1_mount_3 21 rfl rfl)
theorem dX1_mount_91 : decode cX1_mount 91 = .ok (.pop, 1) := dk_87 (dk_at dksX1_mount_4 0 rfl rfl)
theorem dX1_mount_92 : decode cX1_mount 92 = .ok (.aload_n 2, 1) := dk_44 (dk_at dksX1_mount_4 1 rfl rfl)
theorem dX1_mount_93 : decode cX1_mount 93 = .ok (.invokevirtual 249, 3) := dk_182 0 249 (dk_at dksX1_mount_4 2 rfl rfl)
theorem dX1_mount_96 : decode cX1_mount 96 = .ok (.aload_n 0, 1) := dk_42 (dk_at dksX1_mount_4 5 rfl rfl)
theorem dX1_mount_97 : decode cX1_mount 97 = .ok (.getfield 108, 3) := dk_180 0 108 (dk_at dksX1_mount_4 6 rfl rfl)
theorem dX1_mount_100 : decode cX1_mount 100 = .ok (.invokevirtual 137, 3) := dk_182 0 137 (dk_at dksX1_mount_4 9 rfl rfl)
theorem dX1_mount_103 : decode cX1_mount 103 = .ok (.iconst 1, 1) := dk_4 (dk_at dksX1_mount_4 12 rfl rfl)
theorem dX1_mount_104 : decode cX1_mount 104 = .ok (.isub, 1) := dk_100 (dk_at dksX1_mount_4 13 rfl rfl)
theorem dX1_mount_105 : decode cX1_mount 105 = .ok (.ireturn, 1) := dk_172 (dk_at dksX1_mount_4 14 rfl rfl)
abbrev cX1_stifle : ByteArray := prog_1_method_29_code
def yX1_stifle : MethodName := ⟨RX1, "stifle", "(I)I"⟩
def dkwX1_stifle_0 : List UInt8 := [42, 27, 182, 1, 3, 77, 44, 4, 181, 1, 0, 44, 182, 1, 6, 172]
abbrev dktX1_stifle_0 : List UInt8 := dkwX1_stifle_0 ++ []
theorem dksX1_stifle_0 : cX1_stifle.data.toList.drop 0 = dktX1_stifle_0 := by decide +kernel
theorem dX1_stifle_0 : decode cX1_stifle 0 = .ok (.aload_n 0, 1) := dk_42 (dk_at dksX1_stifle_0 0 rfl rfl)
theorem dX1_stifle_1 : decode cX1_stifle 1 = .ok (.iload_n 1, 1) := dk_27 (dk_at dksX1_stifle_0 1 rfl rfl)
theorem dX1_stifle_2 : decode cX1_stifle 2 = .ok (.invokevirtual 259, 3) := dk_182 1 3 (dk_at dksX1_stifle_0 2 rfl rfl)
theorem dX1_stifle_5 : decode cX1_stifle 5 = .ok (.astore_n 2, 1) := dk_77 (dk_at dksX1_stifle_0 5 rfl rfl)
theorem dX1_stifle_6 : decode cX1_stifle 6 = .ok (.aload_n 2, 1) := dk_44 (dk_at dksX1_stifle_0 6 rfl rfl)
theorem dX1_stifle_7 : decode cX1_stifle 7 = .ok (.iconst 1, 1) := dk_4 (dk_at dksX1_stifle_0 7 rfl rfl)
theorem dX1_stifle_8 : decode cX1_stifle 8 = .ok (.putfield 256, 3) := dk_181 1 0 (dk_at dksX1_stifle_0 8 rfl rfl)
theorem dX1_stifle_11 : decode cX1_stifle 11 = .ok (.aload_n 2, 1) := dk_44 (dk_at dksX1_stifle_0 11 rfl rfl)
theorem dX1_stifle_12 : decode cX1_stifle 12 = .ok (.invokevirtual 262, 3) := dk_182 1 6 (dk_at dksX1_stifle_0 12 rfl rfl)
theorem dX1_stifle_15 : decode cX1_stifle 15 = .ok (.ireturn, 1) := dk_172 (dk_at dksX1_stifle_0 15 rfl rfl)
abbrev cX1_fresh : ByteArray := prog_1_method_28_code
def yX1_fresh : MethodName := ⟨RX1, "fresh", "(I)LSilkRow$Lot;"⟩
def dkwX1_fresh_0 : List UInt8 := [42, 27, 182, 0, 252, 77, 44, 180, 1, 0, 154, 0, 7, 4, 167, 0, 4, 3, 184, 0, 138, 44, 176]
abbrev dktX1_fresh_0 : List UInt8 := dkwX1_fresh_0 ++ []
theorem dksX1_fresh_0 : cX1_fresh.data.toList.drop 0 = dktX1_fresh_0 := by decide +kernel
theorem dX1_fresh_0 : decode cX1_fresh 0 = .ok (.aload_n 0, 1) := dk_42 (dk_at dksX1_fresh_0 0 rfl rfl)
theorem dX1_fresh_1 : decode cX1_fresh 1 = .ok (.iload_n 1, 1) := dk_27 (dk_at dksX1_fresh_0 1 rfl rfl)
theorem dX1_fresh_2 : decode cX1_fresh 2 = .ok (.invokevirtual 252, 3) := dk_182 0 252 (dk_at dksX1_fresh_0 2 rfl rfl)
theorem dX1_fresh_5 : decode cX1_fresh 5 = .ok (.astore_n 2, 1) := dk_77 (dk_at dksX1_fresh_0 5 rfl rfl)
theorem dX1_fresh_6 : decode cX1_fresh 6 = .ok (.aload_n 2, 1) := dk_44 (dk_at dksX1_fresh_0 6 rfl rfl)
theorem dX1_fresh_7 : decode cX1_fresh 7 = .ok (.getfield 256, 3) := dk_180 1 0 (dk_at dksX1_fresh_0 7 rfl rfl)
theorem dX1_fresh_10 : decode cX1_fresh 10 = .ok (.ifCond .ne 7, 3) := dk_154 0 7 (dk_at dksX1_fresh_0 10 rfl rfl)
theorem dX1_fresh_13 : decode cX1_fresh 13 = .ok (.iconst 1, 1) := dk_4 (dk_at dksX1_fresh_0 13 rfl rfl)
theorem dX1_fresh_14 : decode cX1_fresh 14 = .ok (.goto 4, 3) := dk_167 0 4 (dk_at dksX1_fresh_0 14 rfl rfl)
theorem dX1_fresh_17 : decode cX1_fresh 17 = .ok (.iconst 0, 1) := dk_3 (dk_at dksX1_fresh_0 17 rfl rfl)
theorem dX1_fresh_18 : decode cX1_fresh 18 = .ok (.invokestatic 138, 3) := dk_184 0 138 (dk_at dksX1_fresh_0 18 rfl rfl)
theorem dX1_fresh_21 : decode cX1_fresh 21 = .ok (.aload_n 2, 1) := dk_44 (dk_at dksX1_fresh_0 21 rfl rfl)
theorem dX1_fresh_22 : decode cX1_fresh 22 = .ok (.areturn, 1) := dk_176 (dk_at dksX1_fresh_0 22 rfl rfl)
abbrev cX1_lotOf : ByteArray := prog_1_method_14_code
def yX1_lotOf : MethodName := ⟨RX1, "lotOf", "(I)LSilkRow$Lot;"⟩
def dkwX1_lotOf_0 : List UInt8 := [42, 180, 0, 108, 27, 184, 0, 127, 192, 0, 59, 176]
abbrev dktX1_lotOf_0 : List UInt8 := dkwX1_lotOf_0 ++ []
theorem dksX1_lotOf_0 : cX1_lotOf.data.toList.drop 0 = dktX1_lotOf_0 := by decide +kernel
theorem dX1_lotOf_0 : decode cX1_lotOf 0 = .ok (.aload_n 0, 1) := dk_42 (dk_at dksX1_lotOf_0 0 rfl rfl)
theorem dX1_lotOf_1 : decode cX1_lotOf 1 = .ok (.getfield 108, 3) := dk_180 0 108 (dk_at dksX1_lotOf_0 1 rfl rfl)
theorem dX1_lotOf_4 : decode cX1_lotOf 4 = .ok (.iload_n 1, 1) := dk_27 (dk_at dksX1_lotOf_0 4 rfl rfl)
theorem dX1_lotOf_5 : decode cX1_lotOf 5 = .ok (.invokestatic 127, 3) := dk_184 0 127 (dk_at dksX1_lotOf_0 5 rfl rfl)
theorem dX1_lotOf_8 : decode cX1_lotOf 8 = .ok (.checkcast 59, 3) := dk_192 0 59 (dk_at dksX1_lotOf_0 8 rfl rfl)
theorem dX1_lotOf_11 : decode cX1_lotOf 11 = .ok (.areturn, 1) := dk_176 (dk_at dksX1_lotOf_0 11 rfl rfl)
abbrev cX1_eggs : ByteArray := prog_1_method_30_code
def yX1_eggs : MethodName := ⟨RX1, "eggs", "(IIZ)I"⟩
def dkwX1_eggs_6 : List UInt8 := [184, 0, 176, 181, 0, 161, 25, 4, 21, 6, 181, 0, 207, 21, 6, 172]
abbrev dktX1_eggs_6 : List UInt8 := dkwX1_eggs_6 ++ []
def dkwX1_eggs_5 : List UInt8 := [180, 1, 13, 25, 5, 180, 1, 9, 5, 46, 154, 0, 7, 4, 167, 0, 4, 3, 184, 1, 14, 96]
abbrev dktX1_eggs_5 : List UInt8 := dkwX1_eggs_5 ++ dktX1_eggs_6
def dkwX1_eggs_4 : List UInt8 := [21, 6, 5, 108, 54, 6, 25, 4, 25, 5, 180, 1, 12, 181, 0, 210, 25, 4, 16, 9, 25, 5]
abbrev dktX1_eggs_4 : List UInt8 := dkwX1_eggs_4 ++ dktX1_eggs_5
def dkwX1_eggs_3 : List UInt8 := [153, 0, 29, 42, 89, 180, 0, 117, 8, 100, 181, 0, 117, 21, 6, 6, 163, 0, 7, 3, 167, 0, 7]
abbrev dktX1_eggs_3 : List UInt8 := dkwX1_eggs_3 ++ dktX1_eggs_4
def dkwX1_eggs_2 : List UInt8 := [184, 0, 138, 16, 10, 25, 5, 180, 1, 9, 5, 46, 104, 25, 5, 182, 1, 6, 184, 0, 172, 54, 6, 29]
abbrev dktX1_eggs_2 : List UInt8 := dkwX1_eggs_2 ++ dktX1_eggs_3
def dkwX1_eggs_1 : List UInt8 := [182, 1, 6, 158, 0, 19, 29, 153, 0, 11, 42, 180, 0, 117, 8, 161, 0, 7, 4, 167, 0, 4, 3]
abbrev dktX1_eggs_1 : List UInt8 := dkwX1_eggs_1 ++ dktX1_eggs_2
def dkwX1_eggs_0 : List UInt8 := [42, 27, 182, 0, 252, 87, 42, 28, 182, 0, 203, 58, 4, 42, 27, 182, 1, 3, 58, 5, 25, 5]
abbrev dktX1_eggs_0 : List UInt8 := dkwX1_eggs_0 ++ dktX1_eggs_1
theorem dksX1_eggs_0 : cX1_eggs.data.toList.drop 0 = dktX1_eggs_0 := by decide +kernel
theorem dksX1_eggs_1 : cX1_eggs.data.toList.drop 22 = dktX1_eggs_1 := dk_seg dksX1_eggs_0 22 rfl rfl
theorem dksX1_eggs_2 : cX1_eggs.data.toList.drop 45 = dktX1_eggs_2 := dk_seg dksX1_eggs_1 23 rfl rfl
theorem dksX1_eggs_3 : cX1_eggs.data.toList.drop 69 = dktX1_eggs_3 := dk_seg dksX1_eggs_2 24 rfl rfl
theorem dksX1_eggs_4 : cX1_eggs.data.toList.drop 92 = dktX1_eggs_4 := dk_seg dksX1_eggs_3 23 rfl rfl
theorem dksX1_eggs_5 : cX1_eggs.data.toList.drop 114 = dktX1_eggs_5 := dk_seg dksX1_eggs_4 22 rfl rfl
theorem dksX1_eggs_6 : cX1_eggs.data.toList.drop 136 = dktX1_eggs_6 := dk_seg dksX1_eggs_5 22 rfl rfl
theorem dX1_eggs_0 : decode cX1_eggs 0 = .ok (.aload_n 0, 1) := dk_42 (dk_at dksX1_eggs_0 0 rfl rfl)
theorem dX1_eggs_1 : decode cX1_eggs 1 = .ok (.iload_n 1, 1) := dk_27 (dk_at dksX1_eggs_0 1 rfl rfl)
theorem dX1_eggs_2 : decode cX1_eggs 2 = .ok (.invokevirtual 252, 3) := dk_182 0 252 (dk_at dksX1_eggs_0 2 rfl rfl)
theorem dX1_eggs_5 : decode cX1_eggs 5 = .ok (.pop, 1) := dk_87 (dk_at dksX1_eggs_0 5 rfl rfl)
theorem dX1_eggs_6 : decode cX1_eggs 6 = .ok (.aload_n 0, 1) := dk_42 (dk_at dksX1_eggs_0 6 rfl rfl)
theorem dX1_eggs_7 : decode cX1_eggs 7 = .ok (.iload_n 2, 1) := dk_28 (dk_at dksX1_eggs_0 7 rfl rfl)
theorem dX1_eggs_8 : decode cX1_eggs 8 = .ok (.invokevirtual 203, 3) := dk_182 0 203 (dk_at dksX1_eggs_0 8 rfl rfl)
theorem dX1_eggs_11 : decode cX1_eggs 11 = .ok (.astore 4, 2) := dk_58 4 (dk_at dksX1_eggs_0 11 rfl rfl)
theorem dX1_eggs_13 : decode cX1_eggs 13 = .ok (.aload_n 0, 1) := dk_42 (dk_at dksX1_eggs_0 13 rfl rfl)
theorem dX1_eggs_14 : decode cX1_eggs 14 = .ok (.iload_n 1, 1) := dk_27 (dk_at dksX1_eggs_0 14 rfl rfl)
theorem dX1_eggs_15 : decode cX1_eggs 15 = .ok (.invokevirtual 259, 3) := dk_182 1 3 (dk_at dksX1_eggs_0 15 rfl rfl)
theorem dX1_eggs_18 : decode cX1_eggs 18 = .ok (.astore 5, 2) := dk_58 5 (dk_at dksX1_eggs_0 18 rfl rfl)
theorem dX1_eggs_20 : decode cX1_eggs 20 = .ok (.aload 5, 2) := dk_25 5 (dk_at dksX1_eggs_0 20 rfl rfl)
theorem dX1_eggs_22 : decode cX1_eggs 22 = .ok (.invokevirtual 262, 3) := dk_182 1 6 (dk_at dksX1_eggs_1 0 rfl rfl)
theorem dX1_eggs_25 : decode cX1_eggs 25 = .ok (.ifCond .le 19, 3) := dk_158 0 19 (dk_at dksX1_eggs_1 3 rfl rfl)
theorem dX1_eggs_28 : decode cX1_eggs 28 = .ok (.iload_n 3, 1) := dk_29 (dk_at dksX1_eggs_1 6 rfl rfl)
theorem dX1_eggs_29 : decode cX1_eggs 29 = .ok (.ifCond .eq 11, 3) := dk_153 0 11 (dk_at dksX1_eggs_1 7 rfl rfl)
theorem dX1_eggs_32 : decode cX1_eggs 32 = .ok (.aload_n 0, 1) := dk_42 (dk_at dksX1_eggs_1 10 rfl rfl)
theorem dX1_eggs_33 : decode cX1_eggs 33 = .ok (.getfield 117, 3) := dk_180 0 117 (dk_at dksX1_eggs_1 11 rfl rfl)
theorem dX1_eggs_36 : decode cX1_eggs 36 = .ok (.iconst 5, 1) := dk_8 (dk_at dksX1_eggs_1 14 rfl rfl)
theorem dX1_eggs_37 : decode cX1_eggs 37 = .ok (.if_icmp .lt 7, 3) := dk_161 0 7 (dk_at dksX1_eggs_1 15 rfl rfl)
theorem dX1_eggs_40 : decode cX1_eggs 40 = .ok (.iconst 1, 1) := dk_4 (dk_at dksX1_eggs_1 18 rfl rfl)
theorem dX1_eggs_41 : decode cX1_eggs 41 = .ok (.goto 4, 3) := dk_167 0 4 (dk_at dksX1_eggs_1 19 rfl rfl)
theorem dX1_eggs_44 : decode cX1_eggs 44 = .ok (.iconst 0, 1) := dk_3 (dk_at dksX1_eggs_1 22 rfl rfl)
theorem dX1_eggs_45 : decode cX1_eggs 45 = .ok (.invokestatic 138, 3) := dk_184 0 138 (dk_at dksX1_eggs_2 0 rfl rfl)
theorem dX1_eggs_48 : decode cX1_eggs 48 = .ok (.bipush 10, 2) := dk_16 10 (dk_at dksX1_eggs_2 3 rfl rfl)
theorem dX1_eggs_50 : decode cX1_eggs 50 = .ok (.aload 5, 2) := dk_25 5 (dk_at dksX1_eggs_2 5 rfl rfl)
theorem dX1_eggs_52 : decode cX1_eggs 52 = .ok (.getfield 265, 3) := dk_180 1 9 (dk_at dksX1_eggs_2 7 rfl rfl)
theorem dX1_eggs_55 : decode cX1_eggs 55 = .ok (.iconst 2, 1) := dk_5 (dk_at dksX1_eggs_2 10 rfl rfl)
theorem dX1_eggs_56 : decode cX1_eggs 56 = .ok (.iaload, 1) := dk_46 (dk_at dksX1_eggs_2 11 rfl rfl)
theorem dX1_eggs_57 : decode cX1_eggs 57 = .ok (.imul, 1) := dk_104 (dk_at dksX1_eggs_2 12 rfl rfl)
theorem dX1_eggs_58 : decode cX1_eggs 58 = .ok (.aload 5, 2) := dk_25 5 (dk_at dksX1_eggs_2 13 rfl rfl)
theorem dX1_eggs_60 : decode cX1_eggs 60 = .ok (.invokevirtual 262, 3) := dk_182 1 6 (dk_at dksX1_eggs_2 15 rfl rfl)
theorem dX1_eggs_63 : decode cX1_eggs 63 = .ok (.invokestatic 172, 3) := dk_184 0 172 (dk_at dksX1_eggs_2 18 rfl rfl)
theorem dX1_eggs_66 : decode cX1_eggs 66 = .ok (.istore 6, 2) := dk_54 6 (dk_at dksX1_eggs_2 21 rfl rfl)
theorem dX1_eggs_68 : decode cX1_eggs 68 = .ok (.iload_n 3, 1) := dk_29 (dk_at dksX1_eggs_2 23 rfl rfl)
theorem dX1_eggs_69 : decode cX1_eggs 69 = .ok (.ifCond .eq 29, 3) := dk_153 0 29 (dk_at dksX1_eggs_3 0 rfl rfl)
theorem dX1_eggs_72 : decode cX1_eggs 72 = .ok (.aload_n 0, 1) := dk_42 (dk_at dksX1_eggs_3 3 rfl rfl)
theorem dX1_eggs_73 : decode cX1_eggs 73 = .ok (.dup, 1) := dk_89 (dk_at dksX1_eggs_3 4 rfl rfl)
theorem dX1_eggs_74 : decode cX1_eggs 74 = .ok (.getfield 117, 3) := dk_180 0 117 (dk_at dksX1_eggs_3 5 rfl rfl)
theorem dX1_eggs_77 : decode cX1_eggs 77 = .ok (.iconst 5, 1) := dk_8 (dk_at dksX1_eggs_3 8 rfl rfl)
theorem dX1_eggs_78 : decode cX1_eggs 78 = .ok (.isub, 1) := dk_100 (dk_at dksX1_eggs_3 9 rfl rfl)
theorem dX1_eggs_79 : decode cX1_eggs 79 = .ok (.putfield 117, 3) := dk_181 0 117 (dk_at dksX1_eggs_3 10 rfl rfl)
theorem dX1_eggs_82 : decode cX1_eggs 82 = .ok (.iload 6, 2) := dk_21 6 (dk_at dksX1_eggs_3 13 rfl rfl)
theorem dX1_eggs_84 : decode cX1_eggs 84 = .ok (.iconst 3, 1) := dk_6 (dk_at dksX1_eggs_3 15 rfl rfl)
theorem dX1_eggs_85 : decode cX1_eggs 85 = .ok (.if_icmp .gt 7, 3) := dk_163 0 7 (dk_at dksX1_eggs_3 16 rfl rfl)
theorem dX1_eggs_88 : decode cX1_eggs 88 = .ok (.iconst 0, 1) := dk_3 (dk_at dksX1_eggs_3 19 rfl rfl)
theorem dX1_eggs_89 : decode cX1_eggs 89 = .ok (.goto 7, 3) := dk_167 0 7 (dk_at dksX1_eggs_3 20 rfl rfl)
theorem dX1_eggs_92 : decode cX1_eggs 92 = .ok (.iload 6, 2) := dk_21 6 (dk_at dksX1_eggs_4 0 rfl rfl)
theorem dX1_eggs_94 : decode cX1_eggs 94 = .ok (.iconst 2, 1) := dk_5 (dk_at dksX1_eggs_4 2 rfl rfl)
theorem dX1_eggs_95 : decode cX1_eggs 95 = .ok (.idiv, 1) := dk_108 (dk_at dksX1_eggs_4 3 rfl rfl)
theorem dX1_eggs_96 : decode cX1_eggs 96 = .ok (.istore 6, 2) := dk_54 6 (dk_at dksX1_eggs_4 4 rfl rfl)
theorem dX1_eggs_98 : decode cX1_eggs 98 = .ok (.aload 4, 2) := dk_25 4 (dk_at dksX1_eggs_4 6 rfl rfl)
theorem dX1_eggs_100 : decode cX1_eggs 100 = .ok (.aload 5, 2) := dk_25 5 (dk_at dksX1_eggs_4 8 rfl rfl)
theorem dX1_eggs_102 : decode cX1_eggs 102 = .ok (.getfield 268, 3) := dk_180 1 12 (dk_at dksX1_eggs_4 10 rfl rfl)
theorem dX1_eggs_105 : decode cX1_eggs 105 = .ok (.putfield 210, 3) := dk_181 0 210 (dk_at dksX1_eggs_4 13 rfl rfl)
theorem dX1_eggs_108 : decode cX1_eggs 108 = .ok (.aload 4, 2) := dk_25 4 (dk_at dksX1_eggs_4 16 rfl rfl)
theorem dX1_eggs_110 : decode cX1_eggs 110 = .ok (.bipush 9, 2) := dk_16 9 (dk_at dksX1_eggs_4 18 rfl rfl)
theorem dX1_eggs_112 : decode cX1_eggs 112 = .ok (.aload 5, 2) := dk_25 5 (dk_at dksX1_eggs_4 20 rfl rfl)
theorem dX1_eggs_114 : decode cX1_eggs 114 = .ok (.getfield 269, 3) := dk_180 1 13 (dk_at dksX1_eggs_5 0 rfl rfl)
theorem dX1_eggs_117 : decode cX1_eggs 117 = .ok (.aload 5, 2) := dk_25 5 (dk_at dksX1_eggs_5 3 rfl rfl)
theorem dX1_eggs_119 : decode cX1_eggs 119 = .ok (.getfield 265, 3) := dk_180 1 9 (dk_at dksX1_eggs_5 5 rfl rfl)
theorem dX1_eggs_122 : decode cX1_eggs 122 = .ok (.iconst 2, 1) := dk_5 (dk_at dksX1_eggs_5 8 rfl rfl)
theorem dX1_eggs_123 : decode cX1_eggs 123 = .ok (.iaload, 1) := dk_46 (dk_at dksX1_eggs_5 9 rfl rfl)
theorem dX1_eggs_124 : decode cX1_eggs 124 = .ok (.ifCond .ne 7, 3) := dk_154 0 7 (dk_at dksX1_eggs_5 10 rfl rfl)
theorem dX1_eggs_127 : decode cX1_eggs 127 = .ok (.iconst 1, 1) := dk_4 (dk_at dksX1_eggs_5 13 rfl rfl)
theorem dX1_eggs_128 : decode cX1_eggs 128 = .ok (.goto 4, 3) := dk_167 0 4 (dk_at dksX1_eggs_5 14 rfl rfl)
theorem dX1_eggs_131 : decode cX1_eggs 131 = .ok (.iconst 0, 1) := dk_3 (dk_at dksX1_eggs_5 17 rfl rfl)
theorem dX1_eggs_132 : decode cX1_eggs 132 = .ok (.invokestatic 270, 3) := dk_184 1 14 (dk_at dksX1_eggs_5 18 rfl rfl)
theorem dX1_eggs_135 : decode cX1_eggs 135 = .ok (.iadd, 1) := dk_96 (dk_at dksX1_eggs_5 21 rfl rfl)
theorem dX1_eggs_136 : decode cX1_eggs 136 = .ok (.invokestatic 176, 3) := dk_184 0 176 (dk_at dksX1_eggs_6 0 rfl rfl)
theorem dX1_eggs_139 : decode cX1_eggs 139 = .ok (.putfield 161, 3) := dk_181 0 161 (dk_at dksX1_eggs_6 3 rfl rfl)
theorem dX1_eggs_142 : decode cX1_eggs 142 = .ok (.aload 4, 2) := dk_25 4 (dk_at dksX1_eggs_6 6 rfl rfl)
theorem dX1_eggs_144 : decode cX1_eggs 144 = .ok (.iload 6, 2) := dk_21 6 (dk_at dksX1_eggs_6 8 rfl rfl)
theorem dX1_eggs_146 : decode cX1_eggs 146 = .ok (.putfield 207, 3) := dk_181 0 207 (dk_at dksX1_eggs_6 10 rfl rfl)
theorem dX1_eggs_149 : decode cX1_eggs 149 = .ok (.iload 6, 2) := dk_21 6 (dk_at dksX1_eggs_6 13 rfl rfl)
theorem dX1_eggs_151 : decode cX1_eggs 151 = .ok (.ireturn, 1) := dk_172 (dk_at dksX1_eggs_6 15 rfl rfl)
abbrev cX1_reel : ByteArray := prog_1_method_33_code
def yX1_reel : MethodName := ⟨RX1, "reel", "(IIII)I"⟩
def dkwX1_reel_4 : List UInt8 := [87, 42, 180, 0, 114, 182, 0, 137, 4, 100, 172]
abbrev dktX1_reel_4 : List UInt8 := dkwX1_reel_4 ++ []
def dkwX1_reel_3 : List UInt8 := [184, 1, 24, 58, 6, 25, 6, 180, 1, 28, 154, 0, 5, 2, 172, 42, 180, 0, 114, 25, 6, 182, 0, 123]
abbrev dktX1_reel_3 : List UInt8 := dkwX1_reel_3 ++ dktX1_reel_4
def dkwX1_reel_2 : List UInt8 := [167, 0, 4, 3, 184, 0, 138, 25, 5, 42, 180, 0, 111, 28, 182, 0, 160, 192, 0, 20, 29, 21, 4]
abbrev dktX1_reel_2 : List UInt8 := dkwX1_reel_2 ++ dktX1_reel_3
def dkwX1_reel_1 : List UInt8 := [184, 0, 133, 42, 27, 182, 1, 21, 58, 5, 42, 180, 0, 114, 182, 0, 137, 16, 12, 162, 0, 7, 4]
abbrev dktX1_reel_1 : List UInt8 := dkwX1_reel_1 ++ dktX1_reel_2
def dkwX1_reel_0 : List UInt8 := [42, 27, 182, 0, 252, 87, 28, 184, 1, 18, 4, 16, 40, 29, 184, 0, 133, 4, 16, 30, 21, 4]
abbrev dktX1_reel_0 : List UInt8 := dkwX1_reel_0 ++ dktX1_reel_1
theorem dksX1_reel_0 : cX1_reel.data.toList.drop 0 = dktX1_reel_0 := by decide +kernel
theorem dksX1_reel_1 : cX1_reel.data.toList.drop 22 = dktX1_reel_1 := dk_seg dksX1_reel_0 22 rfl rfl
theorem dksX1_reel_2 : cX1_reel.data.toList.drop 45 = dktX1_reel_2 := dk_seg dksX1_reel_1 23 rfl rfl
theorem dksX1_reel_3 : cX1_reel.data.toList.drop 68 = dktX1_reel_3 := dk_seg dksX1_reel_2 23 rfl rfl
theorem dksX1_reel_4 : cX1_reel.data.toList.drop 92 = dktX1_reel_4 := dk_seg dksX1_reel_3 24 rfl rfl
theorem dX1_reel_0 : decode cX1_reel 0 = .ok (.aload_n 0, 1) := dk_42 (dk_at dksX1_reel_0 0 rfl rfl)
theorem dX1_reel_1 : decode cX1_reel 1 = .ok (.iload_n 1, 1) := dk_27 (dk_at dksX1_reel_0 1 rfl rfl)
theorem dX1_reel_2 : decode cX1_reel 2 = .ok (.invokevirtual 252, 3) := dk_182 0 252 (dk_at dksX1_reel_0 2 rfl rfl)
theorem dX1_reel_5 : decode cX1_reel 5 = .ok (.pop, 1) := dk_87 (dk_at dksX1_reel_0 5 rfl rfl)
theorem dX1_reel_6 : decode cX1_reel 6 = .ok (.iload_n 2, 1) := dk_28 (dk_at dksX1_reel_0 6 rfl rfl)
theorem dX1_reel_7 : decode cX1_reel 7 = .ok (.invokestatic 274, 3) := dk_184 1 18 (dk_at dksX1_reel_0 7 rfl rfl)
theorem dX1_reel_10 : decode cX1_reel 10 = .ok (.iconst 1, 1) := dk_4 (dk_at dksX1_reel_0 10 rfl rfl)
theorem dX1_reel_11 : decode cX1_reel 11 = .ok (.bipush 40, 2) := dk_16 40 (dk_at dksX1_reel_0 11 rfl rfl)
theorem dX1_reel_13 : decode cX1_reel 13 = .ok (.iload_n 3, 1) := dk_29 (dk_at dksX1_reel_0 13 rfl rfl)
theorem dX1_reel_14 : decode cX1_reel 14 = .ok (.invokestatic 133, 3) := dk_184 0 133 (dk_at dksX1_reel_0 14 rfl rfl)
theorem dX1_reel_17 : decode cX1_reel 17 = .ok (.iconst 1, 1) := dk_4 (dk_at dksX1_reel_0 17 rfl rfl)
theorem dX1_reel_18 : decode cX1_reel 18 = .ok (.bipush 30, 2) := dk_16 30 (dk_at dksX1_reel_0 18 rfl rfl)
theorem dX1_reel_20 : decode cX1_reel 20 = .ok (.iload 4, 2) := dk_21 4 (dk_at dksX1_reel_0 20 rfl rfl)
theorem dX1_reel_22 : decode cX1_reel 22 = .ok (.invokestatic 133, 3) := dk_184 0 133 (dk_at dksX1_reel_1 0 rfl rfl)
theorem dX1_reel_25 : decode cX1_reel 25 = .ok (.aload_n 0, 1) := dk_42 (dk_at dksX1_reel_1 3 rfl rfl)
theorem dX1_reel_26 : decode cX1_reel 26 = .ok (.iload_n 1, 1) := dk_27 (dk_at dksX1_reel_1 4 rfl rfl)
theorem dX1_reel_27 : decode cX1_reel 27 = .ok (.invokevirtual 277, 3) := dk_182 1 21 (dk_at dksX1_reel_1 5 rfl rfl)
theorem dX1_reel_30 : decode cX1_reel 30 = .ok (.astore 5, 2) := dk_58 5 (dk_at dksX1_reel_1 8 rfl rfl)
theorem dX1_reel_32 : decode cX1_reel 32 = .ok (.aload_n 0, 1) := dk_42 (dk_at dksX1_reel_1 10 rfl rfl)
theorem dX1_reel_33 : decode cX1_reel 33 = .ok (.getfield 114, 3) := dk_180 0 114 (dk_at dksX1_reel_1 11 rfl rfl)
theorem dX1_reel_36 : decode cX1_reel 36 = .ok (.invokevirtual 137, 3) := dk_182 0 137 (dk_at dksX1_reel_1 14 rfl rfl)
theorem dX1_reel_39 : decode cX1_reel 39 = .ok (.bipush 12, 2) := dk_16 12 (dk_at dksX1_reel_1 17 rfl rfl)
theorem dX1_reel_41 : decode cX1_reel 41 = .ok (.if_icmp .ge 7, 3) := dk_162 0 7 (dk_at dksX1_reel_1 19 rfl rfl)
theorem dX1_reel_44 : decode cX1_reel 44 = .ok (.iconst 1, 1) := dk_4 (dk_at dksX1_reel_1 22 rfl rfl)
theorem dX1_reel_45 : decode cX1_reel 45 = .ok (.goto 4, 3) := dk_167 0 4 (dk_at dksX1_reel_2 0 rfl rfl)
theorem dX1_reel_48 : decode cX1_reel 48 = .ok (.iconst 0, 1) := dk_3 (dk_at dksX1_reel_2 3 rfl rfl)
theorem dX1_reel_49 : decode cX1_reel 49 = .ok (.invokestatic 138, 3) := dk_184 0 138 (dk_at dksX1_reel_2 4 rfl rfl)
theorem dX1_reel_52 : decode cX1_reel 52 = .ok (.aload 5, 2) := dk_25 5 (dk_at dksX1_reel_2 7 rfl rfl)
theorem dX1_reel_54 : decode cX1_reel 54 = .ok (.aload_n 0, 1) := dk_42 (dk_at dksX1_reel_2 9 rfl rfl)
theorem dX1_reel_55 : decode cX1_reel 55 = .ok (.getfield 111, 3) := dk_180 0 111 (dk_at dksX1_reel_2 10 rfl rfl)
theorem dX1_reel_58 : decode cX1_reel 58 = .ok (.iload_n 2, 1) := dk_28 (dk_at dksX1_reel_2 13 rfl rfl)
theorem dX1_reel_59 : decode cX1_reel 59 = .ok (.invokevirtual 160, 3) := dk_182 0 160 (dk_at dksX1_reel_2 14 rfl rfl)
theorem dX1_reel_62 : decode cX1_reel 62 = .ok (.checkcast 20, 3) := dk_192 0 20 (dk_at dksX1_reel_2 17 rfl rfl)
theorem dX1_reel_65 : decode cX1_reel 65 = .ok (.iload_n 3, 1) := dk_29 (dk_at dksX1_reel_2 20 rfl rfl)
theorem dX1_reel_66 : decode cX1_reel 66 = .ok (.iload 4, 2) := dk_21 4 (dk_at dksX1_reel_2 21 rfl rfl)
theorem dX1_reel_68 : decode cX1_reel 68 = .ok (.invokestatic 280, 3) := dk_184 1 24 (dk_at dksX1_reel_3 0 rfl rfl)
theorem dX1_reel_71 : decode cX1_reel 71 = .ok (.astore 6, 2) := dk_58 6 (dk_at dksX1_reel_3 3 rfl rfl)
theorem dX1_reel_73 : decode cX1_reel 73 = .ok (.aload 6, 2) := dk_25 6 (dk_at dksX1_reel_3 5 rfl rfl)
theorem dX1_reel_75 : decode cX1_reel 75 = .ok (.getfield 284, 3) := dk_180 1 28 (dk_at dksX1_reel_3 7 rfl rfl)
theorem dX1_reel_78 : decode cX1_reel 78 = .ok (.ifCond .ne 5, 3) := dk_154 0 5 (dk_at dksX1_reel_3 10 rfl rfl)
theorem dX1_reel_81 : decode cX1_reel 81 = .ok (.iconst (-1), 1) := dk_2 (dk_at dksX1_reel_3 13 rfl rfl)
theorem dX1_reel_82 : decode cX1_reel 82 = .ok (.ireturn, 1) := dk_172 (dk_at dksX1_reel_3 14 rfl rfl)
theorem dX1_reel_83 : decode cX1_reel 83 = .ok (.aload_n 0, 1) := dk_42 (dk_at dksX1_reel_3 15 rfl rfl)
theorem dX1_reel_84 : decode cX1_reel 84 = .ok (.getfield 114, 3) := dk_180 0 114 (dk_at dksX1_reel_3 16 rfl rfl)
theorem dX1_reel_87 : decode cX1_reel 87 = .ok (.aload 6, 2) := dk_25 6 (dk_at dksX1_reel_3 19 rfl rfl)
theorem dX1_reel_89 : decode cX1_reel 89 = .ok (.invokevirtual 123, 3) := dk_182 0 123 (dk_at dksX1_reel_3 21 rfl rfl)
theorem dX1_reel_92 : decode cX1_reel 92 = .ok (.pop, 1) := dk_87 (dk_at dksX1_reel_4 0 rfl rfl)
theorem dX1_reel_93 : decode cX1_reel 93 = .ok (.aload_n 0, 1) := dk_42 (dk_at dksX1_reel_4 1 rfl rfl)
theorem dX1_reel_94 : decode cX1_reel 94 = .ok (.getfield 114, 3) := dk_180 0 114 (dk_at dksX1_reel_4 2 rfl rfl)
theorem dX1_reel_97 : decode cX1_reel 97 = .ok (.invokevirtual 137, 3) := dk_182 0 137 (dk_at dksX1_reel_4 5 rfl rfl)
theorem dX1_reel_100 : decode cX1_reel 100 = .ok (.iconst 1, 1) := dk_4 (dk_at dksX1_reel_4 8 rfl rfl)
theorem dX1_reel_101 : decode cX1_reel 101 = .ok (.isub, 1) := dk_100 (dk_at dksX1_reel_4 9 rfl rfl)
theorem dX1_reel_102 : decode cX1_reel 102 = .ok (.ireturn, 1) := dk_172 (dk_at dksX1_reel_4 10 rfl rfl)
abbrev cX1_requireBasin : ByteArray := prog_1_method_32_code
def yX1_requireBasin : MethodName := ⟨RX1, "requireBasin", "(I)V"⟩
def dkwX1_requireBasin_0 : List UInt8 := [26, 5, 184, 0, 25, 177]
abbrev dktX1_requireBasin_0 : List UInt8 := dkwX1_requireBasin_0 ++ []
theorem dksX1_requireBasin_0 : cX1_requireBasin.data.toList.drop 0 = dktX1_requireBasin_0 := by decide +kernel
theorem dX1_requireBasin_0 : decode cX1_requireBasin 0 = .ok (.iload_n 0, 1) := dk_26 (dk_at dksX1_requireBasin_0 0 rfl rfl)
theorem dX1_requireBasin_1 : decode cX1_requireBasin 1 = .ok (.iconst 2, 1) := dk_5 (dk_at dksX1_requireBasin_0 1 rfl rfl)
theorem dX1_requireBasin_2 : decode cX1_requireBasin 2 = .ok (.invokestatic 25, 3) := dk_184 0 25 (dk_at dksX1_requireBasin_0 2 rfl rfl)
theorem dX1_requireBasin_5 : decode cX1_requireBasin 5 = .ok (.return_, 1) := dk_177 (dk_at dksX1_requireBasin_0 5 rfl rfl)
abbrev cX1_stifled : ByteArray := prog_1_method_31_code
def yX1_stifled : MethodName := ⟨RX1, "stifled", "(I)LSilkRow$Lot;"⟩
def dkwX1_stifled_0 : List UInt8 := [42, 27, 182, 0, 252, 77, 44, 180, 1, 0, 4, 160, 0, 7, 4, 167, 0, 4, 3, 184, 0, 138, 44, 176]
abbrev dktX1_stifled_0 : List UInt8 := dkwX1_stifled_0 ++ []
theorem dksX1_stifled_0 : cX1_stifled.data.toList.drop 0 = dktX1_stifled_0 := by decide +kernel
theorem dX1_stifled_0 : decode cX1_stifled 0 = .ok (.aload_n 0, 1) := dk_42 (dk_at dksX1_stifled_0 0 rfl rfl)
theorem dX1_stifled_1 : decode cX1_stifled 1 = .ok (.iload_n 1, 1) := dk_27 (dk_at dksX1_stifled_0 1 rfl rfl)
theorem dX1_stifled_2 : decode cX1_stifled 2 = .ok (.invokevirtual 252, 3) := dk_182 0 252 (dk_at dksX1_stifled_0 2 rfl rfl)
theorem dX1_stifled_5 : decode cX1_stifled 5 = .ok (.astore_n 2, 1) := dk_77 (dk_at dksX1_stifled_0 5 rfl rfl)
theorem dX1_stifled_6 : decode cX1_stifled 6 = .ok (.aload_n 2, 1) := dk_44 (dk_at dksX1_stifled_0 6 rfl rfl)
theorem dX1_stifled_7 : decode cX1_stifled 7 = .ok (.getfield 256, 3) := dk_180 1 0 (dk_at dksX1_stifled_0 7 rfl rfl)
theorem dX1_stifled_10 : decode cX1_stifled 10 = .ok (.iconst 1, 1) := dk_4 (dk_at dksX1_stifled_0 10 rfl rfl)
theorem dX1_stifled_11 : decode cX1_stifled 11 = .ok (.if_icmp .ne 7, 3) := dk_160 0 7 (dk_at dksX1_stifled_0 11 rfl rfl)
theorem dX1_stifled_14 : decode cX1_stifled 14 = .ok (.iconst 1, 1) := dk_4 (dk_at dksX1_stifled_0 14 rfl rfl)
theorem dX1_stifled_15 : decode cX1_stifled 15 = .ok (.goto 4, 3) := dk_167 0 4 (dk_at dksX1_stifled_0 15 rfl rfl)
theorem dX1_stifled_18 : decode cX1_stifled 18 = .ok (.iconst 0, 1) := dk_3 (dk_at dksX1_stifled_0 18 rfl rfl)
theorem dX1_stifled_19 : decode cX1_stifled 19 = .ok (.invokestatic 138, 3) := dk_184 0 138 (dk_at dksX1_stifled_0 19 rfl rfl)
theorem dX1_stifled_22 : decode cX1_stifled 22 = .ok (.aload_n 2, 1) := dk_44 (dk_at dksX1_stifled_0 22 rfl rfl)
theorem dX1_stifled_23 : decode cX1_stifled 23 = .ok (.areturn, 1) := dk_176 (dk_at dksX1_stifled_0 23 rfl rfl)
abbrev cX1_sell : ByteArray := prog_1_method_34_code
def yX1_sell : MethodName := ⟨RX1, "sell", "(I)I"⟩
def dkwX1_sell_2 : List UInt8 := [180, 0, 117, 29, 96, 181, 0, 117, 29, 172]
abbrev dktX1_sell_2 : List UInt8 := dkwX1_sell_2 ++ []
def dkwX1_sell_1 : List UInt8 := [184, 0, 138, 44, 4, 181, 1, 31, 44, 180, 1, 28, 7, 44, 182, 1, 34, 100, 104, 62, 42, 89]
abbrev dktX1_sell_1 : List UInt8 := dkwX1_sell_1 ++ dktX1_sell_2
def dkwX1_sell_0 : List UInt8 := [42, 180, 0, 114, 27, 184, 0, 127, 192, 0, 52, 77, 44, 180, 1, 31, 154, 0, 7, 4, 167, 0, 4, 3]
abbrev dktX1_sell_0 : List UInt8 := dkwX1_sell_0 ++ dktX1_sell_1
theorem dksX1_sell_0 : cX1_sell.data.toList.drop 0 = dktX1_sell_0 := by decide +kernel
theorem dksX1_sell_1 : cX1_sell.data.toList.drop 24 = dktX1_sell_1 := dk_seg dksX1_sell_0 24 rfl rfl
theorem dksX1_sell_2 : cX1_sell.data.toList.drop 46 = dktX1_sell_2 := dk_seg dksX1_sell_1 22 rfl rfl
theorem dX1_sell_0 : decode cX1_sell 0 = .ok (.aload_n 0, 1) := dk_42 (dk_at dksX1_sell_0 0 rfl rfl)
theorem dX1_sell_1 : decode cX1_sell 1 = .ok (.getfield 114, 3) := dk_180 0 114 (dk_at dksX1_sell_0 1 rfl rfl)
theorem dX1_sell_4 : decode cX1_sell 4 = .ok (.iload_n 1, 1) := dk_27 (dk_at dksX1_sell_0 4 rfl rfl)
theorem dX1_sell_5 : decode cX1_sell 5 = .ok (.invokestatic 127, 3) := dk_184 0 127 (dk_at dksX1_sell_0 5 rfl rfl)
theorem dX1_sell_8 : decode cX1_sell 8 = .ok (.checkcast 52, 3) := dk_192 0 52 (dk_at dksX1_sell_0 8 rfl rfl)
theorem dX1_sell_11 : decode cX1_sell 11 = .ok (.astore_n 2, 1) := dk_77 (dk_at dksX1_sell_0 11 rfl rfl)
theorem dX1_sell_12 : decode cX1_sell 12 = .ok (.aload_n 2, 1) := dk_44 (dk_at dksX1_sell_0 12 rfl rfl)
theorem dX1_sell_13 : decode cX1_sell 13 = .ok (.getfield 287, 3) := dk_180 1 31 (dk_at dksX1_sell_0 13 rfl rfl)
theorem dX1_sell_16 : decode cX1_sell 16 = .ok (.ifCond .ne 7, 3) := dk_154 0 7 (dk_at dksX1_sell_0 16 rfl rfl)
theorem dX1_sell_19 : decode cX1_sell 19 = .ok (.iconst 1, 1) := dk_4 (dk_at dksX1_sell_0 19 rfl rfl)
theorem dX1_sell_20 : decode cX1_sell 20 = .ok (.goto 4, 3) := dk_167 0 4 (dk_at dksX1_sell_0 20 rfl rfl)
theorem dX1_sell_23 : decode cX1_sell 23 = .ok (.iconst 0, 1) := dk_3 (dk_at dksX1_sell_0 23 rfl rfl)
theorem dX1_sell_24 : decode cX1_sell 24 = .ok (.invokestatic 138, 3) := dk_184 0 138 (dk_at dksX1_sell_1 0 rfl rfl)
theorem dX1_sell_27 : decode cX1_sell 27 = .ok (.aload_n 2, 1) := dk_44 (dk_at dksX1_sell_1 3 rfl rfl)
theorem dX1_sell_28 : decode cX1_sell 28 = .ok (.iconst 1, 1) := dk_4 (dk_at dksX1_sell_1 4 rfl rfl)
theorem dX1_sell_29 : decode cX1_sell 29 = .ok (.putfield 287, 3) := dk_181 1 31 (dk_at dksX1_sell_1 5 rfl rfl)
theorem dX1_sell_32 : decode cX1_sell 32 = .ok (.aload_n 2, 1) := dk_44 (dk_at dksX1_sell_1 8 rfl rfl)
theorem dX1_sell_33 : decode cX1_sell 33 = .ok (.getfield 284, 3) := dk_180 1 28 (dk_at dksX1_sell_1 9 rfl rfl)
theorem dX1_sell_36 : decode cX1_sell 36 = .ok (.iconst 4, 1) := dk_7 (dk_at dksX1_sell_1 12 rfl rfl)
theorem dX1_sell_37 : decode cX1_sell 37 = .ok (.aload_n 2, 1) := dk_44 (dk_at dksX1_sell_1 13 rfl rfl)
theorem dX1_sell_38 : decode cX1_sell 38 = .ok (.invokevirtual 290, 3) := dk_182 1 34 (dk_at dksX1_sell_1 14 rfl rfl)
theorem dX1_sell_41 : decode cX1_sell 41 = .ok (.isub, 1) := dk_100 (dk_at dksX1_sell_1 17 rfl rfl)
theorem dX1_sell_42 : decode cX1_sell 42 = .ok (.imul, 1) := dk_104 (dk_at dksX1_sell_1 18 rfl rfl)
theorem dX1_sell_43 : decode cX1_sell 43 = .ok (.istore_n 3, 1) := dk_62 (dk_at dksX1_sell_1 19 rfl rfl)
theorem dX1_sell_44 : decode cX1_sell 44 = .ok (.aload_n 0, 1) := dk_42 (dk_at dksX1_sell_1 20 rfl rfl)
theorem dX1_sell_45 : decode cX1_sell 45 = .ok (.dup, 1) := dk_89 (dk_at dksX1_sell_1 21 rfl rfl)
theorem dX1_sell_46 : decode cX1_sell 46 = .ok (.getfield 117, 3) := dk_180 0 117 (dk_at dksX1_sell_2 0 rfl rfl)
theorem dX1_sell_49 : decode cX1_sell 49 = .ok (.iload_n 3, 1) := dk_29 (dk_at dksX1_sell_2 3 rfl rfl)
theorem dX1_sell_50 : decode cX1_sell 50 = .ok (.iadd, 1) := dk_96 (dk_at dksX1_sell_2 4 rfl rfl)
theorem dX1_sell_51 : decode cX1_sell 51 = .ok (.putfield 117, 3) := dk_181 0 117 (dk_at dksX1_sell_2 5 rfl rfl)
theorem dX1_sell_54 : decode cX1_sell 54 = .ok (.iload_n 3, 1) := dk_29 (dk_at dksX1_sell_2 8 rfl rfl)
theorem dX1_sell_55 : decode cX1_sell 55 = .ok (.ireturn, 1) := dk_172 (dk_at dksX1_sell_2 9 rfl rfl)
abbrev cX1_borrow : ByteArray := prog_1_method_35_code
def yX1_borrow : MethodName := ⟨RX1, "borrow", "(I)I"⟩
def dkwX1_borrow_2 : List UInt8 := [42, 180, 0, 169, 172]
abbrev dktX1_borrow_2 : List UInt8 := dkwX1_borrow_2 ++ []
def dkwX1_borrow_1 : List UInt8 := [3, 184, 0, 138, 42, 89, 180, 0, 117, 27, 96, 181, 0, 117, 42, 89, 180, 0, 169, 27, 96, 181, 0, 169]
abbrev dktX1_borrow_1 : List UInt8 := dkwX1_borrow_1 ++ dktX1_borrow_2
def dkwX1_borrow_0 : List UInt8 := [4, 17, 1, 244, 27, 184, 0, 133, 42, 180, 0, 169, 27, 96, 17, 39, 15, 163, 0, 7, 4, 167, 0, 4]
abbrev dktX1_borrow_0 : List UInt8 := dkwX1_borrow_0 ++ dktX1_borrow_1
theorem dksX1_borrow_0 : cX1_borrow.data.toList.drop 0 = dktX1_borrow_0 := by decide +kernel
theorem dksX1_borrow_1 : cX1_borrow.data.toList.drop 24 = dktX1_borrow_1 := dk_seg dksX1_borrow_0 24 rfl rfl
theorem dksX1_borrow_2 : cX1_borrow.data.toList.drop 48 = dktX1_borrow_2 := dk_seg dksX1_borrow_1 24 rfl rfl
theorem dX1_borrow_0 : decode cX1_borrow 0 = .ok (.iconst 1, 1) := dk_4 (dk_at dksX1_borrow_0 0 rfl rfl)
theorem dX1_borrow_1 : decode cX1_borrow 1 = .ok (.sipush 500, 3) := dk_17 1 244 (dk_at dksX1_borrow_0 1 rfl rfl)
theorem dX1_borrow_4 : decode cX1_borrow 4 = .ok (.iload_n 1, 1) := dk_27 (dk_at dksX1_borrow_0 4 rfl rfl)
theorem dX1_borrow_5 : decode cX1_borrow 5 = .ok (.invokestatic 133, 3) := dk_184 0 133 (dk_at dksX1_borrow_0 5 rfl rfl)
theorem dX1_borrow_8 : decode cX1_borrow 8 = .ok (.aload_n 0, 1) := dk_42 (dk_at dksX1_borrow_0 8 rfl rfl)
theorem dX1_borrow_9 : decode cX1_borrow 9 = .ok (.getfield 169, 3) := dk_180 0 169 (dk_at dksX1_borrow_0 9 rfl rfl)
theorem dX1_borrow_12 : decode cX1_borrow 12 = .ok (.iload_n 1, 1) := dk_27 (dk_at dksX1_borrow_0 12 rfl rfl)
theorem dX1_borrow_13 : decode cX1_borrow 13 = .ok (.iadd, 1) := dk_96 (dk_at dksX1_borrow_0 13 rfl rfl)
theorem dX1_borrow_14 : decode cX1_borrow 14 = .ok (.sipush 9999, 3) := dk_17 39 15 (dk_at dksX1_borrow_0 14 rfl rfl)
theorem dX1_borrow_17 : decode cX1_borrow 17 = .ok (.if_icmp .gt 7, 3) := dk_163 0 7 (dk_at dksX1_borrow_0 17 rfl rfl)
theorem dX1_borrow_20 : decode cX1_borrow 20 = .ok (.iconst 1, 1) := dk_4 (dk_at dksX1_borrow_0 20 rfl rfl)
theorem dX1_borrow_21 : decode cX1_borrow 21 = .ok (.goto 4, 3) := dk_167 0 4 (dk_at dksX1_borrow_0 21 rfl rfl)
theorem dX1_borrow_24 : decode cX1_borrow 24 = .ok (.iconst 0, 1) := dk_3 (dk_at dksX1_borrow_1 0 rfl rfl)
theorem dX1_borrow_25 : decode cX1_borrow 25 = .ok (.invokestatic 138, 3) := dk_184 0 138 (dk_at dksX1_borrow_1 1 rfl rfl)
theorem dX1_borrow_28 : decode cX1_borrow 28 = .ok (.aload_n 0, 1) := dk_42 (dk_at dksX1_borrow_1 4 rfl rfl)
theorem dX1_borrow_29 : decode cX1_borrow 29 = .ok (.dup, 1) := dk_89 (dk_at dksX1_borrow_1 5 rfl rfl)
theorem dX1_borrow_30 : decode cX1_borrow 30 = .ok (.getfield 117, 3) := dk_180 0 117 (dk_at dksX1_borrow_1 6 rfl rfl)
theorem dX1_borrow_33 : decode cX1_borrow 33 = .ok (.iload_n 1, 1) := dk_27 (dk_at dksX1_borrow_1 9 rfl rfl)
theorem dX1_borrow_34 : decode cX1_borrow 34 = .ok (.iadd, 1) := dk_96 (dk_at dksX1_borrow_1 10 rfl rfl)
theorem dX1_borrow_35 : decode cX1_borrow 35 = .ok (.putfield 117, 3) := dk_181 0 117 (dk_at dksX1_borrow_1 11 rfl rfl)
theorem dX1_borrow_38 : decode cX1_borrow 38 = .ok (.aload_n 0, 1) := dk_42 (dk_at dksX1_borrow_1 14 rfl rfl)
theorem dX1_borrow_39 : decode cX1_borrow 39 = .ok (.dup, 1) := dk_89 (dk_at dksX1_borrow_1 15 rfl rfl)
theorem dX1_borrow_40 : decode cX1_borrow 40 = .ok (.getfield 169, 3) := dk_180 0 169 (dk_at dksX1_borrow_1 16 rfl rfl)
theorem dX1_borrow_43 : decode cX1_borrow 43 = .ok (.iload_n 1, 1) := dk_27 (dk_at dksX1_borrow_1 19 rfl rfl)
theorem dX1_borrow_44 : decode cX1_borrow 44 = .ok (.iadd, 1) := dk_96 (dk_at dksX1_borrow_1 20 rfl rfl)
theorem dX1_borrow_45 : decode cX1_borrow 45 = .ok (.putfield 169, 3) := dk_181 0 169 (dk_at dksX1_borrow_1 21 rfl rfl)
theorem dX1_borrow_48 : decode cX1_borrow 48 = .ok (.aload_n 0, 1) := dk_42 (dk_at dksX1_borrow_2 0 rfl rfl)
theorem dX1_borrow_49 : decode cX1_borrow 49 = .ok (.getfield 169, 3) := dk_180 0 169 (dk_at dksX1_borrow_2 1 rfl rfl)
theorem dX1_borrow_52 : decode cX1_borrow 52 = .ok (.ireturn, 1) := dk_172 (dk_at dksX1_borrow_2 4 rfl rfl)
abbrev cX1_pay : ByteArray := prog_1_method_36_code
def yX1_pay : MethodName := ⟨RX1, "pay", "(I)I"⟩
def dkwX1_pay_2 : List UInt8 := [172]
abbrev dktX1_pay_2 : List UInt8 := dkwX1_pay_2 ++ []
def dkwX1_pay_1 : List UInt8 := [42, 89, 180, 0, 117, 28, 100, 181, 0, 117, 42, 89, 180, 0, 169, 28, 100, 181, 0, 169, 42, 180, 0, 169]
abbrev dktX1_pay_1 : List UInt8 := dkwX1_pay_1 ++ dktX1_pay_2
def dkwX1_pay_0 : List UInt8 := [4, 17, 3, 231, 27, 184, 0, 133, 27, 42, 180, 0, 117, 42, 180, 0, 169, 184, 0, 176, 184, 0, 176, 61]
abbrev dktX1_pay_0 : List UInt8 := dkwX1_pay_0 ++ dktX1_pay_1
theorem dksX1_pay_0 : cX1_pay.data.toList.drop 0 = dktX1_pay_0 := by decide +kernel
theorem dksX1_pay_1 : cX1_pay.data.toList.drop 24 = dktX1_pay_1 := dk_seg dksX1_pay_0 24 rfl rfl
theorem dksX1_pay_2 : cX1_pay.data.toList.drop 48 = dktX1_pay_2 := dk_seg dksX1_pay_1 24 rfl rfl
theorem dX1_pay_0 : decode cX1_pay 0 = .ok (.iconst 1, 1) := dk_4 (dk_at dksX1_pay_0 0 rfl rfl)
theorem dX1_pay_1 : decode cX1_pay 1 = .ok (.sipush 999, 3) := dk_17 3 231 (dk_at dksX1_pay_0 1 rfl rfl)
theorem dX1_pay_4 : decode cX1_pay 4 = .ok (.iload_n 1, 1) := dk_27 (dk_at dksX1_pay_0 4 rfl rfl)
theorem dX1_pay_5 : decode cX1_pay 5 = .ok (.invokestatic 133, 3) := dk_184 0 133 (dk_at dksX1_pay_0 5 rfl rfl)
theorem dX1_pay_8 : decode cX1_pay 8 = .ok (.iload_n 1, 1) := dk_27 (dk_at dksX1_pay_0 8 rfl rfl)
theorem dX1_pay_9 : decode cX1_pay 9 = .ok (.aload_n 0, 1) := dk_42 (dk_at dksX1_pay_0 9 rfl rfl)
theorem dX1_pay_10 : decode cX1_pay 10 = .ok (.getfield 117, 3) := dk_180 0 117 (dk_at dksX1_pay_0 10 rfl rfl)
theorem dX1_pay_13 : decode cX1_pay 13 = .ok (.aload_n 0, 1) := dk_42 (dk_at dksX1_pay_0 13 rfl rfl)
theorem dX1_pay_14 : decode cX1_pay 14 = .ok (.getfield 169, 3) := dk_180 0 169 (dk_at dksX1_pay_0 14 rfl rfl)
theorem dX1_pay_17 : decode cX1_pay 17 = .ok (.invokestatic 176, 3) := dk_184 0 176 (dk_at dksX1_pay_0 17 rfl rfl)
theorem dX1_pay_20 : decode cX1_pay 20 = .ok (.invokestatic 176, 3) := dk_184 0 176 (dk_at dksX1_pay_0 20 rfl rfl)
theorem dX1_pay_23 : decode cX1_pay 23 = .ok (.istore_n 2, 1) := dk_61 (dk_at dksX1_pay_0 23 rfl rfl)
theorem dX1_pay_24 : decode cX1_pay 24 = .ok (.aload_n 0, 1) := dk_42 (dk_at dksX1_pay_1 0 rfl rfl)
theorem dX1_pay_25 : decode cX1_pay 25 = .ok (.dup, 1) := dk_89 (dk_at dksX1_pay_1 1 rfl rfl)
theorem dX1_pay_26 : decode cX1_pay 26 = .ok (.getfield 117, 3) := dk_180 0 117 (dk_at dksX1_pay_1 2 rfl rfl)
theorem dX1_pay_29 : decode cX1_pay 29 = .ok (.iload_n 2, 1) := dk_28 (dk_at dksX1_pay_1 5 rfl rfl)
theorem dX1_pay_30 : decode cX1_pay 30 = .ok (.isub, 1) := dk_100 (dk_at dksX1_pay_1 6 rfl rfl)
theorem dX1_pay_31 : decode cX1_pay 31 = .ok (.putfield 117, 3) := dk_181 0 117 (dk_at dksX1_pay_1 7 rfl rfl)
theorem dX1_pay_34 : decode cX1_pay 34 = .ok (.aload_n 0, 1) := dk_42 (dk_at dksX1_pay_1 10 rfl rfl)
theorem dX1_pay_35 : decode cX1_pay 35 = .ok (.dup, 1) := dk_89 (dk_at dksX1_pay_1 11 rfl rfl)
theorem dX1_pay_36 : decode cX1_pay 36 = .ok (.getfield 169, 3) := dk_180 0 169 (dk_at dksX1_pay_1 12 rfl rfl)
theorem dX1_pay_39 : decode cX1_pay 39 = .ok (.iload_n 2, 1) := dk_28 (dk_at dksX1_pay_1 15 rfl rfl)
theorem dX1_pay_40 : decode cX1_pay 40 = .ok (.isub, 1) := dk_100 (dk_at dksX1_pay_1 16 rfl rfl)
theorem dX1_pay_41 : decode cX1_pay 41 = .ok (.putfield 169, 3) := dk_181 0 169 (dk_at dksX1_pay_1 17 rfl rfl)
theorem dX1_pay_44 : decode cX1_pay 44 = .ok (.aload_n 0, 1) := dk_42 (dk_at dksX1_pay_1 20 rfl rfl)
theorem dX1_pay_45 : decode cX1_pay 45 = .ok (.getfield 169, 3) := dk_180 0 169 (dk_at dksX1_pay_1 21 rfl rfl)
theorem dX1_pay_48 : decode cX1_pay 48 = .ok (.ireturn, 1) := dk_172 (dk_at dksX1_pay_2 0 rfl rfl)
abbrev cX1_ofPlot : ByteArray := prog_1_method_38_code
def yX1_ofPlot : MethodName := ⟨RX1, "ofPlot", "(II)I"⟩
def dkwX1_ofPlot_0 : List UInt8 := [42, 27, 182, 0, 187, 78, 3, 8, 28, 184, 0, 133, 45, 28, 184, 1, 46, 172]
abbrev dktX1_ofPlot_0 : List UInt8 := dkwX1_ofPlot_0 ++ []
theorem dksX1_ofPlot_0 : cX1_ofPlot.data.toList.drop 0 = dktX1_ofPlot_0 := by decide +kernel
theorem dX1_ofPlot_0 : decode cX1_ofPlot 0 = .ok (.aload_n 0, 1) := dk_42 (dk_at dksX1_ofPlot_0 0 rfl rfl)
theorem dX1_ofPlot_1 : decode cX1_ofPlot 1 = .ok (.iload_n 1, 1) := dk_27 (dk_at dksX1_ofPlot_0 1 rfl rfl)
theorem dX1_ofPlot_2 : decode cX1_ofPlot 2 = .ok (.invokevirtual 187, 3) := dk_182 0 187 (dk_at dksX1_ofPlot_0 2 rfl rfl)
theorem dX1_ofPlot_5 : decode cX1_ofPlot 5 = .ok (.astore_n 3, 1) := dk_78 (dk_at dksX1_ofPlot_0 5 rfl rfl)
theorem dX1_ofPlot_6 : decode cX1_ofPlot 6 = .ok (.iconst 0, 1) := dk_3 (dk_at dksX1_ofPlot_0 6 rfl rfl)
theorem dX1_ofPlot_7 : decode cX1_ofPlot 7 = .ok (.iconst 5, 1) := dk_8 (dk_at dksX1_ofPlot_0 7 rfl rfl)
theorem dX1_ofPlot_8 : decode cX1_ofPlot 8 = .ok (.iload_n 2, 1) := dk_28 (dk_at dksX1_ofPlot_0 8 rfl rfl)
theorem dX1_ofPlot_9 : decode cX1_ofPlot 9 = .ok (.invokestatic 133, 3) := dk_184 0 133 (dk_at dksX1_ofPlot_0 9 rfl rfl)
theorem dX1_ofPlot_12 : decode cX1_ofPlot 12 = .ok (.aload_n 3, 1) := dk_45 (dk_at dksX1_ofPlot_0 12 rfl rfl)
theorem dX1_ofPlot_13 : decode cX1_ofPlot 13 = .ok (.iload_n 2, 1) := dk_28 (dk_at dksX1_ofPlot_0 13 rfl rfl)
theorem dX1_ofPlot_14 : decode cX1_ofPlot 14 = .ok (.invokestatic 302, 3) := dk_184 1 46 (dk_at dksX1_ofPlot_0 14 rfl rfl)
theorem dX1_ofPlot_17 : decode cX1_ofPlot 17 = .ok (.ireturn, 1) := dk_172 (dk_at dksX1_ofPlot_0 17 rfl rfl)
abbrev cX1_ofLine : ByteArray := prog_1_method_40_code
def yX1_ofLine : MethodName := ⟨RX1, "ofLine", "(II)I"⟩
def dkwX1_ofLine_0 : List UInt8 := [42, 27, 182, 0, 203, 78, 3, 5, 28, 184, 0, 133, 45, 28, 184, 1, 50, 172]
abbrev dktX1_ofLine_0 : List UInt8 := dkwX1_ofLine_0 ++ []
theorem dksX1_ofLine_0 : cX1_ofLine.data.toList.drop 0 = dktX1_ofLine_0 := by decide +kernel
theorem dX1_ofLine_0 : decode cX1_ofLine 0 = .ok (.aload_n 0, 1) := dk_42 (dk_at dksX1_ofLine_0 0 rfl rfl)
theorem dX1_ofLine_1 : decode cX1_ofLine 1 = .ok (.iload_n 1, 1) := dk_27 (dk_at dksX1_ofLine_0 1 rfl rfl)
theorem dX1_ofLine_2 : decode cX1_ofLine 2 = .ok (.invokevirtual 203, 3) := dk_182 0 203 (dk_at dksX1_ofLine_0 2 rfl rfl)
theorem dX1_ofLine_5 : decode cX1_ofLine 5 = .ok (.astore_n 3, 1) := dk_78 (dk_at dksX1_ofLine_0 5 rfl rfl)
theorem dX1_ofLine_6 : decode cX1_ofLine 6 = .ok (.iconst 0, 1) := dk_3 (dk_at dksX1_ofLine_0 6 rfl rfl)
theorem dX1_ofLine_7 : decode cX1_ofLine 7 = .ok (.iconst 2, 1) := dk_5 (dk_at dksX1_ofLine_0 7 rfl rfl)
theorem dX1_ofLine_8 : decode cX1_ofLine 8 = .ok (.iload_n 2, 1) := dk_28 (dk_at dksX1_ofLine_0 8 rfl rfl)
theorem dX1_ofLine_9 : decode cX1_ofLine 9 = .ok (.invokestatic 133, 3) := dk_184 0 133 (dk_at dksX1_ofLine_0 9 rfl rfl)
theorem dX1_ofLine_12 : decode cX1_ofLine 12 = .ok (.aload_n 3, 1) := dk_45 (dk_at dksX1_ofLine_0 12 rfl rfl)
theorem dX1_ofLine_13 : decode cX1_ofLine 13 = .ok (.iload_n 2, 1) := dk_28 (dk_at dksX1_ofLine_0 13 rfl rfl)
theorem dX1_ofLine_14 : decode cX1_ofLine 14 = .ok (.invokestatic 306, 3) := dk_184 1 50 (dk_at dksX1_ofLine_0 14 rfl rfl)
theorem dX1_ofLine_17 : decode cX1_ofLine 17 = .ok (.ireturn, 1) := dk_172 (dk_at dksX1_ofLine_0 17 rfl rfl)
abbrev cX1_ofTray : ByteArray := prog_1_method_42_code
def yX1_ofTray : MethodName := ⟨RX1, "ofTray", "(II)I"⟩
def dkwX1_ofTray_0 : List UInt8 := [42, 27, 182, 0, 212, 78, 3, 16, 11, 28, 184, 0, 133, 45, 28, 184, 1, 65, 172]
abbrev dktX1_ofTray_0 : List UInt8 := dkwX1_ofTray_0 ++ []
theorem dksX1_ofTray_0 : cX1_ofTray.data.toList.drop 0 = dktX1_ofTray_0 := by decide +kernel
theorem dX1_ofTray_0 : decode cX1_ofTray 0 = .ok (.aload_n 0, 1) := dk_42 (dk_at dksX1_ofTray_0 0 rfl rfl)
theorem dX1_ofTray_1 : decode cX1_ofTray 1 = .ok (.iload_n 1, 1) := dk_27 (dk_at dksX1_ofTray_0 1 rfl rfl)
theorem dX1_ofTray_2 : decode cX1_ofTray 2 = .ok (.invokevirtual 212, 3) := dk_182 0 212 (dk_at dksX1_ofTray_0 2 rfl rfl)
theorem dX1_ofTray_5 : decode cX1_ofTray 5 = .ok (.astore_n 3, 1) := dk_78 (dk_at dksX1_ofTray_0 5 rfl rfl)
theorem dX1_ofTray_6 : decode cX1_ofTray 6 = .ok (.iconst 0, 1) := dk_3 (dk_at dksX1_ofTray_0 6 rfl rfl)
theorem dX1_ofTray_7 : decode cX1_ofTray 7 = .ok (.bipush 11, 2) := dk_16 11 (dk_at dksX1_ofTray_0 7 rfl rfl)
theorem dX1_ofTray_9 : decode cX1_ofTray 9 = .ok (.iload_n 2, 1) := dk_28 (dk_at dksX1_ofTray_0 9 rfl rfl)
theorem dX1_ofTray_10 : decode cX1_ofTray 10 = .ok (.invokestatic 133, 3) := dk_184 0 133 (dk_at dksX1_ofTray_0 10 rfl rfl)
theorem dX1_ofTray_13 : decode cX1_ofTray 13 = .ok (.aload_n 3, 1) := dk_45 (dk_at dksX1_ofTray_0 13 rfl rfl)
theorem dX1_ofTray_14 : decode cX1_ofTray 14 = .ok (.iload_n 2, 1) := dk_28 (dk_at dksX1_ofTray_0 14 rfl rfl)
theorem dX1_ofTray_15 : decode cX1_ofTray 15 = .ok (.invokestatic 321, 3) := dk_184 1 65 (dk_at dksX1_ofTray_0 15 rfl rfl)
theorem dX1_ofTray_18 : decode cX1_ofTray 18 = .ok (.ireturn, 1) := dk_172 (dk_at dksX1_ofTray_0 18 rfl rfl)
abbrev cX1_ofLot : ByteArray := prog_1_method_44_code
def yX1_ofLot : MethodName := ⟨RX1, "ofLot", "(II)I"⟩
def dkwX1_ofLot_0 : List UInt8 := [42, 27, 182, 0, 252, 78, 3, 16, 8, 28, 184, 0, 133, 45, 28, 184, 1, 74, 172]
abbrev dktX1_ofLot_0 : List UInt8 := dkwX1_ofLot_0 ++ []
theorem dksX1_ofLot_0 : cX1_ofLot.data.toList.drop 0 = dktX1_ofLot_0 := by decide +kernel
theorem dX1_ofLot_0 : decode cX1_ofLot 0 = .ok (.aload_n 0, 1) := dk_42 (dk_at dksX1_ofLot_0 0 rfl rfl)
theorem dX1_ofLot_1 : decode cX1_ofLot 1 = .ok (.iload_n 1, 1) := dk_27 (dk_at dksX1_ofLot_0 1 rfl rfl)
theorem dX1_ofLot_2 : decode cX1_ofLot 2 = .ok (.invokevirtual 252, 3) := dk_182 0 252 (dk_at dksX1_ofLot_0 2 rfl rfl)
theorem dX1_ofLot_5 : decode cX1_ofLot 5 = .ok (.astore_n 3, 1) := dk_78 (dk_at dksX1_ofLot_0 5 rfl rfl)
theorem dX1_ofLot_6 : decode cX1_ofLot 6 = .ok (.iconst 0, 1) := dk_3 (dk_at dksX1_ofLot_0 6 rfl rfl)
theorem dX1_ofLot_7 : decode cX1_ofLot 7 = .ok (.bipush 8, 2) := dk_16 8 (dk_at dksX1_ofLot_0 7 rfl rfl)
theorem dX1_ofLot_9 : decode cX1_ofLot 9 = .ok (.iload_n 2, 1) := dk_28 (dk_at dksX1_ofLot_0 9 rfl rfl)
theorem dX1_ofLot_10 : decode cX1_ofLot 10 = .ok (.invokestatic 133, 3) := dk_184 0 133 (dk_at dksX1_ofLot_0 10 rfl rfl)
theorem dX1_ofLot_13 : decode cX1_ofLot 13 = .ok (.aload_n 3, 1) := dk_45 (dk_at dksX1_ofLot_0 13 rfl rfl)
theorem dX1_ofLot_14 : decode cX1_ofLot 14 = .ok (.iload_n 2, 1) := dk_28 (dk_at dksX1_ofLot_0 14 rfl rfl)
theorem dX1_ofLot_15 : decode cX1_ofLot 15 = .ok (.invokestatic 330, 3) := dk_184 1 74 (dk_at dksX1_ofLot_0 15 rfl rfl)
theorem dX1_ofLot_18 : decode cX1_ofLot 18 = .ok (.ireturn, 1) := dk_172 (dk_at dksX1_ofLot_0 18 rfl rfl)
abbrev cX1_inBasin : ByteArray := prog_1_method_46_code
def yX1_inBasin : MethodName := ⟨RX1, "inBasin", "(II)I"⟩
def dkwX1_inBasin_0 : List UInt8 := [27, 184, 1, 18, 28, 155, 0, 7, 4, 167, 0, 4, 3, 184, 0, 13, 42, 27, 28, 182, 1, 77, 172]
abbrev dktX1_inBasin_0 : List UInt8 := dkwX1_inBasin_0 ++ []
theorem dksX1_inBasin_0 : cX1_inBasin.data.toList.drop 0 = dktX1_inBasin_0 := by decide +kernel
theorem dX1_inBasin_0 : decode cX1_inBasin 0 = .ok (.iload_n 1, 1) := dk_27 (dk_at dksX1_inBasin_0 0 rfl rfl)
theorem dX1_inBasin_1 : decode cX1_inBasin 1 = .ok (.invokestatic 274, 3) := dk_184 1 18 (dk_at dksX1_inBasin_0 1 rfl rfl)
theorem dX1_inBasin_4 : decode cX1_inBasin 4 = .ok (.iload_n 2, 1) := dk_28 (dk_at dksX1_inBasin_0 4 rfl rfl)
theorem dX1_inBasin_5 : decode cX1_inBasin 5 = .ok (.ifCond .lt 7, 3) := dk_155 0 7 (dk_at dksX1_inBasin_0 5 rfl rfl)
theorem dX1_inBasin_8 : decode cX1_inBasin 8 = .ok (.iconst 1, 1) := dk_4 (dk_at dksX1_inBasin_0 8 rfl rfl)
theorem dX1_inBasin_9 : decode cX1_inBasin 9 = .ok (.goto 4, 3) := dk_167 0 4 (dk_at dksX1_inBasin_0 9 rfl rfl)
theorem dX1_inBasin_12 : decode cX1_inBasin 12 = .ok (.iconst 0, 1) := dk_3 (dk_at dksX1_inBasin_0 12 rfl rfl)
theorem dX1_inBasin_13 : decode cX1_inBasin 13 = .ok (.invokestatic 13, 3) := dk_184 0 13 (dk_at dksX1_inBasin_0 13 rfl rfl)
theorem dX1_inBasin_16 : decode cX1_inBasin 16 = .ok (.aload_n 0, 1) := dk_42 (dk_at dksX1_inBasin_0 16 rfl rfl)
theorem dX1_inBasin_17 : decode cX1_inBasin 17 = .ok (.iload_n 1, 1) := dk_27 (dk_at dksX1_inBasin_0 17 rfl rfl)
theorem dX1_inBasin_18 : decode cX1_inBasin 18 = .ok (.iload_n 2, 1) := dk_28 (dk_at dksX1_inBasin_0 18 rfl rfl)
theorem dX1_inBasin_19 : decode cX1_inBasin 19 = .ok (.invokevirtual 333, 3) := dk_182 1 77 (dk_at dksX1_inBasin_0 19 rfl rfl)
theorem dX1_inBasin_22 : decode cX1_inBasin 22 = .ok (.ireturn, 1) := dk_172 (dk_at dksX1_inBasin_0 22 rfl rfl)
abbrev cX1_ofSkein : ByteArray := prog_1_method_48_code
def yX1_ofSkein : MethodName := ⟨RX1, "ofSkein", "(II)I"⟩
def dkwX1_ofSkein_1 : List UInt8 := [172]
abbrev dktX1_ofSkein_1 : List UInt8 := dkwX1_ofSkein_1 ++ []
def dkwX1_ofSkein_0 : List UInt8 := [42, 180, 0, 114, 27, 184, 0, 127, 192, 0, 52, 78, 3, 16, 9, 28, 184, 0, 133, 45, 28, 184, 1, 89]
abbrev dktX1_ofSkein_0 : List UInt8 := dkwX1_ofSkein_0 ++ dktX1_ofSkein_1
theorem dksX1_ofSkein_0 : cX1_ofSkein.data.toList.drop 0 = dktX1_ofSkein_0 := by decide +kernel
theorem dksX1_ofSkein_1 : cX1_ofSkein.data.toList.drop 24 = dktX1_ofSkein_1 := dk_seg dksX1_ofSkein_0 24 rfl rfl
theorem dX1_ofSkein_0 : decode cX1_ofSkein 0 = .ok (.aload_n 0, 1) := dk_42 (dk_at dksX1_ofSkein_0 0 rfl rfl)
theorem dX1_ofSkein_1 : decode cX1_ofSkein 1 = .ok (.getfield 114, 3) := dk_180 0 114 (dk_at dksX1_ofSkein_0 1 rfl rfl)
theorem dX1_ofSkein_4 : decode cX1_ofSkein 4 = .ok (.iload_n 1, 1) := dk_27 (dk_at dksX1_ofSkein_0 4 rfl rfl)
theorem dX1_ofSkein_5 : decode cX1_ofSkein 5 = .ok (.invokestatic 127, 3) := dk_184 0 127 (dk_at dksX1_ofSkein_0 5 rfl rfl)
theorem dX1_ofSkein_8 : decode cX1_ofSkein 8 = .ok (.checkcast 52, 3) := dk_192 0 52 (dk_at dksX1_ofSkein_0 8 rfl rfl)
theorem dX1_ofSkein_11 : decode cX1_ofSkein 11 = .ok (.astore_n 3, 1) := dk_78 (dk_at dksX1_ofSkein_0 11 rfl rfl)
theorem dX1_ofSkein_12 : decode cX1_ofSkein 12 = .ok (.iconst 0, 1) := dk_3 (dk_at dksX1_ofSkein_0 12 rfl rfl)
theorem dX1_ofSkein_13 : decode cX1_ofSkein 13 = .ok (.bipush 9, 2) := dk_16 9 (dk_at dksX1_ofSkein_0 13 rfl rfl)
theorem dX1_ofSkein_15 : decode cX1_ofSkein 15 = .ok (.iload_n 2, 1) := dk_28 (dk_at dksX1_ofSkein_0 15 rfl rfl)
theorem dX1_ofSkein_16 : decode cX1_ofSkein 16 = .ok (.invokestatic 133, 3) := dk_184 0 133 (dk_at dksX1_ofSkein_0 16 rfl rfl)
theorem dX1_ofSkein_19 : decode cX1_ofSkein 19 = .ok (.aload_n 3, 1) := dk_45 (dk_at dksX1_ofSkein_0 19 rfl rfl)
theorem dX1_ofSkein_20 : decode cX1_ofSkein 20 = .ok (.iload_n 2, 1) := dk_28 (dk_at dksX1_ofSkein_0 20 rfl rfl)
theorem dX1_ofSkein_21 : decode cX1_ofSkein 21 = .ok (.invokestatic 345, 3) := dk_184 1 89 (dk_at dksX1_ofSkein_0 21 rfl rfl)
theorem dX1_ofSkein_24 : decode cX1_ofSkein 24 = .ok (.ireturn, 1) := dk_172 (dk_at dksX1_ofSkein_1 0 rfl rfl)
abbrev cX1_many : ByteArray := prog_1_method_50_code
def yX1_many : MethodName := ⟨RX1, "many", "(I)I"⟩
def dkwX1_many_0 : List UInt8 := [3, 16, 11, 27, 184, 0, 133, 42, 27, 182, 1, 92, 172]
abbrev dktX1_many_0 : List UInt8 := dkwX1_many_0 ++ []
theorem dksX1_many_0 : cX1_many.data.toList.drop 0 = dktX1_many_0 := by decide +kernel
theorem dX1_many_0 : decode cX1_many 0 = .ok (.iconst 0, 1) := dk_3 (dk_at dksX1_many_0 0 rfl rfl)
theorem dX1_many_1 : decode cX1_many 1 = .ok (.bipush 11, 2) := dk_16 11 (dk_at dksX1_many_0 1 rfl rfl)
theorem dX1_many_3 : decode cX1_many 3 = .ok (.iload_n 1, 1) := dk_27 (dk_at dksX1_many_0 3 rfl rfl)
theorem dX1_many_4 : decode cX1_many 4 = .ok (.invokestatic 133, 3) := dk_184 0 133 (dk_at dksX1_many_0 4 rfl rfl)
theorem dX1_many_7 : decode cX1_many 7 = .ok (.aload_n 0, 1) := dk_42 (dk_at dksX1_many_0 7 rfl rfl)
theorem dX1_many_8 : decode cX1_many 8 = .ok (.iload_n 1, 1) := dk_27 (dk_at dksX1_many_0 8 rfl rfl)
theorem dX1_many_9 : decode cX1_many 9 = .ok (.invokevirtual 348, 3) := dk_182 1 92 (dk_at dksX1_many_0 9 rfl rfl)
theorem dX1_many_12 : decode cX1_many 12 = .ok (.ireturn, 1) := dk_172 (dk_at dksX1_many_0 12 rfl rfl)
abbrev cX1_ripeIn : ByteArray := prog_1_method_53_code
def yX1_ripeIn : MethodName := ⟨RX1, "ripeIn", "(I)I"⟩
def dkwX1_ripeIn_0 : List UInt8 := [42, 42, 27, 182, 0, 212, 182, 1, 99, 172]
abbrev dktX1_ripeIn_0 : List UInt8 := dkwX1_ripeIn_0 ++ []
theorem dksX1_ripeIn_0 : cX1_ripeIn.data.toList.drop 0 = dktX1_ripeIn_0 := by decide +kernel
theorem dX1_ripeIn_0 : decode cX1_ripeIn 0 = .ok (.aload_n 0, 1) := dk_42 (dk_at dksX1_ripeIn_0 0 rfl rfl)
theorem dX1_ripeIn_1 : decode cX1_ripeIn 1 = .ok (.aload_n 0, 1) := dk_42 (dk_at dksX1_ripeIn_0 1 rfl rfl)
theorem dX1_ripeIn_2 : decode cX1_ripeIn 2 = .ok (.iload_n 1, 1) := dk_27 (dk_at dksX1_ripeIn_0 2 rfl rfl)
theorem dX1_ripeIn_3 : decode cX1_ripeIn 3 = .ok (.invokevirtual 212, 3) := dk_182 0 212 (dk_at dksX1_ripeIn_0 3 rfl rfl)
theorem dX1_ripeIn_6 : decode cX1_ripeIn 6 = .ok (.invokevirtual 355, 3) := dk_182 1 99 (dk_at dksX1_ripeIn_0 6 rfl rfl)
theorem dX1_ripeIn_9 : decode cX1_ripeIn 9 = .ok (.ireturn, 1) := dk_172 (dk_at dksX1_ripeIn_0 9 rfl rfl)
abbrev cX1_bestTarget : ByteArray := prog_1_method_55_code
def yX1_bestTarget : MethodName := ⟨RX1, "bestTarget", "(III)I"⟩
def dkwX1_bestTarget_1 : List UInt8 := [29, 182, 1, 108, 172]
abbrev dktX1_bestTarget_1 : List UInt8 := dkwX1_bestTarget_1 ++ []
def dkwX1_bestTarget_0 : List UInt8 := [42, 27, 182, 0, 252, 87, 28, 184, 1, 18, 4, 16, 30, 29, 184, 0, 133, 42, 42, 27, 182, 1, 21, 28]
abbrev dktX1_bestTarget_0 : List UInt8 := dkwX1_bestTarget_0 ++ dktX1_bestTarget_1
theorem dksX1_bestTarget_0 : cX1_bestTarget.data.toList.drop 0 = dktX1_bestTarget_0 := by decide +kernel
theorem dksX1_bestTarget_1 : cX1_bestTarget.data.toList.drop 24 = dktX1_bestTarget_1 := dk_seg dksX1_bestTarget_0 24 rfl rfl
theorem dX1_bestTarget_0 : decode cX1_bestTarget 0 = .ok (.aload_n 0, 1) := dk_42 (dk_at dksX1_bestTarget_0 0 rfl rfl)
theorem dX1_bestTarget_1 : decode cX1_bestTarget 1 = .ok (.iload_n 1, 1) := dk_27 (dk_at dksX1_bestTarget_0 1 rfl rfl)
theorem dX1_bestTarget_2 : decode cX1_bestTarget 2 = .ok (.invokevirtual 252, 3) := dk_182 0 252 (dk_at dksX1_bestTarget_0 2 rfl rfl)
theorem dX1_bestTarget_5 : decode cX1_bestTarget 5 = .ok (.pop, 1) := dk_87 (dk_at dksX1_bestTarget_0 5 rfl rfl)
theorem dX1_bestTarget_6 : decode cX1_bestTarget 6 = .ok (.iload_n 2, 1) := dk_28 (dk_at dksX1_bestTarget_0 6 rfl rfl)
theorem dX1_bestTarget_7 : decode cX1_bestTarget 7 = .ok (.invokestatic 274, 3) := dk_184 1 18 (dk_at dksX1_bestTarget_0 7 rfl rfl)
theorem dX1_bestTarget_10 : decode cX1_bestTarget 10 = .ok (.iconst 1, 1) := dk_4 (dk_at dksX1_bestTarget_0 10 rfl rfl)
theorem dX1_bestTarget_11 : decode cX1_bestTarget 11 = .ok (.bipush 30, 2) := dk_16 30 (dk_at dksX1_bestTarget_0 11 rfl rfl)
theorem dX1_bestTarget_13 : decode cX1_bestTarget 13 = .ok (.iload_n 3, 1) := dk_29 (dk_at dksX1_bestTarget_0 13 rfl rfl)
theorem dX1_bestTarget_14 : decode cX1_bestTarget 14 = .ok (.invokestatic 133, 3) := dk_184 0 133 (dk_at dksX1_bestTarget_0 14 rfl rfl)
theorem dX1_bestTarget_17 : decode cX1_bestTarget 17 = .ok (.aload_n 0, 1) := dk_42 (dk_at dksX1_bestTarget_0 17 rfl rfl)
theorem dX1_bestTarget_18 : decode cX1_bestTarget 18 = .ok (.aload_n 0, 1) := dk_42 (dk_at dksX1_bestTarget_0 18 rfl rfl)
theorem dX1_bestTarget_19 : decode cX1_bestTarget 19 = .ok (.iload_n 1, 1) := dk_27 (dk_at dksX1_bestTarget_0 19 rfl rfl)
theorem dX1_bestTarget_20 : decode cX1_bestTarget 20 = .ok (.invokevirtual 277, 3) := dk_182 1 21 (dk_at dksX1_bestTarget_0 20 rfl rfl)
theorem dX1_bestTarget_23 : decode cX1_bestTarget 23 = .ok (.iload_n 2, 1) := dk_28 (dk_at dksX1_bestTarget_0 23 rfl rfl)
theorem dX1_bestTarget_24 : decode cX1_bestTarget 24 = .ok (.iload_n 3, 1) := dk_29 (dk_at dksX1_bestTarget_1 0 rfl rfl)
theorem dX1_bestTarget_25 : decode cX1_bestTarget 25 = .ok (.invokevirtual 364, 3) := dk_182 1 108 (dk_at dksX1_bestTarget_1 1 rfl rfl)
theorem dX1_bestTarget_28 : decode cX1_bestTarget 28 = .ok (.ireturn, 1) := dk_172 (dk_at dksX1_bestTarget_1 4 rfl rfl)
theorem q44 : (Jvm.Cond.initialized "SilkRow") ∈ lw_all := lw_g (lw_at lw_m1 1 rfl) rfl
theorem q78 : (Jvm.Cond.instantiable "SilkRow" (13 : Nat)) ∈ lw_all := lw_g (lw_at lw_m1 35 rfl) rfl
theorem q80 : (Jvm.Cond.instanceMethod ({ cls := "SilkRow", name := "<init>", desc := "()V" } : Jvm.MethodName)) ∈ lw_all := lw_g (lw_at lw_m1 37 rfl) rfl
theorem q81 : (Jvm.Cond.code ({ cls := "SilkRow", name := "<init>", desc := "()V" } : Jvm.MethodName) prog_1_method_10_code (2 : Nat) (Option.none : Option Jvm.ClassFile.FieldType)) ∈ lw_all := lw_g (lw_at lw_m1 38 rfl) rfl
theorem q82 : (Jvm.Cond.methodLink "SilkRow" (94 : Nat) ({ cls := "java/lang/Object", name := "<init>", desc := "()V" } : Jvm.MethodName)) ∈ lw_all := lw_g (lw_at lw_m1 39 rfl) rfl
theorem q85 : (Jvm.Cond.classLink "SilkRow" (74 : Nat) "java/util/ArrayList") ∈ lw_all := lw_g (lw_at lw_m1 42 rfl) rfl
theorem q87 : (Jvm.Cond.methodLink "SilkRow" (97 : Nat) ({ cls := "java/util/ArrayList", name := "<init>", desc := "()V" } : Jvm.MethodName)) ∈ lw_all := lw_g (lw_at lw_m1 44 rfl) rfl
theorem q114 : (Jvm.Cond.classLink "SilkRow" (120 : Nat) "SilkRow$Line") ∈ lw_all := lw_g (lw_at lw_m1 71 rfl) rfl
theorem q116 : (Jvm.Cond.methodLinkNest "SilkRow" (122 : Nat) ({ cls := "SilkRow$Line", name := "<init>", desc := "()V" } : Jvm.MethodName) "SilkRow") ∈ lw_tbl := lw_at lw_m1 73 rfl
theorem q121 : (Jvm.Cond.fieldLinkNest "SilkRow" (210 : Nat) "SilkRow$Line" "size" "I" "SilkRow") ∈ lw_tbl := lw_at lw_m1 78 rfl
theorem q123 : (Jvm.Cond.fieldLinkNest "SilkRow" (161 : Nat) "SilkRow$Line" "hardy" "I" "SilkRow") ∈ lw_tbl := lw_at lw_m1 80 rfl
theorem q124 : (Jvm.Cond.fieldLinkNest "SilkRow" (207 : Nat) "SilkRow$Line" "taint" "I" "SilkRow") ∈ lw_tbl := lw_at lw_m1 81 rfl
theorem q132 : (Jvm.Cond.methodLink "SilkRow" (123 : Nat) ({ cls := "java/util/ArrayList", name := "add", desc := "(Ljava/lang/Object;)Z" } : Jvm.MethodName)) ∈ lw_all := lw_g (lw_at lw_m1 89 rfl) rfl
theorem q164 : (Jvm.Cond.selects "SilkRow" ({ cls := "java/lang/Object", name := "getClass", desc := "()Ljava/lang/Class;" } : Jvm.MethodName) ({ cls := "java/lang/Object", name := "getClass", desc := "()Ljava/lang/Class;" } : Jvm.MethodName)) ∈ lw_all := lw_g (lw_at lw_m1 121 rfl) rfl
theorem q200 : (Jvm.Cond.classLink "SilkRow" (124 : Nat) "SilkRow$Tray") ∈ lw_all := lw_g (lw_at lw_m1 157 rfl) rfl
theorem q202 : (Jvm.Cond.methodLinkNest "SilkRow" (126 : Nat) ({ cls := "SilkRow$Tray", name := "<init>", desc := "()V" } : Jvm.MethodName) "SilkRow") ∈ lw_tbl := lw_at lw_m1 159 rfl
theorem q207 : (Jvm.Cond.fieldLinkNest "SilkRow" (153 : Nat) "SilkRow$Tray" "worms" "I" "SilkRow") ∈ lw_tbl := lw_at lw_m1 164 rfl
theorem q209 : (Jvm.Cond.fieldLinkNest "SilkRow" (216 : Nat) "SilkRow$Tray" "sick" "I" "SilkRow") ∈ lw_tbl := lw_at lw_m1 166 rfl
theorem q211 : (Jvm.Cond.fieldLinkNest "SilkRow" (159 : Nat) "SilkRow$Tray" "line" "I" "SilkRow") ∈ lw_tbl := lw_at lw_m1 168 rfl
theorem q213 : (Jvm.Cond.fieldLinkNest "SilkRow" (219 : Nat) "SilkRow$Tray" "instar" "I" "SilkRow") ∈ lw_tbl := lw_at lw_m1 170 rfl
theorem q215 : (Jvm.Cond.fieldLinkNest "SilkRow" (309 : Nat) "SilkRow$Tray" "eaten" "I" "SilkRow") ∈ lw_tbl := lw_at lw_m1 172 rfl
theorem q217 : (Jvm.Cond.fieldLinkNest "SilkRow" (222 : Nat) "SilkRow$Tray" "moult" "I" "SilkRow") ∈ lw_tbl := lw_at lw_m1 174 rfl
theorem q219 : (Jvm.Cond.fieldLinkNest "SilkRow" (312 : Nat) "SilkRow$Tray" "hunger" "I" "SilkRow") ∈ lw_tbl := lw_at lw_m1 176 rfl
theorem q221 : (Jvm.Cond.fieldLinkNest "SilkRow" (315 : Nat) "SilkRow$Tray" "litter" "I" "SilkRow") ∈ lw_tbl := lw_at lw_m1 178 rfl
theorem q223 : (Jvm.Cond.fieldLinkNest "SilkRow" (225 : Nat) "SilkRow$Tray" "given" "I" "SilkRow") ∈ lw_tbl := lw_at lw_m1 180 rfl
theorem q225 : (Jvm.Cond.fieldLinkNest "SilkRow" (228 : Nat) "SilkRow$Tray" "wetness" "I" "SilkRow") ∈ lw_tbl := lw_at lw_m1 182 rfl
theorem q227 : (Jvm.Cond.fieldLinkNest "SilkRow" (156 : Nat) "SilkRow$Tray" "isRipe" "Z" "SilkRow") ∈ lw_tbl := lw_at lw_m1 184 rfl
theorem q251 : (Jvm.Cond.fieldLink "SilkRow" (98 : Nat) "SilkRow" "plots" "Ljava/util/ArrayList;") ∈ lw_all := lw_g (lw_at lw_m1 208 rfl) rfl
theorem q252 : (Jvm.Cond.fieldLink "SilkRow" (102 : Nat) "SilkRow" "lines" "Ljava/util/ArrayList;") ∈ lw_all := lw_g (lw_at lw_m1 209 rfl) rfl
theorem q253 : (Jvm.Cond.fieldLink "SilkRow" (105 : Nat) "SilkRow" "trays" "Ljava/util/ArrayList;") ∈ lw_all := lw_g (lw_at lw_m1 210 rfl) rfl
theorem q254 : (Jvm.Cond.fieldLink "SilkRow" (108 : Nat) "SilkRow" "lots" "Ljava/util/ArrayList;") ∈ lw_all := lw_g (lw_at lw_m1 211 rfl) rfl
theorem q255 : (Jvm.Cond.fieldLink "SilkRow" (111 : Nat) "SilkRow" "basins" "Ljava/util/ArrayList;") ∈ lw_all := lw_g (lw_at lw_m1 212 rfl) rfl
theorem q256 : (Jvm.Cond.fieldLink "SilkRow" (114 : Nat) "SilkRow" "skeins" "Ljava/util/ArrayList;") ∈ lw_all := lw_g (lw_at lw_m1 213 rfl) rfl
theorem q257 : (Jvm.Cond.fieldLink "SilkRow" (143 : Nat) "SilkRow" "now" "I") ∈ lw_all := lw_g (lw_at lw_m1 214 rfl) rfl
theorem q258 : (Jvm.Cond.fieldLink "SilkRow" (146 : Nat) "SilkRow" "isWetNow" "Z") ∈ lw_all := lw_g (lw_at lw_m1 215 rfl) rfl
theorem q259 : (Jvm.Cond.fieldLink "SilkRow" (194 : Nat) "SilkRow" "food" "I") ∈ lw_all := lw_g (lw_at lw_m1 216 rfl) rfl
theorem q260 : (Jvm.Cond.fieldLink "SilkRow" (197 : Nat) "SilkRow" "wetFood" "I") ∈ lw_all := lw_g (lw_at lw_m1 217 rfl) rfl
theorem q261 : (Jvm.Cond.fieldLink "SilkRow" (181 : Nat) "SilkRow" "died" "I") ∈ lw_all := lw_g (lw_at lw_m1 218 rfl) rfl
theorem q262 : (Jvm.Cond.fieldLink "SilkRow" (117 : Nat) "SilkRow" "money" "I") ∈ lw_all := lw_g (lw_at lw_m1 219 rfl) rfl
theorem q263 : (Jvm.Cond.fieldLink "SilkRow" (169 : Nat) "SilkRow" "debt" "I") ∈ lw_all := lw_g (lw_at lw_m1 220 rfl) rfl
theorem q264 : (Jvm.Cond.laysFinal "SilkRow" "SilkRow" "plots" "Ljava/util/ArrayList;") ∈ lw_all := lw_g (lw_at lw_m1 221 rfl) rfl
theorem q265 : (Jvm.Cond.soleField "SilkRow" "plots") ∈ lw_all := lw_g (lw_at lw_m1 222 rfl) rfl
theorem q266 : (Jvm.Cond.laysFinal "SilkRow" "SilkRow" "lines" "Ljava/util/ArrayList;") ∈ lw_all := lw_g (lw_at lw_m1 223 rfl) rfl
theorem q267 : (Jvm.Cond.soleField "SilkRow" "lines") ∈ lw_all := lw_g (lw_at lw_m1 224 rfl) rfl
theorem q268 : (Jvm.Cond.laysFinal "SilkRow" "SilkRow" "trays" "Ljava/util/ArrayList;") ∈ lw_all := lw_g (lw_at lw_m1 225 rfl) rfl
theorem q269 : (Jvm.Cond.soleField "SilkRow" "trays") ∈ lw_all := lw_g (lw_at lw_m1 226 rfl) rfl
theorem q270 : (Jvm.Cond.laysFinal "SilkRow" "SilkRow" "lots" "Ljava/util/ArrayList;") ∈ lw_all := lw_g (lw_at lw_m1 227 rfl) rfl
theorem q271 : (Jvm.Cond.soleField "SilkRow" "lots") ∈ lw_all := lw_g (lw_at lw_m1 228 rfl) rfl
theorem q272 : (Jvm.Cond.laysFinal "SilkRow" "SilkRow" "basins" "Ljava/util/ArrayList;") ∈ lw_all := lw_g (lw_at lw_m1 229 rfl) rfl
theorem q273 : (Jvm.Cond.soleField "SilkRow" "basins") ∈ lw_all := lw_g (lw_at lw_m1 230 rfl) rfl
theorem q274 : (Jvm.Cond.laysFinal "SilkRow" "SilkRow" "skeins" "Ljava/util/ArrayList;") ∈ lw_all := lw_g (lw_at lw_m1 231 rfl) rfl
theorem q275 : (Jvm.Cond.soleField "SilkRow" "skeins") ∈ lw_all := lw_g (lw_at lw_m1 232 rfl) rfl
theorem q276 : (Jvm.Cond.lays "SilkRow" "SilkRow" "now" "I") ∈ lw_all := lw_g (lw_at lw_m1 233 rfl) rfl
theorem q277 : (Jvm.Cond.soleField "SilkRow" "now") ∈ lw_all := lw_g (lw_at lw_m1 234 rfl) rfl
theorem q278 : (Jvm.Cond.lays "SilkRow" "SilkRow" "isWetNow" "Z") ∈ lw_all := lw_g (lw_at lw_m1 235 rfl) rfl
theorem q279 : (Jvm.Cond.soleField "SilkRow" "isWetNow") ∈ lw_all := lw_g (lw_at lw_m1 236 rfl) rfl
theorem q280 : (Jvm.Cond.lays "SilkRow" "SilkRow" "food" "I") ∈ lw_all := lw_g (lw_at lw_m1 237 rfl) rfl
theorem q281 : (Jvm.Cond.soleField "SilkRow" "food") ∈ lw_all := lw_g (lw_at lw_m1 238 rfl) rfl
theorem q282 : (Jvm.Cond.lays "SilkRow" "SilkRow" "wetFood" "I") ∈ lw_all := lw_g (lw_at lw_m1 239 rfl) rfl
theorem q283 : (Jvm.Cond.soleField "SilkRow" "wetFood") ∈ lw_all := lw_g (lw_at lw_m2 0 rfl) rfl
theorem q284 : (Jvm.Cond.lays "SilkRow" "SilkRow" "died" "I") ∈ lw_all := lw_g (lw_at lw_m2 1 rfl) rfl
theorem q285 : (Jvm.Cond.soleField "SilkRow" "died") ∈ lw_all := lw_g (lw_at lw_m2 2 rfl) rfl
theorem q286 : (Jvm.Cond.lays "SilkRow" "SilkRow" "money" "I") ∈ lw_all := lw_g (lw_at lw_m2 3 rfl) rfl
theorem q287 : (Jvm.Cond.soleField "SilkRow" "money") ∈ lw_all := lw_g (lw_at lw_m2 4 rfl) rfl
theorem q288 : (Jvm.Cond.lays "SilkRow" "SilkRow" "debt" "I") ∈ lw_all := lw_g (lw_at lw_m2 5 rfl) rfl
theorem q289 : (Jvm.Cond.soleField "SilkRow" "debt") ∈ lw_all := lw_g (lw_at lw_m2 6 rfl) rfl
theorem q290 : (Jvm.Cond.superclass "SilkRow" "java/lang/Object") ∈ lw_all := lw_g (lw_at lw_m2 7 rfl) rfl
theorem q292 : (Jvm.Cond.instanceMethod ({ cls := "SilkRow", name := "meanGrade", desc := "()D" } : Jvm.MethodName)) ∈ lw_all := lw_g (lw_at lw_m2 9 rfl) rfl
theorem q293 : (Jvm.Cond.selects "SilkRow" ({ cls := "SilkRow", name := "meanGrade", desc := "()D" } : Jvm.MethodName) ({ cls := "SilkRow", name := "meanGrade", desc := "()D" } : Jvm.MethodName)) ∈ lw_all := lw_g (lw_at lw_m2 10 rfl) rfl
theorem q294 : (Jvm.Cond.code ({ cls := "SilkRow", name := "meanGrade", desc := "()D" } : Jvm.MethodName) prog_1_method_51_code (5 : Nat) (Option.some Jvm.ClassFile.FieldType.double)) ∈ lw_all := lw_g (lw_at lw_m2 11 rfl) rfl
theorem q295 : (Jvm.Cond.methodLink "SilkRow" (79 : Nat) ({ cls := "java/util/ArrayList", name := "iterator", desc := "()Ljava/util/Iterator;" } : Jvm.MethodName)) ∈ lw_all := lw_g (lw_at lw_m2 12 rfl) rfl
theorem q318 : (Jvm.Cond.interfaceEntry "SilkRow" (37 : Nat)) ∈ lw_tbl := lw_at lw_m2 35 rfl
theorem q319 : (Jvm.Cond.methodLink "SilkRow" (37 : Nat) ({ cls := "java/util/Iterator", name := "hasNext", desc := "()Z" } : Jvm.MethodName)) ∈ lw_all := lw_g (lw_at lw_m2 36 rfl) rfl
theorem q328 : (Jvm.Cond.interfaceEntry "SilkRow" (43 : Nat)) ∈ lw_tbl := lw_at lw_m2 45 rfl
theorem q329 : (Jvm.Cond.methodLink "SilkRow" (43 : Nat) ({ cls := "java/util/Iterator", name := "next", desc := "()Ljava/lang/Object;" } : Jvm.MethodName)) ∈ lw_all := lw_g (lw_at lw_m2 46 rfl) rfl
theorem q341 : (Jvm.Cond.classLink "SilkRow" (52 : Nat) "SilkRow$Skein") ∈ lw_all := lw_g (lw_at lw_m2 58 rfl) rfl
theorem q342 : (Jvm.Cond.methodLink "SilkRow" (290 : Nat) ({ cls := "SilkRow$Skein", name := "grade", desc := "()I" } : Jvm.MethodName)) ∈ lw_all := lw_g (lw_at lw_m2 59 rfl) rfl
theorem q347 : (Jvm.Cond.instanceMethod ({ cls := "SilkRow", name := "digest", desc := "()J" } : Jvm.MethodName)) ∈ lw_all := lw_g (lw_at lw_m2 64 rfl) rfl
theorem q348 : (Jvm.Cond.selects "SilkRow" ({ cls := "SilkRow", name := "digest", desc := "()J" } : Jvm.MethodName) ({ cls := "SilkRow", name := "digest", desc := "()J" } : Jvm.MethodName)) ∈ lw_all := lw_g (lw_at lw_m2 65 rfl) rfl
theorem q349 : (Jvm.Cond.code ({ cls := "SilkRow", name := "digest", desc := "()J" } : Jvm.MethodName) prog_1_method_57_code (6 : Nat) (Option.some Jvm.ClassFile.FieldType.long)) ∈ lw_all := lw_g (lw_at lw_m2 66 rfl) rfl
theorem q350 : (Jvm.Cond.constantLong "SilkRow" (370 : Nat) (5415 : Int64)) ∈ lw_all := lw_g (lw_at lw_m2 67 rfl) rfl
theorem q351 : (Jvm.Cond.methodLink "SilkRow" (348 : Nat) ({ cls := "SilkRow", name := "count", desc := "(I)I" } : Jvm.MethodName)) ∈ lw_all := lw_g (lw_at lw_m2 68 rfl) rfl
theorem q352 : (Jvm.Cond.privateMethod ({ cls := "SilkRow", name := "count", desc := "(I)I" } : Jvm.MethodName)) ∈ lw_tbl := lw_at lw_m2 69 rfl
theorem q353 : (Jvm.Cond.instanceMethod ({ cls := "SilkRow", name := "count", desc := "(I)I" } : Jvm.MethodName)) ∈ lw_all := lw_g (lw_at lw_m2 70 rfl) rfl
theorem q354 : (Jvm.Cond.code ({ cls := "SilkRow", name := "count", desc := "(I)I" } : Jvm.MethodName) prog_1_method_49_code (7 : Nat) (Option.some Jvm.ClassFile.FieldType.int)) ∈ lw_all := lw_g (lw_at lw_m2 71 rfl) rfl
theorem q355 : (Jvm.Cond.methodLink "SilkRow" (270 : Nat) ({ cls := "SilkRow", name := "one", desc := "(Z)I" } : Jvm.MethodName)) ∈ lw_all := lw_g (lw_at lw_m2 72 rfl) rfl
theorem q356 : (Jvm.Cond.static ({ cls := "SilkRow", name := "one", desc := "(Z)I" } : Jvm.MethodName)) ∈ lw_all := lw_g (lw_at lw_m2 73 rfl) rfl
theorem q357 : (Jvm.Cond.code ({ cls := "SilkRow", name := "one", desc := "(Z)I" } : Jvm.MethodName) prog_1_method_6_code (1 : Nat) (Option.some Jvm.ClassFile.FieldType.int)) ∈ lw_all := lw_g (lw_at lw_m2 74 rfl) rfl
theorem q358 : (Jvm.Cond.methodLink "SilkRow" (137 : Nat) ({ cls := "java/util/ArrayList", name := "size", desc := "()I" } : Jvm.MethodName)) ∈ lw_all := lw_g (lw_at lw_m2 75 rfl) rfl
theorem q362 : (Jvm.Cond.methodLink "SilkRow" (372 : Nat) ({ cls := "SilkRow", name := "add", desc := "(JJ)J" } : Jvm.MethodName)) ∈ lw_all := lw_g (lw_at lw_m2 79 rfl) rfl
theorem q363 : (Jvm.Cond.static ({ cls := "SilkRow", name := "add", desc := "(JJ)J" } : Jvm.MethodName)) ∈ lw_all := lw_g (lw_at lw_m2 80 rfl) rfl
theorem q364 : (Jvm.Cond.code ({ cls := "SilkRow", name := "add", desc := "(JJ)J" } : Jvm.MethodName) prog_1_method_56_code (4 : Nat) (Option.some Jvm.ClassFile.FieldType.long)) ∈ lw_all := lw_g (lw_at lw_m2 81 rfl) rfl
theorem q365 : (Jvm.Cond.constantLong "SilkRow" (368 : Nat) (31 : Int64)) ∈ lw_all := lw_g (lw_at lw_m2 82 rfl) rfl
theorem q366 : (Jvm.Cond.classLink "SilkRow" (131 : Nat) "SilkRow$Plot") ∈ lw_all := lw_g (lw_at lw_m2 83 rfl) rfl
theorem q367 : (Jvm.Cond.methodLink "SilkRow" (302 : Nat) ({ cls := "SilkRow", name := "told", desc := "(LSilkRow$Plot;I)I" } : Jvm.MethodName)) ∈ lw_all := lw_g (lw_at lw_m2 84 rfl) rfl
theorem q368 : (Jvm.Cond.static ({ cls := "SilkRow", name := "told", desc := "(LSilkRow$Plot;I)I" } : Jvm.MethodName)) ∈ lw_all := lw_g (lw_at lw_m2 85 rfl) rfl
theorem q369 : (Jvm.Cond.code ({ cls := "SilkRow", name := "told", desc := "(LSilkRow$Plot;I)I" } : Jvm.MethodName) prog_1_method_37_code (2 : Nat) (Option.some Jvm.ClassFile.FieldType.int)) ∈ lw_all := lw_g (lw_at lw_m2 86 rfl) rfl
theorem q370 : (Jvm.Cond.methodLink "SilkRow" (306 : Nat) ({ cls := "SilkRow", name := "told", desc := "(LSilkRow$Line;I)I" } : Jvm.MethodName)) ∈ lw_all := lw_g (lw_at lw_m2 87 rfl) rfl
theorem q371 : (Jvm.Cond.static ({ cls := "SilkRow", name := "told", desc := "(LSilkRow$Line;I)I" } : Jvm.MethodName)) ∈ lw_all := lw_g (lw_at lw_m2 88 rfl) rfl
theorem q372 : (Jvm.Cond.code ({ cls := "SilkRow", name := "told", desc := "(LSilkRow$Line;I)I" } : Jvm.MethodName) prog_1_method_39_code (2 : Nat) (Option.some Jvm.ClassFile.FieldType.int)) ∈ lw_all := lw_g (lw_at lw_m2 89 rfl) rfl
theorem q373 : (Jvm.Cond.methodLink "SilkRow" (321 : Nat) ({ cls := "SilkRow", name := "told", desc := "(LSilkRow$Tray;I)I" } : Jvm.MethodName)) ∈ lw_all := lw_g (lw_at lw_m2 90 rfl) rfl
theorem q374 : (Jvm.Cond.static ({ cls := "SilkRow", name := "told", desc := "(LSilkRow$Tray;I)I" } : Jvm.MethodName)) ∈ lw_all := lw_g (lw_at lw_m2 91 rfl) rfl
theorem q375 : (Jvm.Cond.code ({ cls := "SilkRow", name := "told", desc := "(LSilkRow$Tray;I)I" } : Jvm.MethodName) prog_1_method_41_code (3 : Nat) (Option.some Jvm.ClassFile.FieldType.int)) ∈ lw_all := lw_g (lw_at lw_m2 92 rfl) rfl
theorem q376 : (Jvm.Cond.methodLink "SilkRow" (318 : Nat) ({ cls := "SilkRow$Tray", name := "need", desc := "()I" } : Jvm.MethodName)) ∈ lw_all := lw_g (lw_at lw_m2 93 rfl) rfl
theorem q381 : (Jvm.Cond.static ({ cls := "SilkRow", name := "up", desc := "(II)I" } : Jvm.MethodName)) ∈ lw_all := lw_g (lw_at lw_m2 98 rfl) rfl
theorem q382 : (Jvm.Cond.code ({ cls := "SilkRow", name := "up", desc := "(II)I" } : Jvm.MethodName) prog_1_method_7_code (2 : Nat) (Option.some Jvm.ClassFile.FieldType.int)) ∈ lw_all := lw_g (lw_at lw_m2 99 rfl) rfl
theorem q383 : (Jvm.Cond.methodLink "SilkRow" (355 : Nat) ({ cls := "SilkRow", name := "ripeBehind", desc := "(LSilkRow$Tray;)I" } : Jvm.MethodName)) ∈ lw_all := lw_g (lw_at lw_m2 100 rfl) rfl
theorem q384 : (Jvm.Cond.privateMethod ({ cls := "SilkRow", name := "ripeBehind", desc := "(LSilkRow$Tray;)I" } : Jvm.MethodName)) ∈ lw_tbl := lw_at lw_m2 101 rfl
theorem q385 : (Jvm.Cond.instanceMethod ({ cls := "SilkRow", name := "ripeBehind", desc := "(LSilkRow$Tray;)I" } : Jvm.MethodName)) ∈ lw_all := lw_g (lw_at lw_m2 102 rfl) rfl
theorem q386 : (Jvm.Cond.code ({ cls := "SilkRow", name := "ripeBehind", desc := "(LSilkRow$Tray;)I" } : Jvm.MethodName) prog_1_method_52_code (4 : Nat) (Option.some Jvm.ClassFile.FieldType.int)) ∈ lw_all := lw_g (lw_at lw_m2 103 rfl) rfl
theorem q387 : (Jvm.Cond.methodLink "SilkRow" (351 : Nat) ({ cls := "SilkRow$Tray", name := "copy", desc := "()LSilkRow$Tray;" } : Jvm.MethodName)) ∈ lw_all := lw_g (lw_at lw_m2 104 rfl) rfl
theorem q393 : (Jvm.Cond.methodLink "SilkRow" (160 : Nat) ({ cls := "java/util/ArrayList", name := "get", desc := "(I)Ljava/lang/Object;" } : Jvm.MethodName)) ∈ lw_all := lw_g (lw_at lw_m2 110 rfl) rfl
theorem q407 : (Jvm.Cond.methodLink "SilkRow" (164 : Nat) ({ cls := "SilkRow$Tray", name := "pass", desc := "(I)I" } : Jvm.MethodName)) ∈ lw_all := lw_g (lw_at lw_m2 124 rfl) rfl
theorem q431 : (Jvm.Cond.classLink "SilkRow" (59 : Nat) "SilkRow$Lot") ∈ lw_all := lw_g (lw_at lw_m2 148 rfl) rfl
theorem q432 : (Jvm.Cond.methodLink "SilkRow" (330 : Nat) ({ cls := "SilkRow", name := "told", desc := "(LSilkRow$Lot;I)I" } : Jvm.MethodName)) ∈ lw_all := lw_g (lw_at lw_m2 149 rfl) rfl
theorem q433 : (Jvm.Cond.static ({ cls := "SilkRow", name := "told", desc := "(LSilkRow$Lot;I)I" } : Jvm.MethodName)) ∈ lw_all := lw_g (lw_at lw_m2 150 rfl) rfl
theorem q434 : (Jvm.Cond.code ({ cls := "SilkRow", name := "told", desc := "(LSilkRow$Lot;I)I" } : Jvm.MethodName) prog_1_method_43_code (3 : Nat) (Option.some Jvm.ClassFile.FieldType.int)) ∈ lw_all := lw_g (lw_at lw_m2 151 rfl) rfl
theorem q435 : (Jvm.Cond.methodLink "SilkRow" (364 : Nat) ({ cls := "SilkRow", name := "bestTargetOf", desc := "(LSilkRow$Lot;II)I" } : Jvm.MethodName)) ∈ lw_all := lw_g (lw_at lw_m2 152 rfl) rfl
theorem q436 : (Jvm.Cond.privateMethod ({ cls := "SilkRow", name := "bestTargetOf", desc := "(LSilkRow$Lot;II)I" } : Jvm.MethodName)) ∈ lw_tbl := lw_at lw_m2 153 rfl
theorem q437 : (Jvm.Cond.instanceMethod ({ cls := "SilkRow", name := "bestTargetOf", desc := "(LSilkRow$Lot;II)I" } : Jvm.MethodName)) ∈ lw_all := lw_g (lw_at lw_m2 154 rfl) rfl
theorem q438 : (Jvm.Cond.code ({ cls := "SilkRow", name := "bestTargetOf", desc := "(LSilkRow$Lot;II)I" } : Jvm.MethodName) prog_1_method_54_code (10 : Nat) (Option.some Jvm.ClassFile.FieldType.int)) ∈ lw_all := lw_g (lw_at lw_m2 155 rfl) rfl
theorem q439 : (Jvm.Cond.classLink "SilkRow" (47 : Nat) "SilkRow$Filament") ∈ lw_all := lw_g (lw_at lw_m2 156 rfl) rfl
theorem q440 : (Jvm.Cond.methodLink "SilkRow" (359 : Nat) ({ cls := "SilkRow$Filament", name := "copy", desc := "()LSilkRow$Filament;" } : Jvm.MethodName)) ∈ lw_all := lw_g (lw_at lw_m2 157 rfl) rfl
theorem q451 : (Jvm.Cond.fieldLinkNest "SilkRow" (84 : Nat) "SilkRow$Filament" "line" "I" "SilkRow") ∈ lw_tbl := lw_at lw_m2 168 rfl
theorem q453 : (Jvm.Cond.fieldLinkNest "SilkRow" (90 : Nat) "SilkRow$Filament" "pieces" "[I" "SilkRow") ∈ lw_tbl := lw_at lw_m2 170 rfl
theorem q455 : (Jvm.Cond.fieldLinkNest "SilkRow" (88 : Nat) "SilkRow$Filament" "next" "I" "SilkRow") ∈ lw_tbl := lw_at lw_m2 172 rfl
theorem q464 : (Jvm.Cond.methodLink "SilkRow" (361 : Nat) ({ cls := "SilkRow$Lot", name := "copy", desc := "()LSilkRow$Lot;" } : Jvm.MethodName)) ∈ lw_all := lw_g (lw_at lw_m2 181 rfl) rfl
theorem q475 : (Jvm.Cond.fieldLinkNest "SilkRow" (323 : Nat) "SilkRow$Lot" "line" "I" "SilkRow") ∈ lw_tbl := lw_at lw_m2 192 rfl
theorem q477 : (Jvm.Cond.fieldLinkNest "SilkRow" (268 : Nat) "SilkRow$Lot" "size" "I" "SilkRow") ∈ lw_tbl := lw_at lw_m2 194 rfl
theorem q479 : (Jvm.Cond.fieldLinkNest "SilkRow" (269 : Nat) "SilkRow$Lot" "hardy" "I" "SilkRow") ∈ lw_tbl := lw_at lw_m2 196 rfl
theorem q481 : (Jvm.Cond.fieldLinkNest "SilkRow" (265 : Nat) "SilkRow$Lot" "cocoons" "[I" "SilkRow") ∈ lw_tbl := lw_at lw_m2 198 rfl
theorem q483 : (Jvm.Cond.fieldLinkNest "SilkRow" (324 : Nat) "SilkRow$Lot" "left" "[I" "SilkRow") ∈ lw_tbl := lw_at lw_m2 200 rfl
theorem q485 : (Jvm.Cond.fieldLinkNest "SilkRow" (256 : Nat) "SilkRow$Lot" "state" "I" "SilkRow") ∈ lw_tbl := lw_at lw_m2 202 rfl
theorem q487 : (Jvm.Cond.fieldLinkNest "SilkRow" (327 : Nat) "SilkRow$Lot" "age" "I" "SilkRow") ∈ lw_tbl := lw_at lw_m2 204 rfl
theorem q504 : (Jvm.Cond.methodLink "SilkRow" (280 : Nat) ({ cls := "SilkRow", name := "reeled", desc := "(LSilkRow$Lot;Ljava/util/List;II)LSilkRow$Skein;" } : Jvm.MethodName)) ∈ lw_all := lw_g (lw_at lw_m2 221 rfl) rfl
theorem q505 : (Jvm.Cond.static ({ cls := "SilkRow", name := "reeled", desc := "(LSilkRow$Lot;Ljava/util/List;II)LSilkRow$Skein;" } : Jvm.MethodName)) ∈ lw_all := lw_g (lw_at lw_m2 222 rfl) rfl
theorem q506 : (Jvm.Cond.code ({ cls := "SilkRow", name := "reeled", desc := "(LSilkRow$Lot;Ljava/util/List;II)LSilkRow$Skein;" } : Jvm.MethodName) prog_1_method_9_code (8 : Nat) (Option.some (Jvm.ClassFile.FieldType.object "SilkRow$Skein"))) ∈ lw_all := lw_g (lw_at lw_m2 223 rfl) rfl
theorem q508 : (Jvm.Cond.methodLinkNest "SilkRow" (54 : Nat) ({ cls := "SilkRow$Skein", name := "<init>", desc := "()V" } : Jvm.MethodName) "SilkRow") ∈ lw_tbl := lw_at lw_m2 225 rfl
theorem q513 : (Jvm.Cond.fieldLinkNest "SilkRow" (284 : Nat) "SilkRow$Skein" "length" "I" "SilkRow") ∈ lw_tbl := lw_at lw_m2 230 rfl
theorem q515 : (Jvm.Cond.fieldLinkNest "SilkRow" (336 : Nat) "SilkRow$Skein" "least" "I" "SilkRow") ∈ lw_tbl := lw_at lw_m2 232 rfl
theorem q517 : (Jvm.Cond.fieldLinkNest "SilkRow" (339 : Nat) "SilkRow$Skein" "greatest" "I" "SilkRow") ∈ lw_tbl := lw_at lw_m2 234 rfl
theorem q519 : (Jvm.Cond.fieldLinkNest "SilkRow" (342 : Nat) "SilkRow$Skein" "sum" "I" "SilkRow") ∈ lw_tbl := lw_at lw_m2 236 rfl
theorem q520 : (Jvm.Cond.fieldLinkNest "SilkRow" (287 : Nat) "SilkRow$Skein" "isSold" "Z" "SilkRow") ∈ lw_tbl := lw_at lw_m2 237 rfl
theorem q522 : (Jvm.Cond.fieldLinkNest "SilkRow" (80 : Nat) "SilkRow$Skein" "pieces" "[I" "SilkRow") ∈ lw_tbl := lw_at lw_m2 239 rfl
theorem q536 : (Jvm.Cond.methodLink "SilkRow" (55 : Nat) ({ cls := "SilkRow", name := "next", desc := "(Ljava/util/List;)I" } : Jvm.MethodName)) ∈ lw_all := lw_g (lw_at lw_m3 13 rfl) rfl
theorem q537 : (Jvm.Cond.static ({ cls := "SilkRow", name := "next", desc := "(Ljava/util/List;)I" } : Jvm.MethodName)) ∈ lw_all := lw_g (lw_at lw_m3 14 rfl) rfl
theorem q538 : (Jvm.Cond.code ({ cls := "SilkRow", name := "next", desc := "(Ljava/util/List;)I" } : Jvm.MethodName) prog_1_method_8_code (4 : Nat) (Option.some Jvm.ClassFile.FieldType.int)) ∈ lw_all := lw_g (lw_at lw_m3 15 rfl) rfl
theorem q539 : (Jvm.Cond.interfaceEntry "SilkRow" (33 : Nat)) ∈ lw_tbl := lw_at lw_m3 16 rfl
theorem q540 : (Jvm.Cond.methodLink "SilkRow" (33 : Nat) ({ cls := "java/util/List", name := "iterator", desc := "()Ljava/util/Iterator;" } : Jvm.MethodName)) ∈ lw_all := lw_g (lw_at lw_m3 17 rfl) rfl
theorem q547 : (Jvm.Cond.methodLink "SilkRow" (49 : Nat) ({ cls := "SilkRow$Filament", name := "piece", desc := "()I" } : Jvm.MethodName)) ∈ lw_all := lw_g (lw_at lw_m3 24 rfl) rfl
theorem q551 : (Jvm.Cond.methodLink "SilkRow" (58 : Nat) ({ cls := "SilkRow$Lot", name := "join", desc := "()LSilkRow$Filament;" } : Jvm.MethodName)) ∈ lw_all := lw_g (lw_at lw_m3 28 rfl) rfl
theorem q562 : (Jvm.Cond.interfaceEntry "SilkRow" (64 : Nat)) ∈ lw_tbl := lw_at lw_m3 39 rfl
theorem q563 : (Jvm.Cond.methodLink "SilkRow" (64 : Nat) ({ cls := "java/util/List", name := "add", desc := "(Ljava/lang/Object;)Z" } : Jvm.MethodName)) ∈ lw_all := lw_g (lw_at lw_m3 40 rfl) rfl
theorem q569 : (Jvm.Cond.interfaceEntry "SilkRow" (68 : Nat)) ∈ lw_tbl := lw_at lw_m3 46 rfl
theorem q570 : (Jvm.Cond.methodLink "SilkRow" (68 : Nat) ({ cls := "java/util/List", name := "isEmpty", desc := "()Z" } : Jvm.MethodName)) ∈ lw_all := lw_g (lw_at lw_m3 47 rfl) rfl
theorem q578 : (Jvm.Cond.methodLink "SilkRow" (71 : Nat) ({ cls := "SilkRow$Skein", name := "add", desc := "(I)V" } : Jvm.MethodName)) ∈ lw_all := lw_g (lw_at lw_m3 55 rfl) rfl
theorem q584 : (Jvm.Cond.methodLink "SilkRow" (76 : Nat) ({ cls := "java/util/ArrayList", name := "<init>", desc := "(Ljava/util/Collection;)V" } : Jvm.MethodName)) ∈ lw_all := lw_g (lw_at lw_m3 61 rfl) rfl
theorem q608 : (Jvm.Cond.interfaceEntry "SilkRow" (91 : Nat)) ∈ lw_tbl := lw_at lw_m3 85 rfl
theorem q609 : (Jvm.Cond.methodLink "SilkRow" (91 : Nat) ({ cls := "java/util/List", name := "remove", desc := "(Ljava/lang/Object;)Z" } : Jvm.MethodName)) ∈ lw_all := lw_g (lw_at lw_m3 86 rfl) rfl
theorem q621 : (Jvm.Cond.selects "SilkRow" ({ cls := "java/lang/Object", name := "equals", desc := "(Ljava/lang/Object;)Z" } : Jvm.MethodName) ({ cls := "java/lang/Object", name := "equals", desc := "(Ljava/lang/Object;)Z" } : Jvm.MethodName)) ∈ lw_all := lw_g (lw_at lw_m3 98 rfl) rfl
theorem q646 : (Jvm.Cond.methodLink "SilkRow" (333 : Nat) ({ cls := "SilkRow", name := "pieceIn", desc := "(II)I" } : Jvm.MethodName)) ∈ lw_all := lw_g (lw_at lw_m3 123 rfl) rfl
theorem q647 : (Jvm.Cond.privateMethod ({ cls := "SilkRow", name := "pieceIn", desc := "(II)I" } : Jvm.MethodName)) ∈ lw_tbl := lw_at lw_m3 124 rfl
theorem q648 : (Jvm.Cond.instanceMethod ({ cls := "SilkRow", name := "pieceIn", desc := "(II)I" } : Jvm.MethodName)) ∈ lw_all := lw_g (lw_at lw_m3 125 rfl) rfl
theorem q649 : (Jvm.Cond.code ({ cls := "SilkRow", name := "pieceIn", desc := "(II)I" } : Jvm.MethodName) prog_1_method_45_code (3 : Nat) (Option.some Jvm.ClassFile.FieldType.int)) ∈ lw_all := lw_g (lw_at lw_m3 126 rfl) rfl
theorem q650 : (Jvm.Cond.methodLink "SilkRow" (345 : Nat) ({ cls := "SilkRow", name := "told", desc := "(LSilkRow$Skein;I)I" } : Jvm.MethodName)) ∈ lw_all := lw_g (lw_at lw_m3 127 rfl) rfl
theorem q651 : (Jvm.Cond.static ({ cls := "SilkRow", name := "told", desc := "(LSilkRow$Skein;I)I" } : Jvm.MethodName)) ∈ lw_all := lw_g (lw_at lw_m3 128 rfl) rfl
theorem q652 : (Jvm.Cond.code ({ cls := "SilkRow", name := "told", desc := "(LSilkRow$Skein;I)I" } : Jvm.MethodName) prog_1_method_47_code (3 : Nat) (Option.some Jvm.ClassFile.FieldType.int)) ∈ lw_all := lw_g (lw_at lw_m3 129 rfl) rfl
theorem q659 : (Jvm.Cond.instanceMethod ({ cls := "SilkRow", name := "plot", desc := "(I)I" } : Jvm.MethodName)) ∈ lw_all := lw_g (lw_at lw_m3 136 rfl) rfl
theorem q660 : (Jvm.Cond.selects "SilkRow" ({ cls := "SilkRow", name := "plot", desc := "(I)I" } : Jvm.MethodName) ({ cls := "SilkRow", name := "plot", desc := "(I)I" } : Jvm.MethodName)) ∈ lw_all := lw_g (lw_at lw_m3 137 rfl) rfl
theorem q661 : (Jvm.Cond.code ({ cls := "SilkRow", name := "plot", desc := "(I)I" } : Jvm.MethodName) prog_1_method_15_code (2 : Nat) (Option.some Jvm.ClassFile.FieldType.int)) ∈ lw_all := lw_g (lw_at lw_m3 138 rfl) rfl
theorem q662 : (Jvm.Cond.methodLink "SilkRow" (133 : Nat) ({ cls := "SilkRow", name := "requireFrom", desc := "(III)V" } : Jvm.MethodName)) ∈ lw_all := lw_g (lw_at lw_m3 139 rfl) rfl
theorem q663 : (Jvm.Cond.static ({ cls := "SilkRow", name := "requireFrom", desc := "(III)V" } : Jvm.MethodName)) ∈ lw_all := lw_g (lw_at lw_m3 140 rfl) rfl
theorem q664 : (Jvm.Cond.code ({ cls := "SilkRow", name := "requireFrom", desc := "(III)V" } : Jvm.MethodName) prog_1_method_4_code (3 : Nat) (Option.none : Option Jvm.ClassFile.FieldType)) ∈ lw_all := lw_g (lw_at lw_m3 141 rfl) rfl
theorem q665 : (Jvm.Cond.methodLink "SilkRow" (13 : Nat) ({ cls := "SilkRow", name := "require", desc := "(Z)V" } : Jvm.MethodName)) ∈ lw_all := lw_g (lw_at lw_m3 142 rfl) rfl
theorem q666 : (Jvm.Cond.static ({ cls := "SilkRow", name := "require", desc := "(Z)V" } : Jvm.MethodName)) ∈ lw_all := lw_g (lw_at lw_m3 143 rfl) rfl
theorem q667 : (Jvm.Cond.code ({ cls := "SilkRow", name := "require", desc := "(Z)V" } : Jvm.MethodName) prog_1_method_1_code (1 : Nat) (Option.none : Option Jvm.ClassFile.FieldType)) ∈ lw_all := lw_g (lw_at lw_m3 144 rfl) rfl
theorem q668 : (Jvm.Cond.classLink "SilkRow" (1 : Nat) "java/lang/IllegalArgumentException") ∈ lw_all := lw_g (lw_at lw_m3 145 rfl) rfl
theorem q710 : (Jvm.Cond.methodLink "SilkRow" (3 : Nat) ({ cls := "java/lang/IllegalArgumentException", name := "<init>", desc := "()V" } : Jvm.MethodName)) ∈ lw_all := lw_g (lw_at lw_m3 187 rfl) rfl
theorem q733 : (Jvm.Cond.methodLink "SilkRow" (138 : Nat) ({ cls := "SilkRow", name := "requireState", desc := "(Z)V" } : Jvm.MethodName)) ∈ lw_all := lw_g (lw_at lw_m3 210 rfl) rfl
theorem q734 : (Jvm.Cond.static ({ cls := "SilkRow", name := "requireState", desc := "(Z)V" } : Jvm.MethodName)) ∈ lw_all := lw_g (lw_at lw_m3 211 rfl) rfl
theorem q735 : (Jvm.Cond.code ({ cls := "SilkRow", name := "requireState", desc := "(Z)V" } : Jvm.MethodName) prog_1_method_2_code (1 : Nat) (Option.none : Option Jvm.ClassFile.FieldType)) ∈ lw_all := lw_g (lw_at lw_m3 212 rfl) rfl
theorem q736 : (Jvm.Cond.classLink "SilkRow" (7 : Nat) "java/lang/IllegalStateException") ∈ lw_all := lw_g (lw_at lw_m3 213 rfl) rfl
theorem q745 : (Jvm.Cond.methodLink "SilkRow" (9 : Nat) ({ cls := "java/lang/IllegalStateException", name := "<init>", desc := "()V" } : Jvm.MethodName)) ∈ lw_all := lw_g (lw_at lw_m3 222 rfl) rfl
theorem q752 : (Jvm.Cond.methodLink "SilkRow" (141 : Nat) ({ cls := "SilkRow$Plot", name := "<init>", desc := "(I)V" } : Jvm.MethodName)) ∈ lw_all := lw_g (lw_at lw_m3 229 rfl) rfl
theorem q757 : (Jvm.Cond.fieldLinkNest "SilkRow" (293 : Nat) "SilkRow$Plot" "area" "I" "SilkRow") ∈ lw_tbl := lw_at lw_m3 234 rfl
theorem q759 : (Jvm.Cond.fieldLinkNest "SilkRow" (296 : Nat) "SilkRow$Plot" "rest" "I" "SilkRow") ∈ lw_tbl := lw_at lw_m3 236 rfl
theorem q761 : (Jvm.Cond.fieldLinkNest "SilkRow" (299 : Nat) "SilkRow$Plot" "leaf" "[I" "SilkRow") ∈ lw_tbl := lw_at lw_m3 238 rfl
theorem q773 : (Jvm.Cond.instanceMethod ({ cls := "SilkRow", name := "pass", desc := "(IZI)I" } : Jvm.MethodName)) ∈ lw_all := lw_g (lw_at lw_m4 10 rfl) rfl
theorem q774 : (Jvm.Cond.selects "SilkRow" ({ cls := "SilkRow", name := "pass", desc := "(IZI)I" } : Jvm.MethodName) ({ cls := "SilkRow", name := "pass", desc := "(IZI)I" } : Jvm.MethodName)) ∈ lw_all := lw_g (lw_at lw_m4 11 rfl) rfl
theorem q775 : (Jvm.Cond.code ({ cls := "SilkRow", name := "pass", desc := "(IZI)I" } : Jvm.MethodName) prog_1_method_17_code (6 : Nat) (Option.some Jvm.ClassFile.FieldType.int)) ∈ lw_all := lw_g (lw_at lw_m4 12 rfl) rfl
theorem q776 : (Jvm.Cond.methodLink "SilkRow" (184 : Nat) ({ cls := "SilkRow", name := "pass", desc := "(IZ)I" } : Jvm.MethodName)) ∈ lw_all := lw_g (lw_at lw_m4 13 rfl) rfl
theorem q777 : (Jvm.Cond.privateMethod ({ cls := "SilkRow", name := "pass", desc := "(IZ)I" } : Jvm.MethodName)) ∈ lw_tbl := lw_at lw_m4 14 rfl
theorem q778 : (Jvm.Cond.instanceMethod ({ cls := "SilkRow", name := "pass", desc := "(IZ)I" } : Jvm.MethodName)) ∈ lw_all := lw_g (lw_at lw_m4 15 rfl) rfl
theorem q779 : (Jvm.Cond.code ({ cls := "SilkRow", name := "pass", desc := "(IZ)I" } : Jvm.MethodName) prog_1_method_16_code (6 : Nat) (Option.some Jvm.ClassFile.FieldType.int)) ∈ lw_all := lw_g (lw_at lw_m4 16 rfl) rfl
theorem q780 : (Jvm.Cond.methodLink "SilkRow" (150 : Nat) ({ cls := "SilkRow$Plot", name := "pass", desc := "(I)V" } : Jvm.MethodName)) ∈ lw_all := lw_g (lw_at lw_m4 17 rfl) rfl
theorem q785 : (Jvm.Cond.methodLink "SilkRow" (167 : Nat) ({ cls := "SilkRow$Lot", name := "pass", desc := "()V" } : Jvm.MethodName)) ∈ lw_all := lw_g (lw_at lw_m4 22 rfl) rfl
theorem q789 : (Jvm.Cond.methodLink "SilkRow" (172 : Nat) ({ cls := "SilkRow", name := "up", desc := "(II)I" } : Jvm.MethodName)) ∈ lw_all := lw_g (lw_at lw_m4 26 rfl) rfl
theorem q790 : (Jvm.Cond.methodLink "SilkRow" (176 : Nat) ({ cls := "java/lang/Math", name := "min", desc := "(II)I" } : Jvm.MethodName)) ∈ lw_all := lw_g (lw_at lw_m4 27 rfl) rfl
theorem q828 : (Jvm.Cond.instanceMethod ({ cls := "SilkRow", name := "pick", desc := "(II)I" } : Jvm.MethodName)) ∈ lw_all := lw_g (lw_at lw_m4 65 rfl) rfl
theorem q829 : (Jvm.Cond.selects "SilkRow" ({ cls := "SilkRow", name := "pick", desc := "(II)I" } : Jvm.MethodName) ({ cls := "SilkRow", name := "pick", desc := "(II)I" } : Jvm.MethodName)) ∈ lw_all := lw_g (lw_at lw_m4 66 rfl) rfl
theorem q830 : (Jvm.Cond.code ({ cls := "SilkRow", name := "pick", desc := "(II)I" } : Jvm.MethodName) prog_1_method_18_code (5 : Nat) (Option.some Jvm.ClassFile.FieldType.int)) ∈ lw_all := lw_g (lw_at lw_m4 67 rfl) rfl
theorem q831 : (Jvm.Cond.methodLink "SilkRow" (187 : Nat) ({ cls := "SilkRow", name := "plotOf", desc := "(I)LSilkRow$Plot;" } : Jvm.MethodName)) ∈ lw_all := lw_g (lw_at lw_m4 68 rfl) rfl
theorem q832 : (Jvm.Cond.privateMethod ({ cls := "SilkRow", name := "plotOf", desc := "(I)LSilkRow$Plot;" } : Jvm.MethodName)) ∈ lw_tbl := lw_at lw_m4 69 rfl
theorem q833 : (Jvm.Cond.instanceMethod ({ cls := "SilkRow", name := "plotOf", desc := "(I)LSilkRow$Plot;" } : Jvm.MethodName)) ∈ lw_all := lw_g (lw_at lw_m4 70 rfl) rfl
theorem q834 : (Jvm.Cond.code ({ cls := "SilkRow", name := "plotOf", desc := "(I)LSilkRow$Plot;" } : Jvm.MethodName) prog_1_method_11_code (2 : Nat) (Option.some (Jvm.ClassFile.FieldType.object "SilkRow$Plot"))) ∈ lw_all := lw_g (lw_at lw_m4 71 rfl) rfl
theorem q835 : (Jvm.Cond.methodLink "SilkRow" (127 : Nat) ({ cls := "SilkRow", name := "at", desc := "(Ljava/util/List;I)Ljava/lang/Object;" } : Jvm.MethodName)) ∈ lw_all := lw_g (lw_at lw_m4 72 rfl) rfl
theorem q836 : (Jvm.Cond.static ({ cls := "SilkRow", name := "at", desc := "(Ljava/util/List;I)Ljava/lang/Object;" } : Jvm.MethodName)) ∈ lw_all := lw_g (lw_at lw_m4 73 rfl) rfl
theorem q837 : (Jvm.Cond.code ({ cls := "SilkRow", name := "at", desc := "(Ljava/util/List;I)Ljava/lang/Object;" } : Jvm.MethodName) prog_1_method_5_code (2 : Nat) (Option.some (Jvm.ClassFile.FieldType.object "java/lang/Object"))) ∈ lw_all := lw_g (lw_at lw_m4 74 rfl) rfl
theorem q838 : (Jvm.Cond.interfaceEntry "SilkRow" (19 : Nat)) ∈ lw_tbl := lw_at lw_m4 75 rfl
theorem q839 : (Jvm.Cond.methodLink "SilkRow" (19 : Nat) ({ cls := "java/util/List", name := "size", desc := "()I" } : Jvm.MethodName)) ∈ lw_all := lw_g (lw_at lw_m4 76 rfl) rfl
theorem q845 : (Jvm.Cond.methodLink "SilkRow" (25 : Nat) ({ cls := "SilkRow", name := "requireIndex", desc := "(II)V" } : Jvm.MethodName)) ∈ lw_all := lw_g (lw_at lw_m4 82 rfl) rfl
theorem q846 : (Jvm.Cond.static ({ cls := "SilkRow", name := "requireIndex", desc := "(II)V" } : Jvm.MethodName)) ∈ lw_all := lw_g (lw_at lw_m4 83 rfl) rfl
theorem q847 : (Jvm.Cond.code ({ cls := "SilkRow", name := "requireIndex", desc := "(II)V" } : Jvm.MethodName) prog_1_method_3_code (2 : Nat) (Option.none : Option Jvm.ClassFile.FieldType)) ∈ lw_all := lw_g (lw_at lw_m4 84 rfl) rfl
theorem q848 : (Jvm.Cond.classLink "SilkRow" (10 : Nat) "java/lang/IndexOutOfBoundsException") ∈ lw_all := lw_g (lw_at lw_m4 85 rfl) rfl
theorem q857 : (Jvm.Cond.methodLink "SilkRow" (12 : Nat) ({ cls := "java/lang/IndexOutOfBoundsException", name := "<init>", desc := "()V" } : Jvm.MethodName)) ∈ lw_all := lw_g (lw_at lw_m4 94 rfl) rfl
theorem q863 : (Jvm.Cond.interfaceEntry "SilkRow" (29 : Nat)) ∈ lw_tbl := lw_at lw_m4 100 rfl
theorem q864 : (Jvm.Cond.methodLink "SilkRow" (29 : Nat) ({ cls := "java/util/List", name := "get", desc := "(I)Ljava/lang/Object;" } : Jvm.MethodName)) ∈ lw_all := lw_g (lw_at lw_m4 101 rfl) rfl
theorem q870 : (Jvm.Cond.methodLink "SilkRow" (191 : Nat) ({ cls := "SilkRow$Plot", name := "pick", desc := "(I)I" } : Jvm.MethodName)) ∈ lw_all := lw_g (lw_at lw_m4 107 rfl) rfl
theorem q878 : (Jvm.Cond.instanceMethod ({ cls := "SilkRow", name := "prune", desc := "(I)I" } : Jvm.MethodName)) ∈ lw_all := lw_g (lw_at lw_m4 115 rfl) rfl
theorem q879 : (Jvm.Cond.selects "SilkRow" ({ cls := "SilkRow", name := "prune", desc := "(I)I" } : Jvm.MethodName) ({ cls := "SilkRow", name := "prune", desc := "(I)I" } : Jvm.MethodName)) ∈ lw_all := lw_g (lw_at lw_m4 116 rfl) rfl
theorem q880 : (Jvm.Cond.code ({ cls := "SilkRow", name := "prune", desc := "(I)I" } : Jvm.MethodName) prog_1_method_19_code (2 : Nat) (Option.some Jvm.ClassFile.FieldType.int)) ∈ lw_all := lw_g (lw_at lw_m4 117 rfl) rfl
theorem q881 : (Jvm.Cond.methodLink "SilkRow" (200 : Nat) ({ cls := "SilkRow$Plot", name := "prune", desc := "()I" } : Jvm.MethodName)) ∈ lw_all := lw_g (lw_at lw_m4 118 rfl) rfl
theorem q889 : (Jvm.Cond.instanceMethod ({ cls := "SilkRow", name := "buy", desc := "(I)I" } : Jvm.MethodName)) ∈ lw_all := lw_g (lw_at lw_m4 126 rfl) rfl
theorem q890 : (Jvm.Cond.selects "SilkRow" ({ cls := "SilkRow", name := "buy", desc := "(I)I" } : Jvm.MethodName) ({ cls := "SilkRow", name := "buy", desc := "(I)I" } : Jvm.MethodName)) ∈ lw_all := lw_g (lw_at lw_m4 127 rfl) rfl
theorem q891 : (Jvm.Cond.code ({ cls := "SilkRow", name := "buy", desc := "(I)I" } : Jvm.MethodName) prog_1_method_20_code (3 : Nat) (Option.some Jvm.ClassFile.FieldType.int)) ∈ lw_all := lw_g (lw_at lw_m4 128 rfl) rfl
theorem q896 : (Jvm.Cond.instanceMethod ({ cls := "SilkRow", name := "line", desc := "(IIII)I" } : Jvm.MethodName)) ∈ lw_all := lw_g (lw_at lw_m4 133 rfl) rfl
theorem q897 : (Jvm.Cond.selects "SilkRow" ({ cls := "SilkRow", name := "line", desc := "(IIII)I" } : Jvm.MethodName) ({ cls := "SilkRow", name := "line", desc := "(IIII)I" } : Jvm.MethodName)) ∈ lw_all := lw_g (lw_at lw_m4 134 rfl) rfl
theorem q898 : (Jvm.Cond.code ({ cls := "SilkRow", name := "line", desc := "(IIII)I" } : Jvm.MethodName) prog_1_method_21_code (7 : Nat) (Option.some Jvm.ClassFile.FieldType.int)) ∈ lw_all := lw_g (lw_at lw_m4 135 rfl) rfl
theorem q899 : (Jvm.Cond.methodLink "SilkRow" (203 : Nat) ({ cls := "SilkRow", name := "lineOf", desc := "(I)LSilkRow$Line;" } : Jvm.MethodName)) ∈ lw_all := lw_g (lw_at lw_m4 136 rfl) rfl
theorem q900 : (Jvm.Cond.privateMethod ({ cls := "SilkRow", name := "lineOf", desc := "(I)LSilkRow$Line;" } : Jvm.MethodName)) ∈ lw_tbl := lw_at lw_m4 137 rfl
theorem q901 : (Jvm.Cond.instanceMethod ({ cls := "SilkRow", name := "lineOf", desc := "(I)LSilkRow$Line;" } : Jvm.MethodName)) ∈ lw_all := lw_g (lw_at lw_m4 138 rfl) rfl
theorem q902 : (Jvm.Cond.code ({ cls := "SilkRow", name := "lineOf", desc := "(I)LSilkRow$Line;" } : Jvm.MethodName) prog_1_method_12_code (2 : Nat) (Option.some (Jvm.ClassFile.FieldType.object "SilkRow$Line"))) ∈ lw_all := lw_g (lw_at lw_m4 139 rfl) rfl
theorem q907 : (Jvm.Cond.instanceMethod ({ cls := "SilkRow", name := "hatch", desc := "(III)I" } : Jvm.MethodName)) ∈ lw_all := lw_g (lw_at lw_m4 144 rfl) rfl
theorem q908 : (Jvm.Cond.selects "SilkRow" ({ cls := "SilkRow", name := "hatch", desc := "(III)I" } : Jvm.MethodName) ({ cls := "SilkRow", name := "hatch", desc := "(III)I" } : Jvm.MethodName)) ∈ lw_all := lw_g (lw_at lw_m4 145 rfl) rfl
theorem q909 : (Jvm.Cond.code ({ cls := "SilkRow", name := "hatch", desc := "(III)I" } : Jvm.MethodName) prog_1_method_22_code (6 : Nat) (Option.some Jvm.ClassFile.FieldType.int)) ∈ lw_all := lw_g (lw_at lw_m4 146 rfl) rfl
theorem q910 : (Jvm.Cond.methodLink "SilkRow" (212 : Nat) ({ cls := "SilkRow", name := "trayOf", desc := "(I)LSilkRow$Tray;" } : Jvm.MethodName)) ∈ lw_all := lw_g (lw_at lw_m4 147 rfl) rfl
theorem q911 : (Jvm.Cond.privateMethod ({ cls := "SilkRow", name := "trayOf", desc := "(I)LSilkRow$Tray;" } : Jvm.MethodName)) ∈ lw_tbl := lw_at lw_m4 148 rfl
theorem q912 : (Jvm.Cond.instanceMethod ({ cls := "SilkRow", name := "trayOf", desc := "(I)LSilkRow$Tray;" } : Jvm.MethodName)) ∈ lw_all := lw_g (lw_at lw_m4 149 rfl) rfl
theorem q913 : (Jvm.Cond.code ({ cls := "SilkRow", name := "trayOf", desc := "(I)LSilkRow$Tray;" } : Jvm.MethodName) prog_1_method_13_code (2 : Nat) (Option.some (Jvm.ClassFile.FieldType.object "SilkRow$Tray"))) ∈ lw_all := lw_g (lw_at lw_m4 150 rfl) rfl
theorem q918 : (Jvm.Cond.instanceMethod ({ cls := "SilkRow", name := "feed", desc := "(II)I" } : Jvm.MethodName)) ∈ lw_all := lw_g (lw_at lw_m4 155 rfl) rfl
theorem q919 : (Jvm.Cond.selects "SilkRow" ({ cls := "SilkRow", name := "feed", desc := "(II)I" } : Jvm.MethodName) ({ cls := "SilkRow", name := "feed", desc := "(II)I" } : Jvm.MethodName)) ∈ lw_all := lw_g (lw_at lw_m4 156 rfl) rfl
theorem q920 : (Jvm.Cond.code ({ cls := "SilkRow", name := "feed", desc := "(II)I" } : Jvm.MethodName) prog_1_method_23_code (6 : Nat) (Option.some Jvm.ClassFile.FieldType.int)) ∈ lw_all := lw_g (lw_at lw_m4 157 rfl) rfl
theorem q925 : (Jvm.Cond.instanceMethod ({ cls := "SilkRow", name := "clean", desc := "(I)I" } : Jvm.MethodName)) ∈ lw_all := lw_g (lw_at lw_m4 162 rfl) rfl
theorem q926 : (Jvm.Cond.selects "SilkRow" ({ cls := "SilkRow", name := "clean", desc := "(I)I" } : Jvm.MethodName) ({ cls := "SilkRow", name := "clean", desc := "(I)I" } : Jvm.MethodName)) ∈ lw_all := lw_g (lw_at lw_m4 163 rfl) rfl
theorem q927 : (Jvm.Cond.code ({ cls := "SilkRow", name := "clean", desc := "(I)I" } : Jvm.MethodName) prog_1_method_25_code (3 : Nat) (Option.some Jvm.ClassFile.FieldType.int)) ∈ lw_all := lw_g (lw_at lw_m4 164 rfl) rfl
theorem q928 : (Jvm.Cond.methodLink "SilkRow" (231 : Nat) ({ cls := "SilkRow", name := "withWorms", desc := "(I)LSilkRow$Tray;" } : Jvm.MethodName)) ∈ lw_all := lw_g (lw_at lw_m4 165 rfl) rfl
theorem q929 : (Jvm.Cond.privateMethod ({ cls := "SilkRow", name := "withWorms", desc := "(I)LSilkRow$Tray;" } : Jvm.MethodName)) ∈ lw_tbl := lw_at lw_m4 166 rfl
theorem q930 : (Jvm.Cond.instanceMethod ({ cls := "SilkRow", name := "withWorms", desc := "(I)LSilkRow$Tray;" } : Jvm.MethodName)) ∈ lw_all := lw_g (lw_at lw_m4 167 rfl) rfl
theorem q931 : (Jvm.Cond.code ({ cls := "SilkRow", name := "withWorms", desc := "(I)LSilkRow$Tray;" } : Jvm.MethodName) prog_1_method_24_code (3 : Nat) (Option.some (Jvm.ClassFile.FieldType.object "SilkRow$Tray"))) ∈ lw_all := lw_g (lw_at lw_m4 168 rfl) rfl
theorem q932 : (Jvm.Cond.methodLink "SilkRow" (234 : Nat) ({ cls := "SilkRow$Tray", name := "clean", desc := "()I" } : Jvm.MethodName)) ∈ lw_all := lw_g (lw_at lw_m4 169 rfl) rfl
theorem q940 : (Jvm.Cond.instanceMethod ({ cls := "SilkRow", name := "part", desc := "(III)I" } : Jvm.MethodName)) ∈ lw_all := lw_g (lw_at lw_m4 177 rfl) rfl
theorem q941 : (Jvm.Cond.selects "SilkRow" ({ cls := "SilkRow", name := "part", desc := "(III)I" } : Jvm.MethodName) ({ cls := "SilkRow", name := "part", desc := "(III)I" } : Jvm.MethodName)) ∈ lw_all := lw_g (lw_at lw_m4 178 rfl) rfl
theorem q942 : (Jvm.Cond.code ({ cls := "SilkRow", name := "part", desc := "(III)I" } : Jvm.MethodName) prog_1_method_26_code (7 : Nat) (Option.some Jvm.ClassFile.FieldType.int)) ∈ lw_all := lw_g (lw_at lw_m4 179 rfl) rfl
theorem q943 : (Jvm.Cond.methodLink "SilkRow" (237 : Nat) ({ cls := "SilkRow$Tray", name := "part", desc := "(LSilkRow$Tray;I)I" } : Jvm.MethodName)) ∈ lw_all := lw_g (lw_at lw_m4 180 rfl) rfl
theorem q947 : (Jvm.Cond.methodLink "SilkRow" (241 : Nat) ({ cls := "SilkRow$Tray", name := "lose", desc := "(I)I" } : Jvm.MethodName)) ∈ lw_all := lw_g (lw_at lw_m4 184 rfl) rfl
theorem q952 : (Jvm.Cond.instanceMethod ({ cls := "SilkRow", name := "mount", desc := "(I)I" } : Jvm.MethodName)) ∈ lw_all := lw_g (lw_at lw_m4 189 rfl) rfl
theorem q953 : (Jvm.Cond.selects "SilkRow" ({ cls := "SilkRow", name := "mount", desc := "(I)I" } : Jvm.MethodName) ({ cls := "SilkRow", name := "mount", desc := "(I)I" } : Jvm.MethodName)) ∈ lw_all := lw_g (lw_at lw_m4 190 rfl) rfl
theorem q954 : (Jvm.Cond.code ({ cls := "SilkRow", name := "mount", desc := "(I)I" } : Jvm.MethodName) prog_1_method_27_code (5 : Nat) (Option.some Jvm.ClassFile.FieldType.int)) ∈ lw_all := lw_g (lw_at lw_m4 191 rfl) rfl
theorem q955 : (Jvm.Cond.methodLink "SilkRow" (244 : Nat) ({ cls := "SilkRow$Lot", name := "<init>", desc := "(III)V" } : Jvm.MethodName)) ∈ lw_all := lw_g (lw_at lw_m4 192 rfl) rfl
theorem q956 : (Jvm.Cond.methodLink "SilkRow" (246 : Nat) ({ cls := "SilkRow$Lot", name := "fill", desc := "(II)V" } : Jvm.MethodName)) ∈ lw_all := lw_g (lw_at lw_m4 193 rfl) rfl
theorem q960 : (Jvm.Cond.methodLink "SilkRow" (249 : Nat) ({ cls := "SilkRow$Tray", name := "empty", desc := "()V" } : Jvm.MethodName)) ∈ lw_all := lw_g (lw_at lw_m4 197 rfl) rfl
theorem q965 : (Jvm.Cond.instanceMethod ({ cls := "SilkRow", name := "stifle", desc := "(I)I" } : Jvm.MethodName)) ∈ lw_all := lw_g (lw_at lw_m4 202 rfl) rfl
theorem q966 : (Jvm.Cond.selects "SilkRow" ({ cls := "SilkRow", name := "stifle", desc := "(I)I" } : Jvm.MethodName) ({ cls := "SilkRow", name := "stifle", desc := "(I)I" } : Jvm.MethodName)) ∈ lw_all := lw_g (lw_at lw_m4 203 rfl) rfl
theorem q967 : (Jvm.Cond.code ({ cls := "SilkRow", name := "stifle", desc := "(I)I" } : Jvm.MethodName) prog_1_method_29_code (3 : Nat) (Option.some Jvm.ClassFile.FieldType.int)) ∈ lw_all := lw_g (lw_at lw_m4 204 rfl) rfl
theorem q968 : (Jvm.Cond.methodLink "SilkRow" (259 : Nat) ({ cls := "SilkRow", name := "fresh", desc := "(I)LSilkRow$Lot;" } : Jvm.MethodName)) ∈ lw_all := lw_g (lw_at lw_m4 205 rfl) rfl
theorem q969 : (Jvm.Cond.privateMethod ({ cls := "SilkRow", name := "fresh", desc := "(I)LSilkRow$Lot;" } : Jvm.MethodName)) ∈ lw_tbl := lw_at lw_m4 206 rfl
theorem q970 : (Jvm.Cond.instanceMethod ({ cls := "SilkRow", name := "fresh", desc := "(I)LSilkRow$Lot;" } : Jvm.MethodName)) ∈ lw_all := lw_g (lw_at lw_m4 207 rfl) rfl
theorem q971 : (Jvm.Cond.code ({ cls := "SilkRow", name := "fresh", desc := "(I)LSilkRow$Lot;" } : Jvm.MethodName) prog_1_method_28_code (3 : Nat) (Option.some (Jvm.ClassFile.FieldType.object "SilkRow$Lot"))) ∈ lw_all := lw_g (lw_at lw_m4 208 rfl) rfl
theorem q972 : (Jvm.Cond.methodLink "SilkRow" (252 : Nat) ({ cls := "SilkRow", name := "lotOf", desc := "(I)LSilkRow$Lot;" } : Jvm.MethodName)) ∈ lw_all := lw_g (lw_at lw_m4 209 rfl) rfl
theorem q973 : (Jvm.Cond.privateMethod ({ cls := "SilkRow", name := "lotOf", desc := "(I)LSilkRow$Lot;" } : Jvm.MethodName)) ∈ lw_tbl := lw_at lw_m4 210 rfl
theorem q974 : (Jvm.Cond.instanceMethod ({ cls := "SilkRow", name := "lotOf", desc := "(I)LSilkRow$Lot;" } : Jvm.MethodName)) ∈ lw_all := lw_g (lw_at lw_m4 211 rfl) rfl
theorem q975 : (Jvm.Cond.code ({ cls := "SilkRow", name := "lotOf", desc := "(I)LSilkRow$Lot;" } : Jvm.MethodName) prog_1_method_14_code (2 : Nat) (Option.some (Jvm.ClassFile.FieldType.object "SilkRow$Lot"))) ∈ lw_all := lw_g (lw_at lw_m4 212 rfl) rfl
theorem q976 : (Jvm.Cond.methodLink "SilkRow" (262 : Nat) ({ cls := "SilkRow$Lot", name := "all", desc := "()I" } : Jvm.MethodName)) ∈ lw_all := lw_g (lw_at lw_m4 213 rfl) rfl
theorem q984 : (Jvm.Cond.instanceMethod ({ cls := "SilkRow", name := "eggs", desc := "(IIZ)I" } : Jvm.MethodName)) ∈ lw_all := lw_g (lw_at lw_m4 221 rfl) rfl
theorem q985 : (Jvm.Cond.selects "SilkRow" ({ cls := "SilkRow", name := "eggs", desc := "(IIZ)I" } : Jvm.MethodName) ({ cls := "SilkRow", name := "eggs", desc := "(IIZ)I" } : Jvm.MethodName)) ∈ lw_all := lw_g (lw_at lw_m4 222 rfl) rfl
theorem q986 : (Jvm.Cond.code ({ cls := "SilkRow", name := "eggs", desc := "(IIZ)I" } : Jvm.MethodName) prog_1_method_30_code (7 : Nat) (Option.some Jvm.ClassFile.FieldType.int)) ∈ lw_all := lw_g (lw_at lw_m4 223 rfl) rfl
theorem q991 : (Jvm.Cond.instanceMethod ({ cls := "SilkRow", name := "reel", desc := "(IIII)I" } : Jvm.MethodName)) ∈ lw_all := lw_g (lw_at lw_m4 228 rfl) rfl
theorem q992 : (Jvm.Cond.selects "SilkRow" ({ cls := "SilkRow", name := "reel", desc := "(IIII)I" } : Jvm.MethodName) ({ cls := "SilkRow", name := "reel", desc := "(IIII)I" } : Jvm.MethodName)) ∈ lw_all := lw_g (lw_at lw_m4 229 rfl) rfl
theorem q993 : (Jvm.Cond.code ({ cls := "SilkRow", name := "reel", desc := "(IIII)I" } : Jvm.MethodName) prog_1_method_33_code (7 : Nat) (Option.some Jvm.ClassFile.FieldType.int)) ∈ lw_all := lw_g (lw_at lw_m4 230 rfl) rfl
theorem q994 : (Jvm.Cond.methodLink "SilkRow" (274 : Nat) ({ cls := "SilkRow", name := "requireBasin", desc := "(I)V" } : Jvm.MethodName)) ∈ lw_all := lw_g (lw_at lw_m4 231 rfl) rfl
theorem q995 : (Jvm.Cond.static ({ cls := "SilkRow", name := "requireBasin", desc := "(I)V" } : Jvm.MethodName)) ∈ lw_all := lw_g (lw_at lw_m4 232 rfl) rfl
theorem q996 : (Jvm.Cond.code ({ cls := "SilkRow", name := "requireBasin", desc := "(I)V" } : Jvm.MethodName) prog_1_method_32_code (1 : Nat) (Option.none : Option Jvm.ClassFile.FieldType)) ∈ lw_all := lw_g (lw_at lw_m4 233 rfl) rfl
theorem q997 : (Jvm.Cond.methodLink "SilkRow" (277 : Nat) ({ cls := "SilkRow", name := "stifled", desc := "(I)LSilkRow$Lot;" } : Jvm.MethodName)) ∈ lw_all := lw_g (lw_at lw_m4 234 rfl) rfl
theorem q998 : (Jvm.Cond.privateMethod ({ cls := "SilkRow", name := "stifled", desc := "(I)LSilkRow$Lot;" } : Jvm.MethodName)) ∈ lw_tbl := lw_at lw_m4 235 rfl
theorem q999 : (Jvm.Cond.instanceMethod ({ cls := "SilkRow", name := "stifled", desc := "(I)LSilkRow$Lot;" } : Jvm.MethodName)) ∈ lw_all := lw_g (lw_at lw_m4 236 rfl) rfl
theorem q1000 : (Jvm.Cond.code ({ cls := "SilkRow", name := "stifled", desc := "(I)LSilkRow$Lot;" } : Jvm.MethodName) prog_1_method_31_code (3 : Nat) (Option.some (Jvm.ClassFile.FieldType.object "SilkRow$Lot"))) ∈ lw_all := lw_g (lw_at lw_m4 237 rfl) rfl
theorem q1001 : (Jvm.Cond.classLink "SilkRow" (20 : Nat) "java/util/List") ∈ lw_all := lw_g (lw_at lw_m4 238 rfl) rfl
theorem q1006 : (Jvm.Cond.instanceMethod ({ cls := "SilkRow", name := "sell", desc := "(I)I" } : Jvm.MethodName)) ∈ lw_all := lw_g (lw_at lw_m5 3 rfl) rfl
theorem q1007 : (Jvm.Cond.selects "SilkRow" ({ cls := "SilkRow", name := "sell", desc := "(I)I" } : Jvm.MethodName) ({ cls := "SilkRow", name := "sell", desc := "(I)I" } : Jvm.MethodName)) ∈ lw_all := lw_g (lw_at lw_m5 4 rfl) rfl
theorem q1008 : (Jvm.Cond.code ({ cls := "SilkRow", name := "sell", desc := "(I)I" } : Jvm.MethodName) prog_1_method_34_code (4 : Nat) (Option.some Jvm.ClassFile.FieldType.int)) ∈ lw_all := lw_g (lw_at lw_m5 5 rfl) rfl
theorem q1013 : (Jvm.Cond.instanceMethod ({ cls := "SilkRow", name := "borrow", desc := "(I)I" } : Jvm.MethodName)) ∈ lw_all := lw_g (lw_at lw_m5 10 rfl) rfl
theorem q1014 : (Jvm.Cond.selects "SilkRow" ({ cls := "SilkRow", name := "borrow", desc := "(I)I" } : Jvm.MethodName) ({ cls := "SilkRow", name := "borrow", desc := "(I)I" } : Jvm.MethodName)) ∈ lw_all := lw_g (lw_at lw_m5 11 rfl) rfl
theorem q1015 : (Jvm.Cond.code ({ cls := "SilkRow", name := "borrow", desc := "(I)I" } : Jvm.MethodName) prog_1_method_35_code (2 : Nat) (Option.some Jvm.ClassFile.FieldType.int)) ∈ lw_all := lw_g (lw_at lw_m5 12 rfl) rfl
theorem q1020 : (Jvm.Cond.instanceMethod ({ cls := "SilkRow", name := "pay", desc := "(I)I" } : Jvm.MethodName)) ∈ lw_all := lw_g (lw_at lw_m5 17 rfl) rfl
theorem q1021 : (Jvm.Cond.selects "SilkRow" ({ cls := "SilkRow", name := "pay", desc := "(I)I" } : Jvm.MethodName) ({ cls := "SilkRow", name := "pay", desc := "(I)I" } : Jvm.MethodName)) ∈ lw_all := lw_g (lw_at lw_m5 18 rfl) rfl
theorem q1022 : (Jvm.Cond.code ({ cls := "SilkRow", name := "pay", desc := "(I)I" } : Jvm.MethodName) prog_1_method_36_code (3 : Nat) (Option.some Jvm.ClassFile.FieldType.int)) ∈ lw_all := lw_g (lw_at lw_m5 19 rfl) rfl
theorem q1027 : (Jvm.Cond.instanceMethod ({ cls := "SilkRow", name := "ofPlot", desc := "(II)I" } : Jvm.MethodName)) ∈ lw_all := lw_g (lw_at lw_m5 24 rfl) rfl
theorem q1028 : (Jvm.Cond.selects "SilkRow" ({ cls := "SilkRow", name := "ofPlot", desc := "(II)I" } : Jvm.MethodName) ({ cls := "SilkRow", name := "ofPlot", desc := "(II)I" } : Jvm.MethodName)) ∈ lw_all := lw_g (lw_at lw_m5 25 rfl) rfl
theorem q1029 : (Jvm.Cond.code ({ cls := "SilkRow", name := "ofPlot", desc := "(II)I" } : Jvm.MethodName) prog_1_method_38_code (4 : Nat) (Option.some Jvm.ClassFile.FieldType.int)) ∈ lw_all := lw_g (lw_at lw_m5 26 rfl) rfl
theorem q1034 : (Jvm.Cond.instanceMethod ({ cls := "SilkRow", name := "ofLine", desc := "(II)I" } : Jvm.MethodName)) ∈ lw_all := lw_g (lw_at lw_m5 31 rfl) rfl
theorem q1035 : (Jvm.Cond.selects "SilkRow" ({ cls := "SilkRow", name := "ofLine", desc := "(II)I" } : Jvm.MethodName) ({ cls := "SilkRow", name := "ofLine", desc := "(II)I" } : Jvm.MethodName)) ∈ lw_all := lw_g (lw_at lw_m5 32 rfl) rfl
theorem q1036 : (Jvm.Cond.code ({ cls := "SilkRow", name := "ofLine", desc := "(II)I" } : Jvm.MethodName) prog_1_method_40_code (4 : Nat) (Option.some Jvm.ClassFile.FieldType.int)) ∈ lw_all := lw_g (lw_at lw_m5 33 rfl) rfl
theorem q1041 : (Jvm.Cond.instanceMethod ({ cls := "SilkRow", name := "ofTray", desc := "(II)I" } : Jvm.MethodName)) ∈ lw_all := lw_g (lw_at lw_m5 38 rfl) rfl
theorem q1042 : (Jvm.Cond.selects "SilkRow" ({ cls := "SilkRow", name := "ofTray", desc := "(II)I" } : Jvm.MethodName) ({ cls := "SilkRow", name := "ofTray", desc := "(II)I" } : Jvm.MethodName)) ∈ lw_all := lw_g (lw_at lw_m5 39 rfl) rfl
theorem q1043 : (Jvm.Cond.code ({ cls := "SilkRow", name := "ofTray", desc := "(II)I" } : Jvm.MethodName) prog_1_method_42_code (4 : Nat) (Option.some Jvm.ClassFile.FieldType.int)) ∈ lw_all := lw_g (lw_at lw_m5 40 rfl) rfl
theorem q1048 : (Jvm.Cond.instanceMethod ({ cls := "SilkRow", name := "ofLot", desc := "(II)I" } : Jvm.MethodName)) ∈ lw_all := lw_g (lw_at lw_m5 45 rfl) rfl
theorem q1049 : (Jvm.Cond.selects "SilkRow" ({ cls := "SilkRow", name := "ofLot", desc := "(II)I" } : Jvm.MethodName) ({ cls := "SilkRow", name := "ofLot", desc := "(II)I" } : Jvm.MethodName)) ∈ lw_all := lw_g (lw_at lw_m5 46 rfl) rfl
theorem q1050 : (Jvm.Cond.code ({ cls := "SilkRow", name := "ofLot", desc := "(II)I" } : Jvm.MethodName) prog_1_method_44_code (4 : Nat) (Option.some Jvm.ClassFile.FieldType.int)) ∈ lw_all := lw_g (lw_at lw_m5 47 rfl) rfl
theorem q1055 : (Jvm.Cond.instanceMethod ({ cls := "SilkRow", name := "inBasin", desc := "(II)I" } : Jvm.MethodName)) ∈ lw_all := lw_g (lw_at lw_m5 52 rfl) rfl
theorem q1056 : (Jvm.Cond.selects "SilkRow" ({ cls := "SilkRow", name := "inBasin", desc := "(II)I" } : Jvm.MethodName) ({ cls := "SilkRow", name := "inBasin", desc := "(II)I" } : Jvm.MethodName)) ∈ lw_all := lw_g (lw_at lw_m5 53 rfl) rfl
theorem q1057 : (Jvm.Cond.code ({ cls := "SilkRow", name := "inBasin", desc := "(II)I" } : Jvm.MethodName) prog_1_method_46_code (3 : Nat) (Option.some Jvm.ClassFile.FieldType.int)) ∈ lw_all := lw_g (lw_at lw_m5 54 rfl) rfl
theorem q1062 : (Jvm.Cond.instanceMethod ({ cls := "SilkRow", name := "ofSkein", desc := "(II)I" } : Jvm.MethodName)) ∈ lw_all := lw_g (lw_at lw_m5 59 rfl) rfl
theorem q1063 : (Jvm.Cond.selects "SilkRow" ({ cls := "SilkRow", name := "ofSkein", desc := "(II)I" } : Jvm.MethodName) ({ cls := "SilkRow", name := "ofSkein", desc := "(II)I" } : Jvm.MethodName)) ∈ lw_all := lw_g (lw_at lw_m5 60 rfl) rfl
theorem q1064 : (Jvm.Cond.code ({ cls := "SilkRow", name := "ofSkein", desc := "(II)I" } : Jvm.MethodName) prog_1_method_48_code (4 : Nat) (Option.some Jvm.ClassFile.FieldType.int)) ∈ lw_all := lw_g (lw_at lw_m5 61 rfl) rfl
theorem q1069 : (Jvm.Cond.instanceMethod ({ cls := "SilkRow", name := "many", desc := "(I)I" } : Jvm.MethodName)) ∈ lw_all := lw_g (lw_at lw_m5 66 rfl) rfl
theorem q1070 : (Jvm.Cond.selects "SilkRow" ({ cls := "SilkRow", name := "many", desc := "(I)I" } : Jvm.MethodName) ({ cls := "SilkRow", name := "many", desc := "(I)I" } : Jvm.MethodName)) ∈ lw_all := lw_g (lw_at lw_m5 67 rfl) rfl
theorem q1071 : (Jvm.Cond.code ({ cls := "SilkRow", name := "many", desc := "(I)I" } : Jvm.MethodName) prog_1_method_50_code (2 : Nat) (Option.some Jvm.ClassFile.FieldType.int)) ∈ lw_all := lw_g (lw_at lw_m5 68 rfl) rfl
theorem q1076 : (Jvm.Cond.instanceMethod ({ cls := "SilkRow", name := "ripeIn", desc := "(I)I" } : Jvm.MethodName)) ∈ lw_all := lw_g (lw_at lw_m5 73 rfl) rfl
theorem q1077 : (Jvm.Cond.selects "SilkRow" ({ cls := "SilkRow", name := "ripeIn", desc := "(I)I" } : Jvm.MethodName) ({ cls := "SilkRow", name := "ripeIn", desc := "(I)I" } : Jvm.MethodName)) ∈ lw_all := lw_g (lw_at lw_m5 74 rfl) rfl
theorem q1078 : (Jvm.Cond.code ({ cls := "SilkRow", name := "ripeIn", desc := "(I)I" } : Jvm.MethodName) prog_1_method_53_code (2 : Nat) (Option.some Jvm.ClassFile.FieldType.int)) ∈ lw_all := lw_g (lw_at lw_m5 75 rfl) rfl
theorem q1083 : (Jvm.Cond.instanceMethod ({ cls := "SilkRow", name := "bestTarget", desc := "(III)I" } : Jvm.MethodName)) ∈ lw_all := lw_g (lw_at lw_m5 80 rfl) rfl
theorem q1084 : (Jvm.Cond.selects "SilkRow" ({ cls := "SilkRow", name := "bestTarget", desc := "(III)I" } : Jvm.MethodName) ({ cls := "SilkRow", name := "bestTarget", desc := "(III)I" } : Jvm.MethodName)) ∈ lw_all := lw_g (lw_at lw_m5 81 rfl) rfl
theorem q1085 : (Jvm.Cond.code ({ cls := "SilkRow", name := "bestTarget", desc := "(III)I" } : Jvm.MethodName) prog_1_method_55_code (4 : Nat) (Option.some Jvm.ClassFile.FieldType.int)) ∈ lw_all := lw_g (lw_at lw_m5 82 rfl) rfl
theorem q1676 : (Jvm.Cond.castable "SilkRow" "java/lang/Object") ∈ lw_tbl := lw_at lw_m7 193 rfl
theorem in_X1 : ∀ w ∈ wsX10, w ∈ lw_all := lw_in wsX10 [264, 266, 268, 270, 272, 274, 276, 278, 280, 282, 284, 286, 288] (by decide +kernel) (by decide +kernel)
