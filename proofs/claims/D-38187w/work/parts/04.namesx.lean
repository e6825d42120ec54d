/-! SilkRowLaw -/
set_option maxRecDepth 100000
def RX0 : String := "SilkRowLaw"
abbrev cX0_plot : ByteArray := method_3_code
def yX0_plot : MethodName := ⟨RX0, "plot", "(LSilkRow;I[J)I"⟩
def dkwX0_plot_0 : List UInt8 := [44, 3, 42, 27, 182, 0, 7, 133, 80, 167, 0, 9, 78, 4, 172, 78, 5, 172, 3, 172]
abbrev dktX0_plot_0 : List UInt8 := dkwX0_plot_0 ++ []
theorem dksX0_plot_0 : cX0_plot.data.toList.drop 0 = dktX0_plot_0 := by decide +kernel
theorem dX0_plot_0 : decode cX0_plot 0 = .ok (.aload_n 2, 1) := dk_44 (dk_at dksX0_plot_0 0 rfl rfl)
theorem dX0_plot_1 : decode cX0_plot 1 = .ok (.iconst 0, 1) := dk_3 (dk_at dksX0_plot_0 1 rfl rfl)
theorem dX0_plot_2 : decode cX0_plot 2 = .ok (.aload_n 0, 1) := dk_42 (dk_at dksX0_plot_0 2 rfl rfl)
theorem dX0_plot_3 : decode cX0_plot 3 = .ok (.iload_n 1, 1) := dk_27 (dk_at dksX0_plot_0 3 rfl rfl)
theorem dX0_plot_4 : decode cX0_plot 4 = .ok (.invokevirtual 7, 3) := dk_182 0 7 (dk_at dksX0_plot_0 4 rfl rfl)
theorem dX0_plot_7 : decode cX0_plot 7 = .ok (.i2l, 1) := dk_133 (dk_at dksX0_plot_0 7 rfl rfl)
theorem dX0_plot_8 : decode cX0_plot 8 = .ok (.lastore, 1) := dk_80 (dk_at dksX0_plot_0 8 rfl rfl)
theorem dX0_plot_9 : decode cX0_plot 9 = .ok (.goto 9, 3) := dk_167 0 9 (dk_at dksX0_plot_0 9 rfl rfl)
theorem dX0_plot_12 : decode cX0_plot 12 = .ok (.astore_n 3, 1) := dk_78 (dk_at dksX0_plot_0 12 rfl rfl)
theorem dX0_plot_13 : decode cX0_plot 13 = .ok (.iconst 1, 1) := dk_4 (dk_at dksX0_plot_0 13 rfl rfl)
theorem dX0_plot_14 : decode cX0_plot 14 = .ok (.ireturn, 1) := dk_172 (dk_at dksX0_plot_0 14 rfl rfl)
theorem dX0_plot_15 : decode cX0_plot 15 = .ok (.astore_n 3, 1) := dk_78 (dk_at dksX0_plot_0 15 rfl rfl)
theorem dX0_plot_16 : decode cX0_plot 16 = .ok (.iconst 2, 1) := dk_5 (dk_at dksX0_plot_0 16 rfl rfl)
theorem dX0_plot_17 : decode cX0_plot 17 = .ok (.ireturn, 1) := dk_172 (dk_at dksX0_plot_0 17 rfl rfl)
theorem dX0_plot_18 : decode cX0_plot 18 = .ok (.iconst 0, 1) := dk_3 (dk_at dksX0_plot_0 18 rfl rfl)
theorem dX0_plot_19 : decode cX0_plot 19 = .ok (.ireturn, 1) := dk_172 (dk_at dksX0_plot_0 19 rfl rfl)
abbrev cX0_pass : ByteArray := method_4_code
def yX0_pass : MethodName := ⟨RX0, "pass", "(LSilkRow;IZI[J)I"⟩
def dkwX0_pass_0 : List UInt8 := [25, 4, 3, 42, 27, 28, 29, 182, 0, 17, 133, 80, 167, 0, 7, 58, 5, 4, 172, 3, 172]
abbrev dktX0_pass_0 : List UInt8 := dkwX0_pass_0 ++ []
theorem dksX0_pass_0 : cX0_pass.data.toList.drop 0 = dktX0_pass_0 := by decide +kernel
theorem dX0_pass_0 : decode cX0_pass 0 = .ok (.aload 4, 2) := dk_25 4 (dk_at dksX0_pass_0 0 rfl rfl)
theorem dX0_pass_2 : decode cX0_pass 2 = .ok (.iconst 0, 1) := dk_3 (dk_at dksX0_pass_0 2 rfl rfl)
theorem dX0_pass_3 : decode cX0_pass 3 = .ok (.aload_n 0, 1) := dk_42 (dk_at dksX0_pass_0 3 rfl rfl)
theorem dX0_pass_4 : decode cX0_pass 4 = .ok (.iload_n 1, 1) := dk_27 (dk_at dksX0_pass_0 4 rfl rfl)
theorem dX0_pass_5 : decode cX0_pass 5 = .ok (.iload_n 2, 1) := dk_28 (dk_at dksX0_pass_0 5 rfl rfl)
theorem dX0_pass_6 : decode cX0_pass 6 = .ok (.iload_n 3, 1) := dk_29 (dk_at dksX0_pass_0 6 rfl rfl)
theorem dX0_pass_7 : decode cX0_pass 7 = .ok (.invokevirtual 17, 3) := dk_182 0 17 (dk_at dksX0_pass_0 7 rfl rfl)
theorem dX0_pass_10 : decode cX0_pass 10 = .ok (.i2l, 1) := dk_133 (dk_at dksX0_pass_0 10 rfl rfl)
theorem dX0_pass_11 : decode cX0_pass 11 = .ok (.lastore, 1) := dk_80 (dk_at dksX0_pass_0 11 rfl rfl)
theorem dX0_pass_12 : decode cX0_pass 12 = .ok (.goto 7, 3) := dk_167 0 7 (dk_at dksX0_pass_0 12 rfl rfl)
theorem dX0_pass_15 : decode cX0_pass 15 = .ok (.astore 5, 2) := dk_58 5 (dk_at dksX0_pass_0 15 rfl rfl)
theorem dX0_pass_17 : decode cX0_pass 17 = .ok (.iconst 1, 1) := dk_4 (dk_at dksX0_pass_0 17 rfl rfl)
theorem dX0_pass_18 : decode cX0_pass 18 = .ok (.ireturn, 1) := dk_172 (dk_at dksX0_pass_0 18 rfl rfl)
theorem dX0_pass_19 : decode cX0_pass 19 = .ok (.iconst 0, 1) := dk_3 (dk_at dksX0_pass_0 19 rfl rfl)
theorem dX0_pass_20 : decode cX0_pass 20 = .ok (.ireturn, 1) := dk_172 (dk_at dksX0_pass_0 20 rfl rfl)
abbrev cX0_pick : ByteArray := method_5_code
def yX0_pick : MethodName := ⟨RX0, "pick", "(LSilkRow;II[J)I"⟩
def dkwX0_pick_0 : List UInt8 := [45, 3, 42, 27, 28, 182, 0, 21, 133, 80, 167, 0, 11, 58, 4, 4, 172, 58, 4, 5, 172, 3, 172]
abbrev dktX0_pick_0 : List UInt8 := dkwX0_pick_0 ++ []
theorem dksX0_pick_0 : cX0_pick.data.toList.drop 0 = dktX0_pick_0 := by decide +kernel
theorem dX0_pick_0 : decode cX0_pick 0 = .ok (.aload_n 3, 1) := dk_45 (dk_at dksX0_pick_0 0 rfl rfl)
theorem dX0_pick_1 : decode cX0_pick 1 = .ok (.iconst 0, 1) := dk_3 (dk_at dksX0_pick_0 1 rfl rfl)
theorem dX0_pick_2 : decode cX0_pick 2 = .ok (.aload_n 0, 1) := dk_42 (dk_at dksX0_pick_0 2 rfl rfl)
theorem dX0_pick_3 : decode cX0_pick 3 = .ok (.iload_n 1, 1) := dk_27 (dk_at dksX0_pick_0 3 rfl rfl)
theorem dX0_pick_4 : decode cX0_pick 4 = .ok (.iload_n 2, 1) := dk_28 (dk_at dksX0_pick_0 4 rfl rfl)
theorem dX0_pick_5 : decode cX0_pick 5 = .ok (.invokevirtual 21, 3) := dk_182 0 21 (dk_at dksX0_pick_0 5 rfl rfl)
theorem dX0_pick_8 : decode cX0_pick 8 = .ok (.i2l, 1) := dk_133 (dk_at dksX0_pick_0 8 rfl rfl)
theorem dX0_pick_9 : decode cX0_pick 9 = .ok (.lastore, 1) := dk_80 (dk_at dksX0_pick_0 9 rfl rfl)
theorem dX0_pick_10 : decode cX0_pick 10 = .ok (.goto 11, 3) := dk_167 0 11 (dk_at dksX0_pick_0 10 rfl rfl)
theorem dX0_pick_13 : decode cX0_pick 13 = .ok (.astore 4, 2) := dk_58 4 (dk_at dksX0_pick_0 13 rfl rfl)
theorem dX0_pick_15 : decode cX0_pick 15 = .ok (.iconst 1, 1) := dk_4 (dk_at dksX0_pick_0 15 rfl rfl)
theorem dX0_pick_16 : decode cX0_pick 16 = .ok (.ireturn, 1) := dk_172 (dk_at dksX0_pick_0 16 rfl rfl)
theorem dX0_pick_17 : decode cX0_pick 17 = .ok (.astore 4, 2) := dk_58 4 (dk_at dksX0_pick_0 17 rfl rfl)
theorem dX0_pick_19 : decode cX0_pick 19 = .ok (.iconst 2, 1) := dk_5 (dk_at dksX0_pick_0 19 rfl rfl)
theorem dX0_pick_20 : decode cX0_pick 20 = .ok (.ireturn, 1) := dk_172 (dk_at dksX0_pick_0 20 rfl rfl)
theorem dX0_pick_21 : decode cX0_pick 21 = .ok (.iconst 0, 1) := dk_3 (dk_at dksX0_pick_0 21 rfl rfl)
theorem dX0_pick_22 : decode cX0_pick 22 = .ok (.ireturn, 1) := dk_172 (dk_at dksX0_pick_0 22 rfl rfl)
abbrev cX0_prune : ByteArray := method_6_code
def yX0_prune : MethodName := ⟨RX0, "prune", "(LSilkRow;I[J)I"⟩
def dkwX0_prune_0 : List UInt8 := [44, 3, 42, 27, 182, 0, 27, 133, 80, 167, 0, 6, 78, 4, 172, 3, 172]
abbrev dktX0_prune_0 : List UInt8 := dkwX0_prune_0 ++ []
theorem dksX0_prune_0 : cX0_prune.data.toList.drop 0 = dktX0_prune_0 := by decide +kernel
theorem dX0_prune_0 : decode cX0_prune 0 = .ok (.aload_n 2, 1) := dk_44 (dk_at dksX0_prune_0 0 rfl rfl)
theorem dX0_prune_1 : decode cX0_prune 1 = .ok (.iconst 0, 1) := dk_3 (dk_at dksX0_prune_0 1 rfl rfl)
theorem dX0_prune_2 : decode cX0_prune 2 = .ok (.aload_n 0, 1) := dk_42 (dk_at dksX0_prune_0 2 rfl rfl)
theorem dX0_prune_3 : decode cX0_prune 3 = .ok (.iload_n 1, 1) := dk_27 (dk_at dksX0_prune_0 3 rfl rfl)
theorem dX0_prune_4 : decode cX0_prune 4 = .ok (.invokevirtual 27, 3) := dk_182 0 27 (dk_at dksX0_prune_0 4 rfl rfl)
theorem dX0_prune_7 : decode cX0_prune 7 = .ok (.i2l, 1) := dk_133 (dk_at dksX0_prune_0 7 rfl rfl)
theorem dX0_prune_8 : decode cX0_prune 8 = .ok (.lastore, 1) := dk_80 (dk_at dksX0_prune_0 8 rfl rfl)
theorem dX0_prune_9 : decode cX0_prune 9 = .ok (.goto 6, 3) := dk_167 0 6 (dk_at dksX0_prune_0 9 rfl rfl)
theorem dX0_prune_12 : decode cX0_prune 12 = .ok (.astore_n 3, 1) := dk_78 (dk_at dksX0_prune_0 12 rfl rfl)
theorem dX0_prune_13 : decode cX0_prune 13 = .ok (.iconst 1, 1) := dk_4 (dk_at dksX0_prune_0 13 rfl rfl)
theorem dX0_prune_14 : decode cX0_prune 14 = .ok (.ireturn, 1) := dk_172 (dk_at dksX0_prune_0 14 rfl rfl)
theorem dX0_prune_15 : decode cX0_prune 15 = .ok (.iconst 0, 1) := dk_3 (dk_at dksX0_prune_0 15 rfl rfl)
theorem dX0_prune_16 : decode cX0_prune 16 = .ok (.ireturn, 1) := dk_172 (dk_at dksX0_prune_0 16 rfl rfl)
abbrev cX0_buy : ByteArray := method_7_code
def yX0_buy : MethodName := ⟨RX0, "buy", "(LSilkRow;I[J)I"⟩
def dkwX0_buy_0 : List UInt8 := [44, 3, 42, 27, 182, 0, 30, 133, 80, 167, 0, 9, 78, 4, 172, 78, 5, 172, 3, 172]
abbrev dktX0_buy_0 : List UInt8 := dkwX0_buy_0 ++ []
theorem dksX0_buy_0 : cX0_buy.data.toList.drop 0 = dktX0_buy_0 := by decide +kernel
theorem dX0_buy_0 : decode cX0_buy 0 = .ok (.aload_n 2, 1) := dk_44 (dk_at dksX0_buy_0 0 rfl rfl)
theorem dX0_buy_1 : decode cX0_buy 1 = .ok (.iconst 0, 1) := dk_3 (dk_at dksX0_buy_0 1 rfl rfl)
theorem dX0_buy_2 : decode cX0_buy 2 = .ok (.aload_n 0, 1) := dk_42 (dk_at dksX0_buy_0 2 rfl rfl)
theorem dX0_buy_3 : decode cX0_buy 3 = .ok (.iload_n 1, 1) := dk_27 (dk_at dksX0_buy_0 3 rfl rfl)
theorem dX0_buy_4 : decode cX0_buy 4 = .ok (.invokevirtual 30, 3) := dk_182 0 30 (dk_at dksX0_buy_0 4 rfl rfl)
theorem dX0_buy_7 : decode cX0_buy 7 = .ok (.i2l, 1) := dk_133 (dk_at dksX0_buy_0 7 rfl rfl)
theorem dX0_buy_8 : decode cX0_buy 8 = .ok (.lastore, 1) := dk_80 (dk_at dksX0_buy_0 8 rfl rfl)
theorem dX0_buy_9 : decode cX0_buy 9 = .ok (.goto 9, 3) := dk_167 0 9 (dk_at dksX0_buy_0 9 rfl rfl)
theorem dX0_buy_12 : decode cX0_buy 12 = .ok (.astore_n 3, 1) := dk_78 (dk_at dksX0_buy_0 12 rfl rfl)
theorem dX0_buy_13 : decode cX0_buy 13 = .ok (.iconst 1, 1) := dk_4 (dk_at dksX0_buy_0 13 rfl rfl)
theorem dX0_buy_14 : decode cX0_buy 14 = .ok (.ireturn, 1) := dk_172 (dk_at dksX0_buy_0 14 rfl rfl)
theorem dX0_buy_15 : decode cX0_buy 15 = .ok (.astore_n 3, 1) := dk_78 (dk_at dksX0_buy_0 15 rfl rfl)
theorem dX0_buy_16 : decode cX0_buy 16 = .ok (.iconst 2, 1) := dk_5 (dk_at dksX0_buy_0 16 rfl rfl)
theorem dX0_buy_17 : decode cX0_buy 17 = .ok (.ireturn, 1) := dk_172 (dk_at dksX0_buy_0 17 rfl rfl)
theorem dX0_buy_18 : decode cX0_buy 18 = .ok (.iconst 0, 1) := dk_3 (dk_at dksX0_buy_0 18 rfl rfl)
theorem dX0_buy_19 : decode cX0_buy 19 = .ok (.ireturn, 1) := dk_172 (dk_at dksX0_buy_0 19 rfl rfl)
abbrev cX0_line : ByteArray := method_8_code
def yX0_line : MethodName := ⟨RX0, "line", "(LSilkRow;IIII[J)I"⟩
def dkwX0_line_1 : List UInt8 := [172, 3, 172]
abbrev dktX0_line_1 : List UInt8 := dkwX0_line_1 ++ []
def dkwX0_line_0 : List UInt8 := [25, 5, 3, 42, 27, 28, 29, 21, 4, 182, 0, 33, 133, 80, 167, 0, 11, 58, 6, 4, 172, 58, 6, 5]
abbrev dktX0_line_0 : List UInt8 := dkwX0_line_0 ++ dktX0_line_1
theorem dksX0_line_0 : cX0_line.data.toList.drop 0 = dktX0_line_0 := by decide +kernel
theorem dksX0_line_1 : cX0_line.data.toList.drop 24 = dktX0_line_1 := dk_seg dksX0_line_0 24 rfl rfl
theorem dX0_line_0 : decode cX0_line 0 = .ok (.aload 5, 2) := dk_25 5 (dk_at dksX0_line_0 0 rfl rfl)
theorem dX0_line_2 : decode cX0_line 2 = .ok (.iconst 0, 1) := dk_3 (dk_at dksX0_line_0 2 rfl rfl)
theorem dX0_line_3 : decode cX0_line 3 = .ok (.aload_n 0, 1) := dk_42 (dk_at dksX0_line_0 3 rfl rfl)
theorem dX0_line_4 : decode cX0_line 4 = .ok (.iload_n 1, 1) := dk_27 (dk_at dksX0_line_0 4 rfl rfl)
theorem dX0_line_5 : decode cX0_line 5 = .ok (.iload_n 2, 1) := dk_28 (dk_at dksX0_line_0 5 rfl rfl)
theorem dX0_line_6 : decode cX0_line 6 = .ok (.iload_n 3, 1) := dk_29 (dk_at dksX0_line_0 6 rfl rfl)
theorem dX0_line_7 : decode cX0_line 7 = .ok (.iload 4, 2) := dk_21 4 (dk_at dksX0_line_0 7 rfl rfl)
theorem dX0_line_9 : decode cX0_line 9 = .ok (.invokevirtual 33, 3) := dk_182 0 33 (dk_at dksX0_line_0 9 rfl rfl)
theorem dX0_line_12 : decode cX0_line 12 = .ok (.i2l, 1) := dk_133 (dk_at dksX0_line_0 12 rfl rfl)
theorem dX0_line_13 : decode cX0_line 13 = .ok (.lastore, 1) := dk_80 (dk_at dksX0_line_0 13 rfl rfl)
theorem dX0_line_14 : decode cX0_line 14 = .ok (.goto 11, 3) := dk_167 0 11 (dk_at dksX0_line_0 14 rfl rfl)
theorem dX0_line_17 : decode cX0_line 17 = .ok (.astore 6, 2) := dk_58 6 (dk_at dksX0_line_0 17 rfl rfl)
theorem dX0_line_19 : decode cX0_line 19 = .ok (.iconst 1, 1) := dk_4 (dk_at dksX0_line_0 19 rfl rfl)
theorem dX0_line_20 : decode cX0_line 20 = .ok (.ireturn, 1) := dk_172 (dk_at dksX0_line_0 20 rfl rfl)
theorem dX0_line_21 : decode cX0_line 21 = .ok (.astore 6, 2) := dk_58 6 (dk_at dksX0_line_0 21 rfl rfl)
theorem dX0_line_23 : decode cX0_line 23 = .ok (.iconst 2, 1) := dk_5 (dk_at dksX0_line_0 23 rfl rfl)
theorem dX0_line_24 : decode cX0_line 24 = .ok (.ireturn, 1) := dk_172 (dk_at dksX0_line_1 0 rfl rfl)
theorem dX0_line_25 : decode cX0_line 25 = .ok (.iconst 0, 1) := dk_3 (dk_at dksX0_line_1 1 rfl rfl)
theorem dX0_line_26 : decode cX0_line 26 = .ok (.ireturn, 1) := dk_172 (dk_at dksX0_line_1 2 rfl rfl)
abbrev cX0_hatch : ByteArray := method_9_code
def yX0_hatch : MethodName := ⟨RX0, "hatch", "(LSilkRow;III[J)I"⟩
def dkwX0_hatch_1 : List UInt8 := [58, 5, 6, 172, 3, 172]
abbrev dktX0_hatch_1 : List UInt8 := dkwX0_hatch_1 ++ []
def dkwX0_hatch_0 : List UInt8 := [25, 4, 3, 42, 27, 28, 29, 182, 0, 37, 133, 80, 167, 0, 15, 58, 5, 4, 172, 58, 5, 5, 172]
abbrev dktX0_hatch_0 : List UInt8 := dkwX0_hatch_0 ++ dktX0_hatch_1
theorem dksX0_hatch_0 : cX0_hatch.data.toList.drop 0 = dktX0_hatch_0 := by decide +kernel
theorem dksX0_hatch_1 : cX0_hatch.data.toList.drop 23 = dktX0_hatch_1 := dk_seg dksX0_hatch_0 23 rfl rfl
theorem dX0_hatch_0 : decode cX0_hatch 0 = .ok (.aload 4, 2) := dk_25 4 (dk_at dksX0_hatch_0 0 rfl rfl)
theorem dX0_hatch_2 : decode cX0_hatch 2 = .ok (.iconst 0, 1) := dk_3 (dk_at dksX0_hatch_0 2 rfl rfl)
theorem dX0_hatch_3 : decode cX0_hatch 3 = .ok (.aload_n 0, 1) := dk_42 (dk_at dksX0_hatch_0 3 rfl rfl)
theorem dX0_hatch_4 : decode cX0_hatch 4 = .ok (.iload_n 1, 1) := dk_27 (dk_at dksX0_hatch_0 4 rfl rfl)
theorem dX0_hatch_5 : decode cX0_hatch 5 = .ok (.iload_n 2, 1) := dk_28 (dk_at dksX0_hatch_0 5 rfl rfl)
theorem dX0_hatch_6 : decode cX0_hatch 6 = .ok (.iload_n 3, 1) := dk_29 (dk_at dksX0_hatch_0 6 rfl rfl)
theorem dX0_hatch_7 : decode cX0_hatch 7 = .ok (.invokevirtual 37, 3) := dk_182 0 37 (dk_at dksX0_hatch_0 7 rfl rfl)
theorem dX0_hatch_10 : decode cX0_hatch 10 = .ok (.i2l, 1) := dk_133 (dk_at dksX0_hatch_0 10 rfl rfl)
theorem dX0_hatch_11 : decode cX0_hatch 11 = .ok (.lastore, 1) := dk_80 (dk_at dksX0_hatch_0 11 rfl rfl)
theorem dX0_hatch_12 : decode cX0_hatch 12 = .ok (.goto 15, 3) := dk_167 0 15 (dk_at dksX0_hatch_0 12 rfl rfl)
theorem dX0_hatch_15 : decode cX0_hatch 15 = .ok (.astore 5, 2) := dk_58 5 (dk_at dksX0_hatch_0 15 rfl rfl)
theorem dX0_hatch_17 : decode cX0_hatch 17 = .ok (.iconst 1, 1) := dk_4 (dk_at dksX0_hatch_0 17 rfl rfl)
theorem dX0_hatch_18 : decode cX0_hatch 18 = .ok (.ireturn, 1) := dk_172 (dk_at dksX0_hatch_0 18 rfl rfl)
theorem dX0_hatch_19 : decode cX0_hatch 19 = .ok (.astore 5, 2) := dk_58 5 (dk_at dksX0_hatch_0 19 rfl rfl)
theorem dX0_hatch_21 : decode cX0_hatch 21 = .ok (.iconst 2, 1) := dk_5 (dk_at dksX0_hatch_0 21 rfl rfl)
theorem dX0_hatch_22 : decode cX0_hatch 22 = .ok (.ireturn, 1) := dk_172 (dk_at dksX0_hatch_0 22 rfl rfl)
theorem dX0_hatch_23 : decode cX0_hatch 23 = .ok (.astore 5, 2) := dk_58 5 (dk_at dksX0_hatch_1 0 rfl rfl)
theorem dX0_hatch_25 : decode cX0_hatch 25 = .ok (.iconst 3, 1) := dk_6 (dk_at dksX0_hatch_1 2 rfl rfl)
theorem dX0_hatch_26 : decode cX0_hatch 26 = .ok (.ireturn, 1) := dk_172 (dk_at dksX0_hatch_1 3 rfl rfl)
theorem dX0_hatch_27 : decode cX0_hatch 27 = .ok (.iconst 0, 1) := dk_3 (dk_at dksX0_hatch_1 4 rfl rfl)
theorem dX0_hatch_28 : decode cX0_hatch 28 = .ok (.ireturn, 1) := dk_172 (dk_at dksX0_hatch_1 5 rfl rfl)
abbrev cX0_feed : ByteArray := method_10_code
def yX0_feed : MethodName := ⟨RX0, "feed", "(LSilkRow;II[J)I"⟩
def dkwX0_feed_1 : List UInt8 := [172, 3, 172]
abbrev dktX0_feed_1 : List UInt8 := dkwX0_feed_1 ++ []
def dkwX0_feed_0 : List UInt8 := [45, 3, 42, 27, 28, 182, 0, 41, 133, 80, 167, 0, 15, 58, 4, 4, 172, 58, 4, 5, 172, 58, 4, 6]
abbrev dktX0_feed_0 : List UInt8 := dkwX0_feed_0 ++ dktX0_feed_1
theorem dksX0_feed_0 : cX0_feed.data.toList.drop 0 = dktX0_feed_0 := by decide +kernel
theorem dksX0_feed_1 : cX0_feed.data.toList.drop 24 = dktX0_feed_1 := dk_seg dksX0_feed_0 24 rfl rfl
theorem dX0_feed_0 : decode cX0_feed 0 = .ok (.aload_n 3, 1) := dk_45 (dk_at dksX0_feed_0 0 rfl rfl)
theorem dX0_feed_1 : decode cX0_feed 1 = .ok (.iconst 0, 1) := dk_3 (dk_at dksX0_feed_0 1 rfl rfl)
theorem dX0_feed_2 : decode cX0_feed 2 = .ok (.aload_n 0, 1) := dk_42 (dk_at dksX0_feed_0 2 rfl rfl)
theorem dX0_feed_3 : decode cX0_feed 3 = .ok (.iload_n 1, 1) := dk_27 (dk_at dksX0_feed_0 3 rfl rfl)
theorem dX0_feed_4 : decode cX0_feed 4 = .ok (.iload_n 2, 1) := dk_28 (dk_at dksX0_feed_0 4 rfl rfl)
theorem dX0_feed_5 : decode cX0_feed 5 = .ok (.invokevirtual 41, 3) := dk_182 0 41 (dk_at dksX0_feed_0 5 rfl rfl)
theorem dX0_feed_8 : decode cX0_feed 8 = .ok (.i2l, 1) := dk_133 (dk_at dksX0_feed_0 8 rfl rfl)
theorem dX0_feed_9 : decode cX0_feed 9 = .ok (.lastore, 1) := dk_80 (dk_at dksX0_feed_0 9 rfl rfl)
theorem dX0_feed_10 : decode cX0_feed 10 = .ok (.goto 15, 3) := dk_167 0 15 (dk_at dksX0_feed_0 10 rfl rfl)
theorem dX0_feed_13 : decode cX0_feed 13 = .ok (.astore 4, 2) := dk_58 4 (dk_at dksX0_feed_0 13 rfl rfl)
theorem dX0_feed_15 : decode cX0_feed 15 = .ok (.iconst 1, 1) := dk_4 (dk_at dksX0_feed_0 15 rfl rfl)
theorem dX0_feed_16 : decode cX0_feed 16 = .ok (.ireturn, 1) := dk_172 (dk_at dksX0_feed_0 16 rfl rfl)
theorem dX0_feed_17 : decode cX0_feed 17 = .ok (.astore 4, 2) := dk_58 4 (dk_at dksX0_feed_0 17 rfl rfl)
theorem dX0_feed_19 : decode cX0_feed 19 = .ok (.iconst 2, 1) := dk_5 (dk_at dksX0_feed_0 19 rfl rfl)
theorem dX0_feed_20 : decode cX0_feed 20 = .ok (.ireturn, 1) := dk_172 (dk_at dksX0_feed_0 20 rfl rfl)
theorem dX0_feed_21 : decode cX0_feed 21 = .ok (.astore 4, 2) := dk_58 4 (dk_at dksX0_feed_0 21 rfl rfl)
theorem dX0_feed_23 : decode cX0_feed 23 = .ok (.iconst 3, 1) := dk_6 (dk_at dksX0_feed_0 23 rfl rfl)
theorem dX0_feed_24 : decode cX0_feed 24 = .ok (.ireturn, 1) := dk_172 (dk_at dksX0_feed_1 0 rfl rfl)
theorem dX0_feed_25 : decode cX0_feed 25 = .ok (.iconst 0, 1) := dk_3 (dk_at dksX0_feed_1 1 rfl rfl)
theorem dX0_feed_26 : decode cX0_feed 26 = .ok (.ireturn, 1) := dk_172 (dk_at dksX0_feed_1 2 rfl rfl)
abbrev cX0_clean : ByteArray := method_11_code
def yX0_clean : MethodName := ⟨RX0, "clean", "(LSilkRow;I[J)I"⟩
def dkwX0_clean_0 : List UInt8 := [44, 3, 42, 27, 182, 0, 44, 133, 80, 167, 0, 9, 78, 4, 172, 78, 5, 172, 3, 172]
abbrev dktX0_clean_0 : List UInt8 := dkwX0_clean_0 ++ []
theorem dksX0_clean_0 : cX0_clean.data.toList.drop 0 = dktX0_clean_0 := by decide +kernel
theorem dX0_clean_0 : decode cX0_clean 0 = .ok (.aload_n 2, 1) := dk_44 (dk_at dksX0_clean_0 0 rfl rfl)
theorem dX0_clean_1 : decode cX0_clean 1 = .ok (.iconst 0, 1) := dk_3 (dk_at dksX0_clean_0 1 rfl rfl)
theorem dX0_clean_2 : decode cX0_clean 2 = .ok (.aload_n 0, 1) := dk_42 (dk_at dksX0_clean_0 2 rfl rfl)
theorem dX0_clean_3 : decode cX0_clean 3 = .ok (.iload_n 1, 1) := dk_27 (dk_at dksX0_clean_0 3 rfl rfl)
theorem dX0_clean_4 : decode cX0_clean 4 = .ok (.invokevirtual 44, 3) := dk_182 0 44 (dk_at dksX0_clean_0 4 rfl rfl)
theorem dX0_clean_7 : decode cX0_clean 7 = .ok (.i2l, 1) := dk_133 (dk_at dksX0_clean_0 7 rfl rfl)
theorem dX0_clean_8 : decode cX0_clean 8 = .ok (.lastore, 1) := dk_80 (dk_at dksX0_clean_0 8 rfl rfl)
theorem dX0_clean_9 : decode cX0_clean 9 = .ok (.goto 9, 3) := dk_167 0 9 (dk_at dksX0_clean_0 9 rfl rfl)
theorem dX0_clean_12 : decode cX0_clean 12 = .ok (.astore_n 3, 1) := dk_78 (dk_at dksX0_clean_0 12 rfl rfl)
theorem dX0_clean_13 : decode cX0_clean 13 = .ok (.iconst 1, 1) := dk_4 (dk_at dksX0_clean_0 13 rfl rfl)
theorem dX0_clean_14 : decode cX0_clean 14 = .ok (.ireturn, 1) := dk_172 (dk_at dksX0_clean_0 14 rfl rfl)
theorem dX0_clean_15 : decode cX0_clean 15 = .ok (.astore_n 3, 1) := dk_78 (dk_at dksX0_clean_0 15 rfl rfl)
theorem dX0_clean_16 : decode cX0_clean 16 = .ok (.iconst 2, 1) := dk_5 (dk_at dksX0_clean_0 16 rfl rfl)
theorem dX0_clean_17 : decode cX0_clean 17 = .ok (.ireturn, 1) := dk_172 (dk_at dksX0_clean_0 17 rfl rfl)
theorem dX0_clean_18 : decode cX0_clean 18 = .ok (.iconst 0, 1) := dk_3 (dk_at dksX0_clean_0 18 rfl rfl)
theorem dX0_clean_19 : decode cX0_clean 19 = .ok (.ireturn, 1) := dk_172 (dk_at dksX0_clean_0 19 rfl rfl)
abbrev cX0_part : ByteArray := method_12_code
def yX0_part : MethodName := ⟨RX0, "part", "(LSilkRow;III[J)I"⟩
def dkwX0_part_1 : List UInt8 := [58, 5, 6, 172, 3, 172]
abbrev dktX0_part_1 : List UInt8 := dkwX0_part_1 ++ []
def dkwX0_part_0 : List UInt8 := [25, 4, 3, 42, 27, 28, 29, 182, 0, 47, 133, 80, 167, 0, 15, 58, 5, 4, 172, 58, 5, 5, 172]
abbrev dktX0_part_0 : List UInt8 := dkwX0_part_0 ++ dktX0_part_1
theorem dksX0_part_0 : cX0_part.data.toList.drop 0 = dktX0_part_0 := by decide +kernel
theorem dksX0_part_1 : cX0_part.data.toList.drop 23 = dktX0_part_1 := dk_seg dksX0_part_0 23 rfl rfl
theorem dX0_part_0 : decode cX0_part 0 = .ok (.aload 4, 2) := dk_25 4 (dk_at dksX0_part_0 0 rfl rfl)
theorem dX0_part_2 : decode cX0_part 2 = .ok (.iconst 0, 1) := dk_3 (dk_at dksX0_part_0 2 rfl rfl)
theorem dX0_part_3 : decode cX0_part 3 = .ok (.aload_n 0, 1) := dk_42 (dk_at dksX0_part_0 3 rfl rfl)
theorem dX0_part_4 : decode cX0_part 4 = .ok (.iload_n 1, 1) := dk_27 (dk_at dksX0_part_0 4 rfl rfl)
theorem dX0_part_5 : decode cX0_part 5 = .ok (.iload_n 2, 1) := dk_28 (dk_at dksX0_part_0 5 rfl rfl)
theorem dX0_part_6 : decode cX0_part 6 = .ok (.iload_n 3, 1) := dk_29 (dk_at dksX0_part_0 6 rfl rfl)
theorem dX0_part_7 : decode cX0_part 7 = .ok (.invokevirtual 47, 3) := dk_182 0 47 (dk_at dksX0_part_0 7 rfl rfl)
theorem dX0_part_10 : decode cX0_part 10 = .ok (.i2l, 1) := dk_133 (dk_at dksX0_part_0 10 rfl rfl)
theorem dX0_part_11 : decode cX0_part 11 = .ok (.lastore, 1) := dk_80 (dk_at dksX0_part_0 11 rfl rfl)
theorem dX0_part_12 : decode cX0_part 12 = .ok (.goto 15, 3) := dk_167 0 15 (dk_at dksX0_part_0 12 rfl rfl)
theorem dX0_part_15 : decode cX0_part 15 = .ok (.astore 5, 2) := dk_58 5 (dk_at dksX0_part_0 15 rfl rfl)
theorem dX0_part_17 : decode cX0_part 17 = .ok (.iconst 1, 1) := dk_4 (dk_at dksX0_part_0 17 rfl rfl)
theorem dX0_part_18 : decode cX0_part 18 = .ok (.ireturn, 1) := dk_172 (dk_at dksX0_part_0 18 rfl rfl)
theorem dX0_part_19 : decode cX0_part 19 = .ok (.astore 5, 2) := dk_58 5 (dk_at dksX0_part_0 19 rfl rfl)
theorem dX0_part_21 : decode cX0_part 21 = .ok (.iconst 2, 1) := dk_5 (dk_at dksX0_part_0 21 rfl rfl)
theorem dX0_part_22 : decode cX0_part 22 = .ok (.ireturn, 1) := dk_172 (dk_at dksX0_part_0 22 rfl rfl)
theorem dX0_part_23 : decode cX0_part 23 = .ok (.astore 5, 2) := dk_58 5 (dk_at dksX0_part_1 0 rfl rfl)
theorem dX0_part_25 : decode cX0_part 25 = .ok (.iconst 3, 1) := dk_6 (dk_at dksX0_part_1 2 rfl rfl)
theorem dX0_part_26 : decode cX0_part 26 = .ok (.ireturn, 1) := dk_172 (dk_at dksX0_part_1 3 rfl rfl)
theorem dX0_part_27 : decode cX0_part 27 = .ok (.iconst 0, 1) := dk_3 (dk_at dksX0_part_1 4 rfl rfl)
theorem dX0_part_28 : decode cX0_part 28 = .ok (.ireturn, 1) := dk_172 (dk_at dksX0_part_1 5 rfl rfl)
abbrev cX0_mount : ByteArray := method_13_code
def yX0_mount : MethodName := ⟨RX0, "mount", "(LSilkRow;I[J)I"⟩
def dkwX0_mount_0 : List UInt8 := [44, 3, 42, 27, 182, 0, 50, 133, 80, 167, 0, 9, 78, 4, 172, 78, 5, 172, 3, 172]
abbrev dktX0_mount_0 : List UInt8 := dkwX0_mount_0 ++ []
theorem dksX0_mount_0 : cX0_mount.data.toList.drop 0 = dktX0_mount_0 := by decide +kernel
theorem dX0_mount_0 : decode cX0_mount 0 = .ok (.aload_n 2, 1) := dk_44 (dk_at dksX0_mount_0 0 rfl rfl)
theorem dX0_mount_1 : decode cX0_mount 1 = .ok (.iconst 0, 1) := dk_3 (dk_at dksX0_mount_0 1 rfl rfl)
theorem dX0_mount_2 : decode cX0_mount 2 = .ok (.aload_n 0, 1) := dk_42 (dk_at dksX0_mount_0 2 rfl rfl)
theorem dX0_mount_3 : decode cX0_mount 3 = .ok (.iload_n 1, 1) := dk_27 (dk_at dksX0_mount_0 3 rfl rfl)
theorem dX0_mount_4 : decode cX0_mount 4 = .ok (.invokevirtual 50, 3) := dk_182 0 50 (dk_at dksX0_mount_0 4 rfl rfl)
theorem dX0_mount_7 : decode cX0_mount 7 = .ok (.i2l, 1) := dk_133 (dk_at dksX0_mount_0 7 rfl rfl)
theorem dX0_mount_8 : decode cX0_mount 8 = .ok (.lastore, 1) := dk_80 (dk_at dksX0_mount_0 8 rfl rfl)
theorem dX0_mount_9 : decode cX0_mount 9 = .ok (.goto 9, 3) := dk_167 0 9 (dk_at dksX0_mount_0 9 rfl rfl)
theorem dX0_mount_12 : decode cX0_mount 12 = .ok (.astore_n 3, 1) := dk_78 (dk_at dksX0_mount_0 12 rfl rfl)
theorem dX0_mount_13 : decode cX0_mount 13 = .ok (.iconst 1, 1) := dk_4 (dk_at dksX0_mount_0 13 rfl rfl)
theorem dX0_mount_14 : decode cX0_mount 14 = .ok (.ireturn, 1) := dk_172 (dk_at dksX0_mount_0 14 rfl rfl)
theorem dX0_mount_15 : decode cX0_mount 15 = .ok (.astore_n 3, 1) := dk_78 (dk_at dksX0_mount_0 15 rfl rfl)
theorem dX0_mount_16 : decode cX0_mount 16 = .ok (.iconst 2, 1) := dk_5 (dk_at dksX0_mount_0 16 rfl rfl)
theorem dX0_mount_17 : decode cX0_mount 17 = .ok (.ireturn, 1) := dk_172 (dk_at dksX0_mount_0 17 rfl rfl)
theorem dX0_mount_18 : decode cX0_mount 18 = .ok (.iconst 0, 1) := dk_3 (dk_at dksX0_mount_0 18 rfl rfl)
theorem dX0_mount_19 : decode cX0_mount 19 = .ok (.ireturn, 1) := dk_172 (dk_at dksX0_mount_0 19 rfl rfl)
abbrev cX0_stifle : ByteArray := method_14_code
def yX0_stifle : MethodName := ⟨RX0, "stifle", "(LSilkRow;I[J)I"⟩
def dkwX0_stifle_0 : List UInt8 := [44, 3, 42, 27, 182, 0, 53, 133, 80, 167, 0, 9, 78, 4, 172, 78, 5, 172, 3, 172]
abbrev dktX0_stifle_0 : List UInt8 := dkwX0_stifle_0 ++ []
theorem dksX0_stifle_0 : cX0_stifle.data.toList.drop 0 = dktX0_stifle_0 := by decide +kernel
theorem dX0_stifle_0 : decode cX0_stifle 0 = .ok (.aload_n 2, 1) := dk_44 (dk_at dksX0_stifle_0 0 rfl rfl)
theorem dX0_stifle_1 : decode cX0_stifle 1 = .ok (.iconst 0, 1) := dk_3 (dk_at dksX0_stifle_0 1 rfl rfl)
theorem dX0_stifle_2 : decode cX0_stifle 2 = .ok (.aload_n 0, 1) := dk_42 (dk_at dksX0_stifle_0 2 rfl rfl)
theorem dX0_stifle_3 : decode cX0_stifle 3 = .ok (.iload_n 1, 1) := dk_27 (dk_at dksX0_stifle_0 3 rfl rfl)
theorem dX0_stifle_4 : decode cX0_stifle 4 = .ok (.invokevirtual 53, 3) := dk_182 0 53 (dk_at dksX0_stifle_0 4 rfl rfl)
theorem dX0_stifle_7 : decode cX0_stifle 7 = .ok (.i2l, 1) := dk_133 (dk_at dksX0_stifle_0 7 rfl rfl)
theorem dX0_stifle_8 : decode cX0_stifle 8 = .ok (.lastore, 1) := dk_80 (dk_at dksX0_stifle_0 8 rfl rfl)
theorem dX0_stifle_9 : decode cX0_stifle 9 = .ok (.goto 9, 3) := dk_167 0 9 (dk_at dksX0_stifle_0 9 rfl rfl)
theorem dX0_stifle_12 : decode cX0_stifle 12 = .ok (.astore_n 3, 1) := dk_78 (dk_at dksX0_stifle_0 12 rfl rfl)
theorem dX0_stifle_13 : decode cX0_stifle 13 = .ok (.iconst 1, 1) := dk_4 (dk_at dksX0_stifle_0 13 rfl rfl)
theorem dX0_stifle_14 : decode cX0_stifle 14 = .ok (.ireturn, 1) := dk_172 (dk_at dksX0_stifle_0 14 rfl rfl)
theorem dX0_stifle_15 : decode cX0_stifle 15 = .ok (.astore_n 3, 1) := dk_78 (dk_at dksX0_stifle_0 15 rfl rfl)
theorem dX0_stifle_16 : decode cX0_stifle 16 = .ok (.iconst 2, 1) := dk_5 (dk_at dksX0_stifle_0 16 rfl rfl)
theorem dX0_stifle_17 : decode cX0_stifle 17 = .ok (.ireturn, 1) := dk_172 (dk_at dksX0_stifle_0 17 rfl rfl)
theorem dX0_stifle_18 : decode cX0_stifle 18 = .ok (.iconst 0, 1) := dk_3 (dk_at dksX0_stifle_0 18 rfl rfl)
theorem dX0_stifle_19 : decode cX0_stifle 19 = .ok (.ireturn, 1) := dk_172 (dk_at dksX0_stifle_0 19 rfl rfl)
abbrev cX0_eggs : ByteArray := method_15_code
def yX0_eggs : MethodName := ⟨RX0, "eggs", "(LSilkRow;IIZ[J)I"⟩
def dkwX0_eggs_1 : List UInt8 := [172]
abbrev dktX0_eggs_1 : List UInt8 := dkwX0_eggs_1 ++ []
def dkwX0_eggs_0 : List UInt8 := [25, 4, 3, 42, 27, 28, 29, 182, 0, 56, 133, 80, 167, 0, 11, 58, 5, 4, 172, 58, 5, 5, 172, 3]
abbrev dktX0_eggs_0 : List UInt8 := dkwX0_eggs_0 ++ dktX0_eggs_1
theorem dksX0_eggs_0 : cX0_eggs.data.toList.drop 0 = dktX0_eggs_0 := by decide +kernel
theorem dksX0_eggs_1 : cX0_eggs.data.toList.drop 24 = dktX0_eggs_1 := dk_seg dksX0_eggs_0 24 rfl rfl
theorem dX0_eggs_0 : decode cX0_eggs 0 = .ok (.aload 4, 2) := dk_25 4 (dk_at dksX0_eggs_0 0 rfl rfl)
theorem dX0_eggs_2 : decode cX0_eggs 2 = .ok (.iconst 0, 1) := dk_3 (dk_at dksX0_eggs_0 2 rfl rfl)
theorem dX0_eggs_3 : decode cX0_eggs 3 = .ok (.aload_n 0, 1) := dk_42 (dk_at dksX0_eggs_0 3 rfl rfl)
theorem dX0_eggs_4 : decode cX0_eggs 4 = .ok (.iload_n 1, 1) := dk_27 (dk_at dksX0_eggs_0 4 rfl rfl)
theorem dX0_eggs_5 : decode cX0_eggs 5 = .ok (.iload_n 2, 1) := dk_28 (dk_at dksX0_eggs_0 5 rfl rfl)
theorem dX0_eggs_6 : decode cX0_eggs 6 = .ok (.iload_n 3, 1) := dk_29 (dk_at dksX0_eggs_0 6 rfl rfl)
theorem dX0_eggs_7 : decode cX0_eggs 7 = .ok (.invokevirtual 56, 3) := dk_182 0 56 (dk_at dksX0_eggs_0 7 rfl rfl)
theorem dX0_eggs_10 : decode cX0_eggs 10 = .ok (.i2l, 1) := dk_133 (dk_at dksX0_eggs_0 10 rfl rfl)
theorem dX0_eggs_11 : decode cX0_eggs 11 = .ok (.lastore, 1) := dk_80 (dk_at dksX0_eggs_0 11 rfl rfl)
theorem dX0_eggs_12 : decode cX0_eggs 12 = .ok (.goto 11, 3) := dk_167 0 11 (dk_at dksX0_eggs_0 12 rfl rfl)
theorem dX0_eggs_15 : decode cX0_eggs 15 = .ok (.astore 5, 2) := dk_58 5 (dk_at dksX0_eggs_0 15 rfl rfl)
theorem dX0_eggs_17 : decode cX0_eggs 17 = .ok (.iconst 1, 1) := dk_4 (dk_at dksX0_eggs_0 17 rfl rfl)
theorem dX0_eggs_18 : decode cX0_eggs 18 = .ok (.ireturn, 1) := dk_172 (dk_at dksX0_eggs_0 18 rfl rfl)
theorem dX0_eggs_19 : decode cX0_eggs 19 = .ok (.astore 5, 2) := dk_58 5 (dk_at dksX0_eggs_0 19 rfl rfl)
theorem dX0_eggs_21 : decode cX0_eggs 21 = .ok (.iconst 2, 1) := dk_5 (dk_at dksX0_eggs_0 21 rfl rfl)
theorem dX0_eggs_22 : decode cX0_eggs 22 = .ok (.ireturn, 1) := dk_172 (dk_at dksX0_eggs_0 22 rfl rfl)
theorem dX0_eggs_23 : decode cX0_eggs 23 = .ok (.iconst 0, 1) := dk_3 (dk_at dksX0_eggs_0 23 rfl rfl)
theorem dX0_eggs_24 : decode cX0_eggs 24 = .ok (.ireturn, 1) := dk_172 (dk_at dksX0_eggs_1 0 rfl rfl)
abbrev cX0_reel : ByteArray := method_16_code
def yX0_reel : MethodName := ⟨RX0, "reel", "(LSilkRow;IIII[J)I"⟩
def dkwX0_reel_1 : List UInt8 := [172, 58, 6, 6, 172, 3, 172]
abbrev dktX0_reel_1 : List UInt8 := dkwX0_reel_1 ++ []
def dkwX0_reel_0 : List UInt8 := [25, 5, 3, 42, 27, 28, 29, 21, 4, 182, 0, 60, 133, 80, 167, 0, 15, 58, 6, 4, 172, 58, 6, 5]
abbrev dktX0_reel_0 : List UInt8 := dkwX0_reel_0 ++ dktX0_reel_1
theorem dksX0_reel_0 : cX0_reel.data.toList.drop 0 = dktX0_reel_0 := by decide +kernel
theorem dksX0_reel_1 : cX0_reel.data.toList.drop 24 = dktX0_reel_1 := dk_seg dksX0_reel_0 24 rfl rfl
theorem dX0_reel_0 : decode cX0_reel 0 = .ok (.aload 5, 2) := dk_25 5 (dk_at dksX0_reel_0 0 rfl rfl)
theorem dX0_reel_2 : decode cX0_reel 2 = .ok (.iconst 0, 1) := dk_3 (dk_at dksX0_reel_0 2 rfl rfl)
theorem dX0_reel_3 : decode cX0_reel 3 = .ok (.aload_n 0, 1) := dk_42 (dk_at dksX0_reel_0 3 rfl rfl)
theorem dX0_reel_4 : decode cX0_reel 4 = .ok (.iload_n 1, 1) := dk_27 (dk_at dksX0_reel_0 4 rfl rfl)
theorem dX0_reel_5 : decode cX0_reel 5 = .ok (.iload_n 2, 1) := dk_28 (dk_at dksX0_reel_0 5 rfl rfl)
theorem dX0_reel_6 : decode cX0_reel 6 = .ok (.iload_n 3, 1) := dk_29 (dk_at dksX0_reel_0 6 rfl rfl)
theorem dX0_reel_7 : decode cX0_reel 7 = .ok (.iload 4, 2) := dk_21 4 (dk_at dksX0_reel_0 7 rfl rfl)
theorem dX0_reel_9 : decode cX0_reel 9 = .ok (.invokevirtual 60, 3) := dk_182 0 60 (dk_at dksX0_reel_0 9 rfl rfl)
theorem dX0_reel_12 : decode cX0_reel 12 = .ok (.i2l, 1) := dk_133 (dk_at dksX0_reel_0 12 rfl rfl)
theorem dX0_reel_13 : decode cX0_reel 13 = .ok (.lastore, 1) := dk_80 (dk_at dksX0_reel_0 13 rfl rfl)
theorem dX0_reel_14 : decode cX0_reel 14 = .ok (.goto 15, 3) := dk_167 0 15 (dk_at dksX0_reel_0 14 rfl rfl)
theorem dX0_reel_17 : decode cX0_reel 17 = .ok (.astore 6, 2) := dk_58 6 (dk_at dksX0_reel_0 17 rfl rfl)
theorem dX0_reel_19 : decode cX0_reel 19 = .ok (.iconst 1, 1) := dk_4 (dk_at dksX0_reel_0 19 rfl rfl)
theorem dX0_reel_20 : decode cX0_reel 20 = .ok (.ireturn, 1) := dk_172 (dk_at dksX0_reel_0 20 rfl rfl)
theorem dX0_reel_21 : decode cX0_reel 21 = .ok (.astore 6, 2) := dk_58 6 (dk_at dksX0_reel_0 21 rfl rfl)
theorem dX0_reel_23 : decode cX0_reel 23 = .ok (.iconst 2, 1) := dk_5 (dk_at dksX0_reel_0 23 rfl rfl)
theorem dX0_reel_24 : decode cX0_reel 24 = .ok (.ireturn, 1) := dk_172 (dk_at dksX0_reel_1 0 rfl rfl)
theorem dX0_reel_25 : decode cX0_reel 25 = .ok (.astore 6, 2) := dk_58 6 (dk_at dksX0_reel_1 1 rfl rfl)
theorem dX0_reel_27 : decode cX0_reel 27 = .ok (.iconst 3, 1) := dk_6 (dk_at dksX0_reel_1 3 rfl rfl)
theorem dX0_reel_28 : decode cX0_reel 28 = .ok (.ireturn, 1) := dk_172 (dk_at dksX0_reel_1 4 rfl rfl)
theorem dX0_reel_29 : decode cX0_reel 29 = .ok (.iconst 0, 1) := dk_3 (dk_at dksX0_reel_1 5 rfl rfl)
theorem dX0_reel_30 : decode cX0_reel 30 = .ok (.ireturn, 1) := dk_172 (dk_at dksX0_reel_1 6 rfl rfl)
abbrev cX0_sell : ByteArray := method_17_code
def yX0_sell : MethodName := ⟨RX0, "sell", "(LSilkRow;I[J)I"⟩
def dkwX0_sell_0 : List UInt8 := [44, 3, 42, 27, 182, 0, 63, 133, 80, 167, 0, 9, 78, 4, 172, 78, 5, 172, 3, 172]
abbrev dktX0_sell_0 : List UInt8 := dkwX0_sell_0 ++ []
theorem dksX0_sell_0 : cX0_sell.data.toList.drop 0 = dktX0_sell_0 := by decide +kernel
theorem dX0_sell_0 : decode cX0_sell 0 = .ok (.aload_n 2, 1) := dk_44 (dk_at dksX0_sell_0 0 rfl rfl)
theorem dX0_sell_1 : decode cX0_sell 1 = .ok (.iconst 0, 1) := dk_3 (dk_at dksX0_sell_0 1 rfl rfl)
theorem dX0_sell_2 : decode cX0_sell 2 = .ok (.aload_n 0, 1) := dk_42 (dk_at dksX0_sell_0 2 rfl rfl)
theorem dX0_sell_3 : decode cX0_sell 3 = .ok (.iload_n 1, 1) := dk_27 (dk_at dksX0_sell_0 3 rfl rfl)
theorem dX0_sell_4 : decode cX0_sell 4 = .ok (.invokevirtual 63, 3) := dk_182 0 63 (dk_at dksX0_sell_0 4 rfl rfl)
theorem dX0_sell_7 : decode cX0_sell 7 = .ok (.i2l, 1) := dk_133 (dk_at dksX0_sell_0 7 rfl rfl)
theorem dX0_sell_8 : decode cX0_sell 8 = .ok (.lastore, 1) := dk_80 (dk_at dksX0_sell_0 8 rfl rfl)
theorem dX0_sell_9 : decode cX0_sell 9 = .ok (.goto 9, 3) := dk_167 0 9 (dk_at dksX0_sell_0 9 rfl rfl)
theorem dX0_sell_12 : decode cX0_sell 12 = .ok (.astore_n 3, 1) := dk_78 (dk_at dksX0_sell_0 12 rfl rfl)
theorem dX0_sell_13 : decode cX0_sell 13 = .ok (.iconst 1, 1) := dk_4 (dk_at dksX0_sell_0 13 rfl rfl)
theorem dX0_sell_14 : decode cX0_sell 14 = .ok (.ireturn, 1) := dk_172 (dk_at dksX0_sell_0 14 rfl rfl)
theorem dX0_sell_15 : decode cX0_sell 15 = .ok (.astore_n 3, 1) := dk_78 (dk_at dksX0_sell_0 15 rfl rfl)
theorem dX0_sell_16 : decode cX0_sell 16 = .ok (.iconst 2, 1) := dk_5 (dk_at dksX0_sell_0 16 rfl rfl)
theorem dX0_sell_17 : decode cX0_sell 17 = .ok (.ireturn, 1) := dk_172 (dk_at dksX0_sell_0 17 rfl rfl)
theorem dX0_sell_18 : decode cX0_sell 18 = .ok (.iconst 0, 1) := dk_3 (dk_at dksX0_sell_0 18 rfl rfl)
theorem dX0_sell_19 : decode cX0_sell 19 = .ok (.ireturn, 1) := dk_172 (dk_at dksX0_sell_0 19 rfl rfl)
abbrev cX0_borrow : ByteArray := method_18_code
def yX0_borrow : MethodName := ⟨RX0, "borrow", "(LSilkRow;I[J)I"⟩
def dkwX0_borrow_0 : List UInt8 := [44, 3, 42, 27, 182, 0, 66, 133, 80, 167, 0, 9, 78, 4, 172, 78, 5, 172, 3, 172]
abbrev dktX0_borrow_0 : List UInt8 := dkwX0_borrow_0 ++ []
theorem dksX0_borrow_0 : cX0_borrow.data.toList.drop 0 = dktX0_borrow_0 := by decide +kernel
theorem dX0_borrow_0 : decode cX0_borrow 0 = .ok (.aload_n 2, 1) := dk_44 (dk_at dksX0_borrow_0 0 rfl rfl)
theorem dX0_borrow_1 : decode cX0_borrow 1 = .ok (.iconst 0, 1) := dk_3 (dk_at dksX0_borrow_0 1 rfl rfl)
theorem dX0_borrow_2 : decode cX0_borrow 2 = .ok (.aload_n 0, 1) := dk_42 (dk_at dksX0_borrow_0 2 rfl rfl)
theorem dX0_borrow_3 : decode cX0_borrow 3 = .ok (.iload_n 1, 1) := dk_27 (dk_at dksX0_borrow_0 3 rfl rfl)
theorem dX0_borrow_4 : decode cX0_borrow 4 = .ok (.invokevirtual 66, 3) := dk_182 0 66 (dk_at dksX0_borrow_0 4 rfl rfl)
theorem dX0_borrow_7 : decode cX0_borrow 7 = .ok (.i2l, 1) := dk_133 (dk_at dksX0_borrow_0 7 rfl rfl)
theorem dX0_borrow_8 : decode cX0_borrow 8 = .ok (.lastore, 1) := dk_80 (dk_at dksX0_borrow_0 8 rfl rfl)
theorem dX0_borrow_9 : decode cX0_borrow 9 = .ok (.goto 9, 3) := dk_167 0 9 (dk_at dksX0_borrow_0 9 rfl rfl)
theorem dX0_borrow_12 : decode cX0_borrow 12 = .ok (.astore_n 3, 1) := dk_78 (dk_at dksX0_borrow_0 12 rfl rfl)
theorem dX0_borrow_13 : decode cX0_borrow 13 = .ok (.iconst 1, 1) := dk_4 (dk_at dksX0_borrow_0 13 rfl rfl)
theorem dX0_borrow_14 : decode cX0_borrow 14 = .ok (.ireturn, 1) := dk_172 (dk_at dksX0_borrow_0 14 rfl rfl)
theorem dX0_borrow_15 : decode cX0_borrow 15 = .ok (.astore_n 3, 1) := dk_78 (dk_at dksX0_borrow_0 15 rfl rfl)
theorem dX0_borrow_16 : decode cX0_borrow 16 = .ok (.iconst 2, 1) := dk_5 (dk_at dksX0_borrow_0 16 rfl rfl)
theorem dX0_borrow_17 : decode cX0_borrow 17 = .ok (.ireturn, 1) := dk_172 (dk_at dksX0_borrow_0 17 rfl rfl)
theorem dX0_borrow_18 : decode cX0_borrow 18 = .ok (.iconst 0, 1) := dk_3 (dk_at dksX0_borrow_0 18 rfl rfl)
theorem dX0_borrow_19 : decode cX0_borrow 19 = .ok (.ireturn, 1) := dk_172 (dk_at dksX0_borrow_0 19 rfl rfl)
abbrev cX0_pay : ByteArray := method_19_code
def yX0_pay : MethodName := ⟨RX0, "pay", "(LSilkRow;I[J)I"⟩
def dkwX0_pay_0 : List UInt8 := [44, 3, 42, 27, 182, 0, 69, 133, 80, 167, 0, 6, 78, 4, 172, 3, 172]
abbrev dktX0_pay_0 : List UInt8 := dkwX0_pay_0 ++ []
theorem dksX0_pay_0 : cX0_pay.data.toList.drop 0 = dktX0_pay_0 := by decide +kernel
theorem dX0_pay_0 : decode cX0_pay 0 = .ok (.aload_n 2, 1) := dk_44 (dk_at dksX0_pay_0 0 rfl rfl)
theorem dX0_pay_1 : decode cX0_pay 1 = .ok (.iconst 0, 1) := dk_3 (dk_at dksX0_pay_0 1 rfl rfl)
theorem dX0_pay_2 : decode cX0_pay 2 = .ok (.aload_n 0, 1) := dk_42 (dk_at dksX0_pay_0 2 rfl rfl)
theorem dX0_pay_3 : decode cX0_pay 3 = .ok (.iload_n 1, 1) := dk_27 (dk_at dksX0_pay_0 3 rfl rfl)
theorem dX0_pay_4 : decode cX0_pay 4 = .ok (.invokevirtual 69, 3) := dk_182 0 69 (dk_at dksX0_pay_0 4 rfl rfl)
theorem dX0_pay_7 : decode cX0_pay 7 = .ok (.i2l, 1) := dk_133 (dk_at dksX0_pay_0 7 rfl rfl)
theorem dX0_pay_8 : decode cX0_pay 8 = .ok (.lastore, 1) := dk_80 (dk_at dksX0_pay_0 8 rfl rfl)
theorem dX0_pay_9 : decode cX0_pay 9 = .ok (.goto 6, 3) := dk_167 0 6 (dk_at dksX0_pay_0 9 rfl rfl)
theorem dX0_pay_12 : decode cX0_pay 12 = .ok (.astore_n 3, 1) := dk_78 (dk_at dksX0_pay_0 12 rfl rfl)
theorem dX0_pay_13 : decode cX0_pay 13 = .ok (.iconst 1, 1) := dk_4 (dk_at dksX0_pay_0 13 rfl rfl)
theorem dX0_pay_14 : decode cX0_pay 14 = .ok (.ireturn, 1) := dk_172 (dk_at dksX0_pay_0 14 rfl rfl)
theorem dX0_pay_15 : decode cX0_pay 15 = .ok (.iconst 0, 1) := dk_3 (dk_at dksX0_pay_0 15 rfl rfl)
theorem dX0_pay_16 : decode cX0_pay 16 = .ok (.ireturn, 1) := dk_172 (dk_at dksX0_pay_0 16 rfl rfl)
abbrev cX0_ofPlot : ByteArray := method_20_code
def yX0_ofPlot : MethodName := ⟨RX0, "ofPlot", "(LSilkRow;II[J)I"⟩
def dkwX0_ofPlot_0 : List UInt8 := [45, 3, 42, 27, 28, 182, 0, 72, 133, 80, 167, 0, 11, 58, 4, 4, 172, 58, 4, 5, 172, 3, 172]
abbrev dktX0_ofPlot_0 : List UInt8 := dkwX0_ofPlot_0 ++ []
theorem dksX0_ofPlot_0 : cX0_ofPlot.data.toList.drop 0 = dktX0_ofPlot_0 := by decide +kernel
theorem dX0_ofPlot_0 : decode cX0_ofPlot 0 = .ok (.aload_n 3, 1) := dk_45 (dk_at dksX0_ofPlot_0 0 rfl rfl)
theorem dX0_ofPlot_1 : decode cX0_ofPlot 1 = .ok (.iconst 0, 1) := dk_3 (dk_at dksX0_ofPlot_0 1 rfl rfl)
theorem dX0_ofPlot_2 : decode cX0_ofPlot 2 = .ok (.aload_n 0, 1) := dk_42 (dk_at dksX0_ofPlot_0 2 rfl rfl)
theorem dX0_ofPlot_3 : decode cX0_ofPlot 3 = .ok (.iload_n 1, 1) := dk_27 (dk_at dksX0_ofPlot_0 3 rfl rfl)
theorem dX0_ofPlot_4 : decode cX0_ofPlot 4 = .ok (.iload_n 2, 1) := dk_28 (dk_at dksX0_ofPlot_0 4 rfl rfl)
theorem dX0_ofPlot_5 : decode cX0_ofPlot 5 = .ok (.invokevirtual 72, 3) := dk_182 0 72 (dk_at dksX0_ofPlot_0 5 rfl rfl)
theorem dX0_ofPlot_8 : decode cX0_ofPlot 8 = .ok (.i2l, 1) := dk_133 (dk_at dksX0_ofPlot_0 8 rfl rfl)
theorem dX0_ofPlot_9 : decode cX0_ofPlot 9 = .ok (.lastore, 1) := dk_80 (dk_at dksX0_ofPlot_0 9 rfl rfl)
theorem dX0_ofPlot_10 : decode cX0_ofPlot 10 = .ok (.goto 11, 3) := dk_167 0 11 (dk_at dksX0_ofPlot_0 10 rfl rfl)
theorem dX0_ofPlot_13 : decode cX0_ofPlot 13 = .ok (.astore 4, 2) := dk_58 4 (dk_at dksX0_ofPlot_0 13 rfl rfl)
theorem dX0_ofPlot_15 : decode cX0_ofPlot 15 = .ok (.iconst 1, 1) := dk_4 (dk_at dksX0_ofPlot_0 15 rfl rfl)
theorem dX0_ofPlot_16 : decode cX0_ofPlot 16 = .ok (.ireturn, 1) := dk_172 (dk_at dksX0_ofPlot_0 16 rfl rfl)
theorem dX0_ofPlot_17 : decode cX0_ofPlot 17 = .ok (.astore 4, 2) := dk_58 4 (dk_at dksX0_ofPlot_0 17 rfl rfl)
theorem dX0_ofPlot_19 : decode cX0_ofPlot 19 = .ok (.iconst 2, 1) := dk_5 (dk_at dksX0_ofPlot_0 19 rfl rfl)
theorem dX0_ofPlot_20 : decode cX0_ofPlot 20 = .ok (.ireturn, 1) := dk_172 (dk_at dksX0_ofPlot_0 20 rfl rfl)
theorem dX0_ofPlot_21 : decode cX0_ofPlot 21 = .ok (.iconst 0, 1) := dk_3 (dk_at dksX0_ofPlot_0 21 rfl rfl)
theorem dX0_ofPlot_22 : decode cX0_ofPlot 22 = .ok (.ireturn, 1) := dk_172 (dk_at dksX0_ofPlot_0 22 rfl rfl)
abbrev cX0_ofLine : ByteArray := method_21_code
def yX0_ofLine : MethodName := ⟨RX0, "ofLine", "(LSilkRow;II[J)I"⟩
def dkwX0_ofLine_0 : List UInt8 := [45, 3, 42, 27, 28, 182, 0, 75, 133, 80, 167, 0, 11, 58, 4, 4, 172, 58, 4, 5, 172, 3, 172]
abbrev dktX0_ofLine_0 : List UInt8 := dkwX0_ofLine_0 ++ []
theorem dksX0_ofLine_0 : cX0_ofLine.data.toList.drop 0 = dktX0_ofLine_0 := by decide +kernel
theorem dX0_ofLine_0 : decode cX0_ofLine 0 = .ok (.aload_n 3, 1) := dk_45 (dk_at dksX0_ofLine_0 0 rfl rfl)
theorem dX0_ofLine_1 : decode cX0_ofLine 1 = .ok (.iconst 0, 1) := dk_3 (dk_at dksX0_ofLine_0 1 rfl rfl)
theorem dX0_ofLine_2 : decode cX0_ofLine 2 = .ok (.aload_n 0, 1) := dk_42 (dk_at dksX0_ofLine_0 2 rfl rfl)
theorem dX0_ofLine_3 : decode cX0_ofLine 3 = .ok (.iload_n 1, 1) := dk_27 (dk_at dksX0_ofLine_0 3 rfl rfl)
theorem dX0_ofLine_4 : decode cX0_ofLine 4 = .ok (.iload_n 2, 1) := dk_28 (dk_at dksX0_ofLine_0 4 rfl rfl)
theorem dX0_ofLine_5 : decode cX0_ofLine 5 = .ok (.invokevirtual 75, 3) := dk_182 0 75 (dk_at dksX0_ofLine_0 5 rfl rfl)
theorem dX0_ofLine_8 : decode cX0_ofLine 8 = .ok (.i2l, 1) := dk_133 (dk_at dksX0_ofLine_0 8 rfl rfl)
theorem dX0_ofLine_9 : decode cX0_ofLine 9 = .ok (.lastore, 1) := dk_80 (dk_at dksX0_ofLine_0 9 rfl rfl)
theorem dX0_ofLine_10 : decode cX0_ofLine 10 = .ok (.goto 11, 3) := dk_167 0 11 (dk_at dksX0_ofLine_0 10 rfl rfl)
theorem dX0_ofLine_13 : decode cX0_ofLine 13 = .ok (.astore 4, 2) := dk_58 4 (dk_at dksX0_ofLine_0 13 rfl rfl)
theorem dX0_ofLine_15 : decode cX0_ofLine 15 = .ok (.iconst 1, 1) := dk_4 (dk_at dksX0_ofLine_0 15 rfl rfl)
theorem dX0_ofLine_16 : decode cX0_ofLine 16 = .ok (.ireturn, 1) := dk_172 (dk_at dksX0_ofLine_0 16 rfl rfl)
theorem dX0_ofLine_17 : decode cX0_ofLine 17 = .ok (.astore 4, 2) := dk_58 4 (dk_at dksX0_ofLine_0 17 rfl rfl)
theorem dX0_ofLine_19 : decode cX0_ofLine 19 = .ok (.iconst 2, 1) := dk_5 (dk_at dksX0_ofLine_0 19 rfl rfl)
theorem dX0_ofLine_20 : decode cX0_ofLine 20 = .ok (.ireturn, 1) := dk_172 (dk_at dksX0_ofLine_0 20 rfl rfl)
theorem dX0_ofLine_21 : decode cX0_ofLine 21 = .ok (.iconst 0, 1) := dk_3 (dk_at dksX0_ofLine_0 21 rfl rfl)
theorem dX0_ofLine_22 : decode cX0_ofLine 22 = .ok (.ireturn, 1) := dk_172 (dk_at dksX0_ofLine_0 22 rfl rfl)
abbrev cX0_ofTray : ByteArray := method_22_code
def yX0_ofTray : MethodName := ⟨RX0, "ofTray", "(LSilkRow;II[J)I"⟩
def dkwX0_ofTray_0 : List UInt8 := [45, 3, 42, 27, 28, 182, 0, 78, 133, 80, 167, 0, 11, 58, 4, 4, 172, 58, 4, 5, 172, 3, 172]
abbrev dktX0_ofTray_0 : List UInt8 := dkwX0_ofTray_0 ++ []
theorem dksX0_ofTray_0 : cX0_ofTray.data.toList.drop 0 = dktX0_ofTray_0 := by decide +kernel
theorem dX0_ofTray_0 : decode cX0_ofTray 0 = .ok (.aload_n 3, 1) := dk_45 (dk_at dksX0_ofTray_0 0 rfl rfl)
theorem dX0_ofTray_1 : decode cX0_ofTray 1 = .ok (.iconst 0, 1) := dk_3 (dk_at dksX0_ofTray_0 1 rfl rfl)
theorem dX0_ofTray_2 : decode cX0_ofTray 2 = .ok (.aload_n 0, 1) := dk_42 (dk_at dksX0_ofTray_0 2 rfl rfl)
theorem dX0_ofTray_3 : decode cX0_ofTray 3 = .ok (.iload_n 1, 1) := dk_27 (dk_at dksX0_ofTray_0 3 rfl rfl)
theorem dX0_ofTray_4 : decode cX0_ofTray 4 = .ok (.iload_n 2, 1) := dk_28 (dk_at dksX0_ofTray_0 4 rfl rfl)
theorem dX0_ofTray_5 : decode cX0_ofTray 5 = .ok (.invokevirtual 78, 3) := dk_182 0 78 (dk_at dksX0_ofTray_0 5 rfl rfl)
theorem dX0_ofTray_8 : decode cX0_ofTray 8 = .ok (.i2l, 1) := dk_133 (dk_at dksX0_ofTray_0 8 rfl rfl)
theorem dX0_ofTray_9 : decode cX0_ofTray 9 = .ok (.lastore, 1) := dk_80 (dk_at dksX0_ofTray_0 9 rfl rfl)
theorem dX0_ofTray_10 : decode cX0_ofTray 10 = .ok (.goto 11, 3) := dk_167 0 11 (dk_at dksX0_ofTray_0 10 rfl rfl)
theorem dX0_ofTray_13 : decode cX0_ofTray 13 = .ok (.astore 4, 2) := dk_58 4 (dk_at dksX0_ofTray_0 13 rfl rfl)
theorem dX0_ofTray_15 : decode cX0_ofTray 15 = .ok (.iconst 1, 1) := dk_4 (dk_at dksX0_ofTray_0 15 rfl rfl)
theorem dX0_ofTray_16 : decode cX0_ofTray 16 = .ok (.ireturn, 1) := dk_172 (dk_at dksX0_ofTray_0 16 rfl rfl)
theorem dX0_ofTray_17 : decode cX0_ofTray 17 = .ok (.astore 4, 2) := dk_58 4 (dk_at dksX0_ofTray_0 17 rfl rfl)
theorem dX0_ofTray_19 : decode cX0_ofTray 19 = .ok (.iconst 2, 1) := dk_5 (dk_at dksX0_ofTray_0 19 rfl rfl)
theorem dX0_ofTray_20 : decode cX0_ofTray 20 = .ok (.ireturn, 1) := dk_172 (dk_at dksX0_ofTray_0 20 rfl rfl)
theorem dX0_ofTray_21 : decode cX0_ofTray 21 = .ok (.iconst 0, 1) := dk_3 (dk_at dksX0_ofTray_0 21 rfl rfl)
theorem dX0_ofTray_22 : decode cX0_ofTray 22 = .ok (.ireturn, 1) := dk_172 (dk_at dksX0_ofTray_0 22 rfl rfl)
abbrev cX0_ofLot : ByteArray := method_23_code
def yX0_ofLot : MethodName := ⟨RX0, "ofLot", "(LSilkRow;II[J)I"⟩
def dkwX0_ofLot_0 : List UInt8 := [45, 3, 42, 27, 28, 182, 0, 81, 133, 80, 167, 0, 11, 58, 4, 4, 172, 58, 4, 5, 172, 3, 172]
abbrev dktX0_ofLot_0 : List UInt8 := dkwX0_ofLot_0 ++ []
theorem dksX0_ofLot_0 : cX0_ofLot.data.toList.drop 0 = dktX0_ofLot_0 := by decide +kernel
theorem dX0_ofLot_0 : decode cX0_ofLot 0 = .ok (.aload_n 3, 1) := dk_45 (dk_at dksX0_ofLot_0 0 rfl rfl)
theorem dX0_ofLot_1 : decode cX0_ofLot 1 = .ok (.iconst 0, 1) := dk_3 (dk_at dksX0_ofLot_0 1 rfl rfl)
theorem dX0_ofLot_2 : decode cX0_ofLot 2 = .ok (.aload_n 0, 1) := dk_42 (dk_at dksX0_ofLot_0 2 rfl rfl)
theorem dX0_ofLot_3 : decode cX0_ofLot 3 = .ok (.iload_n 1, 1) := dk_27 (dk_at dksX0_ofLot_0 3 rfl rfl)
theorem dX0_ofLot_4 : decode cX0_ofLot 4 = .ok (.iload_n 2, 1) := dk_28 (dk_at dksX0_ofLot_0 4 rfl rfl)
theorem dX0_ofLot_5 : decode cX0_ofLot 5 = .ok (.invokevirtual 81, 3) := dk_182 0 81 (dk_at dksX0_ofLot_0 5 rfl rfl)
theorem dX0_ofLot_8 : decode cX0_ofLot 8 = .ok (.i2l, 1) := dk_133 (dk_at dksX0_ofLot_0 8 rfl rfl)
theorem dX0_ofLot_9 : decode cX0_ofLot 9 = .ok (.lastore, 1) := dk_80 (dk_at dksX0_ofLot_0 9 rfl rfl)
theorem dX0_ofLot_10 : decode cX0_ofLot 10 = .ok (.goto 11, 3) := dk_167 0 11 (dk_at dksX0_ofLot_0 10 rfl rfl)
theorem dX0_ofLot_13 : decode cX0_ofLot 13 = .ok (.astore 4, 2) := dk_58 4 (dk_at dksX0_ofLot_0 13 rfl rfl)
theorem dX0_ofLot_15 : decode cX0_ofLot 15 = .ok (.iconst 1, 1) := dk_4 (dk_at dksX0_ofLot_0 15 rfl rfl)
theorem dX0_ofLot_16 : decode cX0_ofLot 16 = .ok (.ireturn, 1) := dk_172 (dk_at dksX0_ofLot_0 16 rfl rfl)
theorem dX0_ofLot_17 : decode cX0_ofLot 17 = .ok (.astore 4, 2) := dk_58 4 (dk_at dksX0_ofLot_0 17 rfl rfl)
theorem dX0_ofLot_19 : decode cX0_ofLot 19 = .ok (.iconst 2, 1) := dk_5 (dk_at dksX0_ofLot_0 19 rfl rfl)
theorem dX0_ofLot_20 : decode cX0_ofLot 20 = .ok (.ireturn, 1) := dk_172 (dk_at dksX0_ofLot_0 20 rfl rfl)
theorem dX0_ofLot_21 : decode cX0_ofLot 21 = .ok (.iconst 0, 1) := dk_3 (dk_at dksX0_ofLot_0 21 rfl rfl)
theorem dX0_ofLot_22 : decode cX0_ofLot 22 = .ok (.ireturn, 1) := dk_172 (dk_at dksX0_ofLot_0 22 rfl rfl)
abbrev cX0_inBasin : ByteArray := method_24_code
def yX0_inBasin : MethodName := ⟨RX0, "inBasin", "(LSilkRow;II[J)I"⟩
def dkwX0_inBasin_0 : List UInt8 := [45, 3, 42, 27, 28, 182, 0, 84, 133, 80, 167, 0, 11, 58, 4, 4, 172, 58, 4, 5, 172, 3, 172]
abbrev dktX0_inBasin_0 : List UInt8 := dkwX0_inBasin_0 ++ []
theorem dksX0_inBasin_0 : cX0_inBasin.data.toList.drop 0 = dktX0_inBasin_0 := by decide +kernel
theorem dX0_inBasin_0 : decode cX0_inBasin 0 = .ok (.aload_n 3, 1) := dk_45 (dk_at dksX0_inBasin_0 0 rfl rfl)
theorem dX0_inBasin_1 : decode cX0_inBasin 1 = .ok (.iconst 0, 1) := dk_3 (dk_at dksX0_inBasin_0 1 rfl rfl)
theorem dX0_inBasin_2 : decode cX0_inBasin 2 = .ok (.aload_n 0, 1) := dk_42 (dk_at dksX0_inBasin_0 2 rfl rfl)
theorem dX0_inBasin_3 : decode cX0_inBasin 3 = .ok (.iload_n 1, 1) := dk_27 (dk_at dksX0_inBasin_0 3 rfl rfl)
theorem dX0_inBasin_4 : decode cX0_inBasin 4 = .ok (.iload_n 2, 1) := dk_28 (dk_at dksX0_inBasin_0 4 rfl rfl)
theorem dX0_inBasin_5 : decode cX0_inBasin 5 = .ok (.invokevirtual 84, 3) := dk_182 0 84 (dk_at dksX0_inBasin_0 5 rfl rfl)
theorem dX0_inBasin_8 : decode cX0_inBasin 8 = .ok (.i2l, 1) := dk_133 (dk_at dksX0_inBasin_0 8 rfl rfl)
theorem dX0_inBasin_9 : decode cX0_inBasin 9 = .ok (.lastore, 1) := dk_80 (dk_at dksX0_inBasin_0 9 rfl rfl)
theorem dX0_inBasin_10 : decode cX0_inBasin 10 = .ok (.goto 11, 3) := dk_167 0 11 (dk_at dksX0_inBasin_0 10 rfl rfl)
theorem dX0_inBasin_13 : decode cX0_inBasin 13 = .ok (.astore 4, 2) := dk_58 4 (dk_at dksX0_inBasin_0 13 rfl rfl)
theorem dX0_inBasin_15 : decode cX0_inBasin 15 = .ok (.iconst 1, 1) := dk_4 (dk_at dksX0_inBasin_0 15 rfl rfl)
theorem dX0_inBasin_16 : decode cX0_inBasin 16 = .ok (.ireturn, 1) := dk_172 (dk_at dksX0_inBasin_0 16 rfl rfl)
theorem dX0_inBasin_17 : decode cX0_inBasin 17 = .ok (.astore 4, 2) := dk_58 4 (dk_at dksX0_inBasin_0 17 rfl rfl)
theorem dX0_inBasin_19 : decode cX0_inBasin 19 = .ok (.iconst 2, 1) := dk_5 (dk_at dksX0_inBasin_0 19 rfl rfl)
theorem dX0_inBasin_20 : decode cX0_inBasin 20 = .ok (.ireturn, 1) := dk_172 (dk_at dksX0_inBasin_0 20 rfl rfl)
theorem dX0_inBasin_21 : decode cX0_inBasin 21 = .ok (.iconst 0, 1) := dk_3 (dk_at dksX0_inBasin_0 21 rfl rfl)
theorem dX0_inBasin_22 : decode cX0_inBasin 22 = .ok (.ireturn, 1) := dk_172 (dk_at dksX0_inBasin_0 22 rfl rfl)
abbrev cX0_ofSkein : ByteArray := method_25_code
def yX0_ofSkein : MethodName := ⟨RX0, "ofSkein", "(LSilkRow;II[J)I"⟩
def dkwX0_ofSkein_0 : List UInt8 := [45, 3, 42, 27, 28, 182, 0, 87, 133, 80, 167, 0, 11, 58, 4, 4, 172, 58, 4, 5, 172, 3, 172]
abbrev dktX0_ofSkein_0 : List UInt8 := dkwX0_ofSkein_0 ++ []
theorem dksX0_ofSkein_0 : cX0_ofSkein.data.toList.drop 0 = dktX0_ofSkein_0 := by decide +kernel
theorem dX0_ofSkein_0 : decode cX0_ofSkein 0 = .ok (.aload_n 3, 1) := dk_45 (dk_at dksX0_ofSkein_0 0 rfl rfl)
theorem dX0_ofSkein_1 : decode cX0_ofSkein 1 = .ok (.iconst 0, 1) := dk_3 (dk_at dksX0_ofSkein_0 1 rfl rfl)
theorem dX0_ofSkein_2 : decode cX0_ofSkein 2 = .ok (.aload_n 0, 1) := dk_42 (dk_at dksX0_ofSkein_0 2 rfl rfl)
theorem dX0_ofSkein_3 : decode cX0_ofSkein 3 = .ok (.iload_n 1, 1) := dk_27 (dk_at dksX0_ofSkein_0 3 rfl rfl)
theorem dX0_ofSkein_4 : decode cX0_ofSkein 4 = .ok (.iload_n 2, 1) := dk_28 (dk_at dksX0_ofSkein_0 4 rfl rfl)
theorem dX0_ofSkein_5 : decode cX0_ofSkein 5 = .ok (.invokevirtual 87, 3) := dk_182 0 87 (dk_at dksX0_ofSkein_0 5 rfl rfl)
theorem dX0_ofSkein_8 : decode cX0_ofSkein 8 = .ok (.i2l, 1) := dk_133 (dk_at dksX0_ofSkein_0 8 rfl rfl)
theorem dX0_ofSkein_9 : decode cX0_ofSkein 9 = .ok (.lastore, 1) := dk_80 (dk_at dksX0_ofSkein_0 9 rfl rfl)
theorem dX0_ofSkein_10 : decode cX0_ofSkein 10 = .ok (.goto 11, 3) := dk_167 0 11 (dk_at dksX0_ofSkein_0 10 rfl rfl)
theorem dX0_ofSkein_13 : decode cX0_ofSkein 13 = .ok (.astore 4, 2) := dk_58 4 (dk_at dksX0_ofSkein_0 13 rfl rfl)
theorem dX0_ofSkein_15 : decode cX0_ofSkein 15 = .ok (.iconst 1, 1) := dk_4 (dk_at dksX0_ofSkein_0 15 rfl rfl)
theorem dX0_ofSkein_16 : decode cX0_ofSkein 16 = .ok (.ireturn, 1) := dk_172 (dk_at dksX0_ofSkein_0 16 rfl rfl)
theorem dX0_ofSkein_17 : decode cX0_ofSkein 17 = .ok (.astore 4, 2) := dk_58 4 (dk_at dksX0_ofSkein_0 17 rfl rfl)
theorem dX0_ofSkein_19 : decode cX0_ofSkein 19 = .ok (.iconst 2, 1) := dk_5 (dk_at dksX0_ofSkein_0 19 rfl rfl)
theorem dX0_ofSkein_20 : decode cX0_ofSkein 20 = .ok (.ireturn, 1) := dk_172 (dk_at dksX0_ofSkein_0 20 rfl rfl)
theorem dX0_ofSkein_21 : decode cX0_ofSkein 21 = .ok (.iconst 0, 1) := dk_3 (dk_at dksX0_ofSkein_0 21 rfl rfl)
theorem dX0_ofSkein_22 : decode cX0_ofSkein 22 = .ok (.ireturn, 1) := dk_172 (dk_at dksX0_ofSkein_0 22 rfl rfl)
abbrev cX0_many : ByteArray := method_26_code
def yX0_many : MethodName := ⟨RX0, "many", "(LSilkRow;I[J)I"⟩
def dkwX0_many_0 : List UInt8 := [44, 3, 42, 27, 182, 0, 90, 133, 80, 167, 0, 6, 78, 4, 172, 3, 172]
abbrev dktX0_many_0 : List UInt8 := dkwX0_many_0 ++ []
theorem dksX0_many_0 : cX0_many.data.toList.drop 0 = dktX0_many_0 := by decide +kernel
theorem dX0_many_0 : decode cX0_many 0 = .ok (.aload_n 2, 1) := dk_44 (dk_at dksX0_many_0 0 rfl rfl)
theorem dX0_many_1 : decode cX0_many 1 = .ok (.iconst 0, 1) := dk_3 (dk_at dksX0_many_0 1 rfl rfl)
theorem dX0_many_2 : decode cX0_many 2 = .ok (.aload_n 0, 1) := dk_42 (dk_at dksX0_many_0 2 rfl rfl)
theorem dX0_many_3 : decode cX0_many 3 = .ok (.iload_n 1, 1) := dk_27 (dk_at dksX0_many_0 3 rfl rfl)
theorem dX0_many_4 : decode cX0_many 4 = .ok (.invokevirtual 90, 3) := dk_182 0 90 (dk_at dksX0_many_0 4 rfl rfl)
theorem dX0_many_7 : decode cX0_many 7 = .ok (.i2l, 1) := dk_133 (dk_at dksX0_many_0 7 rfl rfl)
theorem dX0_many_8 : decode cX0_many 8 = .ok (.lastore, 1) := dk_80 (dk_at dksX0_many_0 8 rfl rfl)
theorem dX0_many_9 : decode cX0_many 9 = .ok (.goto 6, 3) := dk_167 0 6 (dk_at dksX0_many_0 9 rfl rfl)
theorem dX0_many_12 : decode cX0_many 12 = .ok (.astore_n 3, 1) := dk_78 (dk_at dksX0_many_0 12 rfl rfl)
theorem dX0_many_13 : decode cX0_many 13 = .ok (.iconst 1, 1) := dk_4 (dk_at dksX0_many_0 13 rfl rfl)
theorem dX0_many_14 : decode cX0_many 14 = .ok (.ireturn, 1) := dk_172 (dk_at dksX0_many_0 14 rfl rfl)
theorem dX0_many_15 : decode cX0_many 15 = .ok (.iconst 0, 1) := dk_3 (dk_at dksX0_many_0 15 rfl rfl)
theorem dX0_many_16 : decode cX0_many 16 = .ok (.ireturn, 1) := dk_172 (dk_at dksX0_many_0 16 rfl rfl)
abbrev cX0_ripeIn : ByteArray := method_27_code
def yX0_ripeIn : MethodName := ⟨RX0, "ripeIn", "(LSilkRow;I[J)I"⟩
def dkwX0_ripeIn_0 : List UInt8 := [44, 3, 42, 27, 182, 0, 93, 133, 80, 167, 0, 6, 78, 4, 172, 3, 172]
abbrev dktX0_ripeIn_0 : List UInt8 := dkwX0_ripeIn_0 ++ []
theorem dksX0_ripeIn_0 : cX0_ripeIn.data.toList.drop 0 = dktX0_ripeIn_0 := by decide +kernel
theorem dX0_ripeIn_0 : decode cX0_ripeIn 0 = .ok (.aload_n 2, 1) := dk_44 (dk_at dksX0_ripeIn_0 0 rfl rfl)
theorem dX0_ripeIn_1 : decode cX0_ripeIn 1 = .ok (.iconst 0, 1) := dk_3 (dk_at dksX0_ripeIn_0 1 rfl rfl)
theorem dX0_ripeIn_2 : decode cX0_ripeIn 2 = .ok (.aload_n 0, 1) := dk_42 (dk_at dksX0_ripeIn_0 2 rfl rfl)
theorem dX0_ripeIn_3 : decode cX0_ripeIn 3 = .ok (.iload_n 1, 1) := dk_27 (dk_at dksX0_ripeIn_0 3 rfl rfl)
theorem dX0_ripeIn_4 : decode cX0_ripeIn 4 = .ok (.invokevirtual 93, 3) := dk_182 0 93 (dk_at dksX0_ripeIn_0 4 rfl rfl)
theorem dX0_ripeIn_7 : decode cX0_ripeIn 7 = .ok (.i2l, 1) := dk_133 (dk_at dksX0_ripeIn_0 7 rfl rfl)
theorem dX0_ripeIn_8 : decode cX0_ripeIn 8 = .ok (.lastore, 1) := dk_80 (dk_at dksX0_ripeIn_0 8 rfl rfl)
theorem dX0_ripeIn_9 : decode cX0_ripeIn 9 = .ok (.goto 6, 3) := dk_167 0 6 (dk_at dksX0_ripeIn_0 9 rfl rfl)
theorem dX0_ripeIn_12 : decode cX0_ripeIn 12 = .ok (.astore_n 3, 1) := dk_78 (dk_at dksX0_ripeIn_0 12 rfl rfl)
theorem dX0_ripeIn_13 : decode cX0_ripeIn 13 = .ok (.iconst 1, 1) := dk_4 (dk_at dksX0_ripeIn_0 13 rfl rfl)
theorem dX0_ripeIn_14 : decode cX0_ripeIn 14 = .ok (.ireturn, 1) := dk_172 (dk_at dksX0_ripeIn_0 14 rfl rfl)
theorem dX0_ripeIn_15 : decode cX0_ripeIn 15 = .ok (.iconst 0, 1) := dk_3 (dk_at dksX0_ripeIn_0 15 rfl rfl)
theorem dX0_ripeIn_16 : decode cX0_ripeIn 16 = .ok (.ireturn, 1) := dk_172 (dk_at dksX0_ripeIn_0 16 rfl rfl)
abbrev cX0_bestTarget : ByteArray := method_28_code
def yX0_bestTarget : MethodName := ⟨RX0, "bestTarget", "(LSilkRow;III[J)I"⟩
def dkwX0_bestTarget_1 : List UInt8 := [58, 5, 6, 172, 3, 172]
abbrev dktX0_bestTarget_1 : List UInt8 := dkwX0_bestTarget_1 ++ []
def dkwX0_bestTarget_0 : List UInt8 := [25, 4, 3, 42, 27, 28, 29, 182, 0, 96, 133, 80, 167, 0, 15, 58, 5, 4, 172, 58, 5, 5, 172]
abbrev dktX0_bestTarget_0 : List UInt8 := dkwX0_bestTarget_0 ++ dktX0_bestTarget_1
theorem dksX0_bestTarget_0 : cX0_bestTarget.data.toList.drop 0 = dktX0_bestTarget_0 := by decide +kernel
theorem dksX0_bestTarget_1 : cX0_bestTarget.data.toList.drop 23 = dktX0_bestTarget_1 := dk_seg dksX0_bestTarget_0 23 rfl rfl
theorem dX0_bestTarget_0 : decode cX0_bestTarget 0 = .ok (.aload 4, 2) := dk_25 4 (dk_at dksX0_bestTarget_0 0 rfl rfl)
theorem dX0_bestTarget_2 : decode cX0_bestTarget 2 = .ok (.iconst 0, 1) := dk_3 (dk_at dksX0_bestTarget_0 2 rfl rfl)
theorem dX0_bestTarget_3 : decode cX0_bestTarget 3 = .ok (.aload_n 0, 1) := dk_42 (dk_at dksX0_bestTarget_0 3 rfl rfl)
theorem dX0_bestTarget_4 : decode cX0_bestTarget 4 = .ok (.iload_n 1, 1) := dk_27 (dk_at dksX0_bestTarget_0 4 rfl rfl)
theorem dX0_bestTarget_5 : decode cX0_bestTarget 5 = .ok (.iload_n 2, 1) := dk_28 (dk_at dksX0_bestTarget_0 5 rfl rfl)
theorem dX0_bestTarget_6 : decode cX0_bestTarget 6 = .ok (.iload_n 3, 1) := dk_29 (dk_at dksX0_bestTarget_0 6 rfl rfl)
theorem dX0_bestTarget_7 : decode cX0_bestTarget 7 = .ok (.invokevirtual 96, 3) := dk_182 0 96 (dk_at dksX0_bestTarget_0 7 rfl rfl)
theorem dX0_bestTarget_10 : decode cX0_bestTarget 10 = .ok (.i2l, 1) := dk_133 (dk_at dksX0_bestTarget_0 10 rfl rfl)
theorem dX0_bestTarget_11 : decode cX0_bestTarget 11 = .ok (.lastore, 1) := dk_80 (dk_at dksX0_bestTarget_0 11 rfl rfl)
theorem dX0_bestTarget_12 : decode cX0_bestTarget 12 = .ok (.goto 15, 3) := dk_167 0 15 (dk_at dksX0_bestTarget_0 12 rfl rfl)
theorem dX0_bestTarget_15 : decode cX0_bestTarget 15 = .ok (.astore 5, 2) := dk_58 5 (dk_at dksX0_bestTarget_0 15 rfl rfl)
theorem dX0_bestTarget_17 : decode cX0_bestTarget 17 = .ok (.iconst 1, 1) := dk_4 (dk_at dksX0_bestTarget_0 17 rfl rfl)
theorem dX0_bestTarget_18 : decode cX0_bestTarget 18 = .ok (.ireturn, 1) := dk_172 (dk_at dksX0_bestTarget_0 18 rfl rfl)
theorem dX0_bestTarget_19 : decode cX0_bestTarget 19 = .ok (.astore 5, 2) := dk_58 5 (dk_at dksX0_bestTarget_0 19 rfl rfl)
theorem dX0_bestTarget_21 : decode cX0_bestTarget 21 = .ok (.iconst 2, 1) := dk_5 (dk_at dksX0_bestTarget_0 21 rfl rfl)
theorem dX0_bestTarget_22 : decode cX0_bestTarget 22 = .ok (.ireturn, 1) := dk_172 (dk_at dksX0_bestTarget_0 22 rfl rfl)
theorem dX0_bestTarget_23 : decode cX0_bestTarget 23 = .ok (.astore 5, 2) := dk_58 5 (dk_at dksX0_bestTarget_1 0 rfl rfl)
theorem dX0_bestTarget_25 : decode cX0_bestTarget 25 = .ok (.iconst 3, 1) := dk_6 (dk_at dksX0_bestTarget_1 2 rfl rfl)
theorem dX0_bestTarget_26 : decode cX0_bestTarget 26 = .ok (.ireturn, 1) := dk_172 (dk_at dksX0_bestTarget_1 3 rfl rfl)
theorem dX0_bestTarget_27 : decode cX0_bestTarget 27 = .ok (.iconst 0, 1) := dk_3 (dk_at dksX0_bestTarget_1 4 rfl rfl)
theorem dX0_bestTarget_28 : decode cX0_bestTarget 28 = .ok (.ireturn, 1) := dk_172 (dk_at dksX0_bestTarget_1 5 rfl rfl)
theorem q43 : (Jvm.Cond.initialized "SilkRowLaw") ∈ lw_all := lw_g (lw_at lw_m1 0 rfl) rfl
theorem q77 : (Jvm.Cond.classLink "SilkRowLaw" (8 : Nat) "SilkRow") ∈ lw_all := lw_g (lw_at lw_m1 34 rfl) rfl
theorem q79 : (Jvm.Cond.methodLink "SilkRowLaw" (99 : Nat) ({ cls := "SilkRow", name := "<init>", desc := "()V" } : Jvm.MethodName)) ∈ lw_all := lw_g (lw_at lw_m1 36 rfl) rfl
theorem q291 : (Jvm.Cond.methodLink "SilkRowLaw" (187 : Nat) ({ cls := "SilkRow", name := "meanGrade", desc := "()D" } : Jvm.MethodName)) ∈ lw_all := lw_g (lw_at lw_m2 8 rfl) rfl
theorem q346 : (Jvm.Cond.methodLink "SilkRowLaw" (198 : Nat) ({ cls := "SilkRow", name := "digest", desc := "()J" } : Jvm.MethodName)) ∈ lw_all := lw_g (lw_at lw_m2 63 rfl) rfl
theorem q653 : (Jvm.Cond.methodLink "SilkRowLaw" (103 : Nat) ({ cls := "SilkRowLaw", name := "plot", desc := "(LSilkRow;I[J)I" } : Jvm.MethodName)) ∈ lw_all := lw_g (lw_at lw_m3 130 rfl) rfl
theorem q654 : (Jvm.Cond.static ({ cls := "SilkRowLaw", name := "plot", desc := "(LSilkRow;I[J)I" } : Jvm.MethodName)) ∈ lw_all := lw_g (lw_at lw_m3 131 rfl) rfl
theorem q655 : (Jvm.Cond.codeWith ({ cls := "SilkRowLaw", name := "plot", desc := "(LSilkRow;I[J)I" } : Jvm.MethodName) method_3_code (4 : Nat) (Option.some Jvm.ClassFile.FieldType.int) [((0 : Nat), (9 : Nat), (12 : Nat), (13 : Nat)), ((0 : Nat), (9 : Nat), (15 : Nat), (15 : Nat))]) ∈ lw_all := lw_g (lw_at lw_m3 132 rfl) rfl
theorem q656 : (Jvm.Cond.classLink "SilkRowLaw" (13 : Nat) "java/lang/IllegalArgumentException") ∈ lw_all := lw_g (lw_at lw_m3 133 rfl) rfl
theorem q657 : (Jvm.Cond.classLink "SilkRowLaw" (15 : Nat) "java/lang/IllegalStateException") ∈ lw_all := lw_g (lw_at lw_m3 134 rfl) rfl
theorem q658 : (Jvm.Cond.methodLink "SilkRowLaw" (7 : Nat) ({ cls := "SilkRow", name := "plot", desc := "(I)I" } : Jvm.MethodName)) ∈ lw_all := lw_g (lw_at lw_m3 135 rfl) rfl
theorem q769 : (Jvm.Cond.methodLink "SilkRowLaw" (113 : Nat) ({ cls := "SilkRowLaw", name := "pass", desc := "(LSilkRow;IZI[J)I" } : Jvm.MethodName)) ∈ lw_all := lw_g (lw_at lw_m4 6 rfl) rfl
theorem q770 : (Jvm.Cond.static ({ cls := "SilkRowLaw", name := "pass", desc := "(LSilkRow;IZI[J)I" } : Jvm.MethodName)) ∈ lw_all := lw_g (lw_at lw_m4 7 rfl) rfl
theorem q771 : (Jvm.Cond.codeWith ({ cls := "SilkRowLaw", name := "pass", desc := "(LSilkRow;IZI[J)I" } : Jvm.MethodName) method_4_code (6 : Nat) (Option.some Jvm.ClassFile.FieldType.int) [((0 : Nat), (12 : Nat), (15 : Nat), (13 : Nat))]) ∈ lw_all := lw_g (lw_at lw_m4 8 rfl) rfl
theorem q772 : (Jvm.Cond.methodLink "SilkRowLaw" (17 : Nat) ({ cls := "SilkRow", name := "pass", desc := "(IZI)I" } : Jvm.MethodName)) ∈ lw_all := lw_g (lw_at lw_m4 9 rfl) rfl
theorem q791 : (Jvm.Cond.methodLink "SilkRowLaw" (117 : Nat) ({ cls := "SilkRowLaw", name := "pick", desc := "(LSilkRow;II[J)I" } : Jvm.MethodName)) ∈ lw_all := lw_g (lw_at lw_m4 28 rfl) rfl
theorem q792 : (Jvm.Cond.static ({ cls := "SilkRowLaw", name := "pick", desc := "(LSilkRow;II[J)I" } : Jvm.MethodName)) ∈ lw_all := lw_g (lw_at lw_m4 29 rfl) rfl
theorem q793 : (Jvm.Cond.codeWith ({ cls := "SilkRowLaw", name := "pick", desc := "(LSilkRow;II[J)I" } : Jvm.MethodName) method_5_code (5 : Nat) (Option.some Jvm.ClassFile.FieldType.int) [((0 : Nat), (10 : Nat), (13 : Nat), (25 : Nat)), ((0 : Nat), (10 : Nat), (17 : Nat), (13 : Nat))]) ∈ lw_all := lw_g (lw_at lw_m4 30 rfl) rfl
theorem q794 : (Jvm.Cond.classLink "SilkRowLaw" (25 : Nat) "java/lang/IndexOutOfBoundsException") ∈ lw_all := lw_g (lw_at lw_m4 31 rfl) rfl
theorem q827 : (Jvm.Cond.methodLink "SilkRowLaw" (21 : Nat) ({ cls := "SilkRow", name := "pick", desc := "(II)I" } : Jvm.MethodName)) ∈ lw_all := lw_g (lw_at lw_m4 64 rfl) rfl
theorem q874 : (Jvm.Cond.methodLink "SilkRowLaw" (121 : Nat) ({ cls := "SilkRowLaw", name := "prune", desc := "(LSilkRow;I[J)I" } : Jvm.MethodName)) ∈ lw_all := lw_g (lw_at lw_m4 111 rfl) rfl
theorem q875 : (Jvm.Cond.static ({ cls := "SilkRowLaw", name := "prune", desc := "(LSilkRow;I[J)I" } : Jvm.MethodName)) ∈ lw_all := lw_g (lw_at lw_m4 112 rfl) rfl
theorem q876 : (Jvm.Cond.codeWith ({ cls := "SilkRowLaw", name := "prune", desc := "(LSilkRow;I[J)I" } : Jvm.MethodName) method_6_code (4 : Nat) (Option.some Jvm.ClassFile.FieldType.int) [((0 : Nat), (9 : Nat), (12 : Nat), (25 : Nat))]) ∈ lw_all := lw_g (lw_at lw_m4 113 rfl) rfl
theorem q877 : (Jvm.Cond.methodLink "SilkRowLaw" (27 : Nat) ({ cls := "SilkRow", name := "prune", desc := "(I)I" } : Jvm.MethodName)) ∈ lw_all := lw_g (lw_at lw_m4 114 rfl) rfl
theorem q885 : (Jvm.Cond.methodLink "SilkRowLaw" (124 : Nat) ({ cls := "SilkRowLaw", name := "buy", desc := "(LSilkRow;I[J)I" } : Jvm.MethodName)) ∈ lw_all := lw_g (lw_at lw_m4 122 rfl) rfl
theorem q886 : (Jvm.Cond.static ({ cls := "SilkRowLaw", name := "buy", desc := "(LSilkRow;I[J)I" } : Jvm.MethodName)) ∈ lw_all := lw_g (lw_at lw_m4 123 rfl) rfl
theorem q887 : (Jvm.Cond.codeWith ({ cls := "SilkRowLaw", name := "buy", desc := "(LSilkRow;I[J)I" } : Jvm.MethodName) method_7_code (4 : Nat) (Option.some Jvm.ClassFile.FieldType.int) [((0 : Nat), (9 : Nat), (12 : Nat), (13 : Nat)), ((0 : Nat), (9 : Nat), (15 : Nat), (15 : Nat))]) ∈ lw_all := lw_g (lw_at lw_m4 124 rfl) rfl
theorem q888 : (Jvm.Cond.methodLink "SilkRowLaw" (30 : Nat) ({ cls := "SilkRow", name := "buy", desc := "(I)I" } : Jvm.MethodName)) ∈ lw_all := lw_g (lw_at lw_m4 125 rfl) rfl
theorem q892 : (Jvm.Cond.methodLink "SilkRowLaw" (127 : Nat) ({ cls := "SilkRowLaw", name := "line", desc := "(LSilkRow;IIII[J)I" } : Jvm.MethodName)) ∈ lw_all := lw_g (lw_at lw_m4 129 rfl) rfl
theorem q893 : (Jvm.Cond.static ({ cls := "SilkRowLaw", name := "line", desc := "(LSilkRow;IIII[J)I" } : Jvm.MethodName)) ∈ lw_all := lw_g (lw_at lw_m4 130 rfl) rfl
theorem q894 : (Jvm.Cond.codeWith ({ cls := "SilkRowLaw", name := "line", desc := "(LSilkRow;IIII[J)I" } : Jvm.MethodName) method_8_code (7 : Nat) (Option.some Jvm.ClassFile.FieldType.int) [((0 : Nat), (14 : Nat), (17 : Nat), (25 : Nat)), ((0 : Nat), (14 : Nat), (21 : Nat), (13 : Nat))]) ∈ lw_all := lw_g (lw_at lw_m4 131 rfl) rfl
theorem q895 : (Jvm.Cond.methodLink "SilkRowLaw" (33 : Nat) ({ cls := "SilkRow", name := "line", desc := "(IIII)I" } : Jvm.MethodName)) ∈ lw_all := lw_g (lw_at lw_m4 132 rfl) rfl
theorem q903 : (Jvm.Cond.methodLink "SilkRowLaw" (131 : Nat) ({ cls := "SilkRowLaw", name := "hatch", desc := "(LSilkRow;III[J)I" } : Jvm.MethodName)) ∈ lw_all := lw_g (lw_at lw_m4 140 rfl) rfl
theorem q904 : (Jvm.Cond.static ({ cls := "SilkRowLaw", name := "hatch", desc := "(LSilkRow;III[J)I" } : Jvm.MethodName)) ∈ lw_all := lw_g (lw_at lw_m4 141 rfl) rfl
theorem q905 : (Jvm.Cond.codeWith ({ cls := "SilkRowLaw", name := "hatch", desc := "(LSilkRow;III[J)I" } : Jvm.MethodName) method_9_code (6 : Nat) (Option.some Jvm.ClassFile.FieldType.int) [((0 : Nat), (12 : Nat), (15 : Nat), (25 : Nat)), ((0 : Nat), (12 : Nat), (19 : Nat), (13 : Nat)), ((0 : Nat), (12 : Nat), (23 : Nat), (15 : Nat))]) ∈ lw_all := lw_g (lw_at lw_m4 142 rfl) rfl
theorem q906 : (Jvm.Cond.methodLink "SilkRowLaw" (37 : Nat) ({ cls := "SilkRow", name := "hatch", desc := "(III)I" } : Jvm.MethodName)) ∈ lw_all := lw_g (lw_at lw_m4 143 rfl) rfl
theorem q914 : (Jvm.Cond.methodLink "SilkRowLaw" (135 : Nat) ({ cls := "SilkRowLaw", name := "feed", desc := "(LSilkRow;II[J)I" } : Jvm.MethodName)) ∈ lw_all := lw_g (lw_at lw_m4 151 rfl) rfl
theorem q915 : (Jvm.Cond.static ({ cls := "SilkRowLaw", name := "feed", desc := "(LSilkRow;II[J)I" } : Jvm.MethodName)) ∈ lw_all := lw_g (lw_at lw_m4 152 rfl) rfl
theorem q916 : (Jvm.Cond.codeWith ({ cls := "SilkRowLaw", name := "feed", desc := "(LSilkRow;II[J)I" } : Jvm.MethodName) method_10_code (5 : Nat) (Option.some Jvm.ClassFile.FieldType.int) [((0 : Nat), (10 : Nat), (13 : Nat), (25 : Nat)), ((0 : Nat), (10 : Nat), (17 : Nat), (13 : Nat)), ((0 : Nat), (10 : Nat), (21 : Nat), (15 : Nat))]) ∈ lw_all := lw_g (lw_at lw_m4 153 rfl) rfl
theorem q917 : (Jvm.Cond.methodLink "SilkRowLaw" (41 : Nat) ({ cls := "SilkRow", name := "feed", desc := "(II)I" } : Jvm.MethodName)) ∈ lw_all := lw_g (lw_at lw_m4 154 rfl) rfl
theorem q921 : (Jvm.Cond.methodLink "SilkRowLaw" (138 : Nat) ({ cls := "SilkRowLaw", name := "clean", desc := "(LSilkRow;I[J)I" } : Jvm.MethodName)) ∈ lw_all := lw_g (lw_at lw_m4 158 rfl) rfl
theorem q922 : (Jvm.Cond.static ({ cls := "SilkRowLaw", name := "clean", desc := "(LSilkRow;I[J)I" } : Jvm.MethodName)) ∈ lw_all := lw_g (lw_at lw_m4 159 rfl) rfl
theorem q923 : (Jvm.Cond.codeWith ({ cls := "SilkRowLaw", name := "clean", desc := "(LSilkRow;I[J)I" } : Jvm.MethodName) method_11_code (4 : Nat) (Option.some Jvm.ClassFile.FieldType.int) [((0 : Nat), (9 : Nat), (12 : Nat), (25 : Nat)), ((0 : Nat), (9 : Nat), (15 : Nat), (15 : Nat))]) ∈ lw_all := lw_g (lw_at lw_m4 160 rfl) rfl
theorem q924 : (Jvm.Cond.methodLink "SilkRowLaw" (44 : Nat) ({ cls := "SilkRow", name := "clean", desc := "(I)I" } : Jvm.MethodName)) ∈ lw_all := lw_g (lw_at lw_m4 161 rfl) rfl
theorem q936 : (Jvm.Cond.methodLink "SilkRowLaw" (141 : Nat) ({ cls := "SilkRowLaw", name := "part", desc := "(LSilkRow;III[J)I" } : Jvm.MethodName)) ∈ lw_all := lw_g (lw_at lw_m4 173 rfl) rfl
theorem q937 : (Jvm.Cond.static ({ cls := "SilkRowLaw", name := "part", desc := "(LSilkRow;III[J)I" } : Jvm.MethodName)) ∈ lw_all := lw_g (lw_at lw_m4 174 rfl) rfl
theorem q938 : (Jvm.Cond.codeWith ({ cls := "SilkRowLaw", name := "part", desc := "(LSilkRow;III[J)I" } : Jvm.MethodName) method_12_code (6 : Nat) (Option.some Jvm.ClassFile.FieldType.int) [((0 : Nat), (12 : Nat), (15 : Nat), (25 : Nat)), ((0 : Nat), (12 : Nat), (19 : Nat), (13 : Nat)), ((0 : Nat), (12 : Nat), (23 : Nat), (15 : Nat))]) ∈ lw_all := lw_g (lw_at lw_m4 175 rfl) rfl
theorem q939 : (Jvm.Cond.methodLink "SilkRowLaw" (47 : Nat) ({ cls := "SilkRow", name := "part", desc := "(III)I" } : Jvm.MethodName)) ∈ lw_all := lw_g (lw_at lw_m4 176 rfl) rfl
theorem q948 : (Jvm.Cond.methodLink "SilkRowLaw" (144 : Nat) ({ cls := "SilkRowLaw", name := "mount", desc := "(LSilkRow;I[J)I" } : Jvm.MethodName)) ∈ lw_all := lw_g (lw_at lw_m4 185 rfl) rfl
theorem q949 : (Jvm.Cond.static ({ cls := "SilkRowLaw", name := "mount", desc := "(LSilkRow;I[J)I" } : Jvm.MethodName)) ∈ lw_all := lw_g (lw_at lw_m4 186 rfl) rfl
theorem q950 : (Jvm.Cond.codeWith ({ cls := "SilkRowLaw", name := "mount", desc := "(LSilkRow;I[J)I" } : Jvm.MethodName) method_13_code (4 : Nat) (Option.some Jvm.ClassFile.FieldType.int) [((0 : Nat), (9 : Nat), (12 : Nat), (25 : Nat)), ((0 : Nat), (9 : Nat), (15 : Nat), (15 : Nat))]) ∈ lw_all := lw_g (lw_at lw_m4 187 rfl) rfl
theorem q951 : (Jvm.Cond.methodLink "SilkRowLaw" (50 : Nat) ({ cls := "SilkRow", name := "mount", desc := "(I)I" } : Jvm.MethodName)) ∈ lw_all := lw_g (lw_at lw_m4 188 rfl) rfl
theorem q961 : (Jvm.Cond.methodLink "SilkRowLaw" (147 : Nat) ({ cls := "SilkRowLaw", name := "stifle", desc := "(LSilkRow;I[J)I" } : Jvm.MethodName)) ∈ lw_all := lw_g (lw_at lw_m4 198 rfl) rfl
theorem q962 : (Jvm.Cond.static ({ cls := "SilkRowLaw", name := "stifle", desc := "(LSilkRow;I[J)I" } : Jvm.MethodName)) ∈ lw_all := lw_g (lw_at lw_m4 199 rfl) rfl
theorem q963 : (Jvm.Cond.codeWith ({ cls := "SilkRowLaw", name := "stifle", desc := "(LSilkRow;I[J)I" } : Jvm.MethodName) method_14_code (4 : Nat) (Option.some Jvm.ClassFile.FieldType.int) [((0 : Nat), (9 : Nat), (12 : Nat), (25 : Nat)), ((0 : Nat), (9 : Nat), (15 : Nat), (15 : Nat))]) ∈ lw_all := lw_g (lw_at lw_m4 200 rfl) rfl
theorem q964 : (Jvm.Cond.methodLink "SilkRowLaw" (53 : Nat) ({ cls := "SilkRow", name := "stifle", desc := "(I)I" } : Jvm.MethodName)) ∈ lw_all := lw_g (lw_at lw_m4 201 rfl) rfl
theorem q980 : (Jvm.Cond.methodLink "SilkRowLaw" (150 : Nat) ({ cls := "SilkRowLaw", name := "eggs", desc := "(LSilkRow;IIZ[J)I" } : Jvm.MethodName)) ∈ lw_all := lw_g (lw_at lw_m4 217 rfl) rfl
theorem q981 : (Jvm.Cond.static ({ cls := "SilkRowLaw", name := "eggs", desc := "(LSilkRow;IIZ[J)I" } : Jvm.MethodName)) ∈ lw_all := lw_g (lw_at lw_m4 218 rfl) rfl
theorem q982 : (Jvm.Cond.codeWith ({ cls := "SilkRowLaw", name := "eggs", desc := "(LSilkRow;IIZ[J)I" } : Jvm.MethodName) method_15_code (6 : Nat) (Option.some Jvm.ClassFile.FieldType.int) [((0 : Nat), (12 : Nat), (15 : Nat), (25 : Nat)), ((0 : Nat), (12 : Nat), (19 : Nat), (15 : Nat))]) ∈ lw_all := lw_g (lw_at lw_m4 219 rfl) rfl
theorem q983 : (Jvm.Cond.methodLink "SilkRowLaw" (56 : Nat) ({ cls := "SilkRow", name := "eggs", desc := "(IIZ)I" } : Jvm.MethodName)) ∈ lw_all := lw_g (lw_at lw_m4 220 rfl) rfl
theorem q987 : (Jvm.Cond.methodLink "SilkRowLaw" (154 : Nat) ({ cls := "SilkRowLaw", name := "reel", desc := "(LSilkRow;IIII[J)I" } : Jvm.MethodName)) ∈ lw_all := lw_g (lw_at lw_m4 224 rfl) rfl
theorem q988 : (Jvm.Cond.static ({ cls := "SilkRowLaw", name := "reel", desc := "(LSilkRow;IIII[J)I" } : Jvm.MethodName)) ∈ lw_all := lw_g (lw_at lw_m4 225 rfl) rfl
theorem q989 : (Jvm.Cond.codeWith ({ cls := "SilkRowLaw", name := "reel", desc := "(LSilkRow;IIII[J)I" } : Jvm.MethodName) method_16_code (7 : Nat) (Option.some Jvm.ClassFile.FieldType.int) [((0 : Nat), (14 : Nat), (17 : Nat), (25 : Nat)), ((0 : Nat), (14 : Nat), (21 : Nat), (13 : Nat)), ((0 : Nat), (14 : Nat), (25 : Nat), (15 : Nat))]) ∈ lw_all := lw_g (lw_at lw_m4 226 rfl) rfl
theorem q990 : (Jvm.Cond.methodLink "SilkRowLaw" (60 : Nat) ({ cls := "SilkRow", name := "reel", desc := "(IIII)I" } : Jvm.MethodName)) ∈ lw_all := lw_g (lw_at lw_m4 227 rfl) rfl
theorem q1002 : (Jvm.Cond.methodLink "SilkRowLaw" (157 : Nat) ({ cls := "SilkRowLaw", name := "sell", desc := "(LSilkRow;I[J)I" } : Jvm.MethodName)) ∈ lw_all := lw_g (lw_at lw_m4 239 rfl) rfl
theorem q1003 : (Jvm.Cond.static ({ cls := "SilkRowLaw", name := "sell", desc := "(LSilkRow;I[J)I" } : Jvm.MethodName)) ∈ lw_all := lw_g (lw_at lw_m5 0 rfl) rfl
theorem q1004 : (Jvm.Cond.codeWith ({ cls := "SilkRowLaw", name := "sell", desc := "(LSilkRow;I[J)I" } : Jvm.MethodName) method_17_code (4 : Nat) (Option.some Jvm.ClassFile.FieldType.int) [((0 : Nat), (9 : Nat), (12 : Nat), (25 : Nat)), ((0 : Nat), (9 : Nat), (15 : Nat), (15 : Nat))]) ∈ lw_all := lw_g (lw_at lw_m5 1 rfl) rfl
theorem q1005 : (Jvm.Cond.methodLink "SilkRowLaw" (63 : Nat) ({ cls := "SilkRow", name := "sell", desc := "(I)I" } : Jvm.MethodName)) ∈ lw_all := lw_g (lw_at lw_m5 2 rfl) rfl
theorem q1009 : (Jvm.Cond.methodLink "SilkRowLaw" (160 : Nat) ({ cls := "SilkRowLaw", name := "borrow", desc := "(LSilkRow;I[J)I" } : Jvm.MethodName)) ∈ lw_all := lw_g (lw_at lw_m5 6 rfl) rfl
theorem q1010 : (Jvm.Cond.static ({ cls := "SilkRowLaw", name := "borrow", desc := "(LSilkRow;I[J)I" } : Jvm.MethodName)) ∈ lw_all := lw_g (lw_at lw_m5 7 rfl) rfl
theorem q1011 : (Jvm.Cond.codeWith ({ cls := "SilkRowLaw", name := "borrow", desc := "(LSilkRow;I[J)I" } : Jvm.MethodName) method_18_code (4 : Nat) (Option.some Jvm.ClassFile.FieldType.int) [((0 : Nat), (9 : Nat), (12 : Nat), (13 : Nat)), ((0 : Nat), (9 : Nat), (15 : Nat), (15 : Nat))]) ∈ lw_all := lw_g (lw_at lw_m5 8 rfl) rfl
theorem q1012 : (Jvm.Cond.methodLink "SilkRowLaw" (66 : Nat) ({ cls := "SilkRow", name := "borrow", desc := "(I)I" } : Jvm.MethodName)) ∈ lw_all := lw_g (lw_at lw_m5 9 rfl) rfl
theorem q1016 : (Jvm.Cond.methodLink "SilkRowLaw" (163 : Nat) ({ cls := "SilkRowLaw", name := "pay", desc := "(LSilkRow;I[J)I" } : Jvm.MethodName)) ∈ lw_all := lw_g (lw_at lw_m5 13 rfl) rfl
theorem q1017 : (Jvm.Cond.static ({ cls := "SilkRowLaw", name := "pay", desc := "(LSilkRow;I[J)I" } : Jvm.MethodName)) ∈ lw_all := lw_g (lw_at lw_m5 14 rfl) rfl
theorem q1018 : (Jvm.Cond.codeWith ({ cls := "SilkRowLaw", name := "pay", desc := "(LSilkRow;I[J)I" } : Jvm.MethodName) method_19_code (4 : Nat) (Option.some Jvm.ClassFile.FieldType.int) [((0 : Nat), (9 : Nat), (12 : Nat), (13 : Nat))]) ∈ lw_all := lw_g (lw_at lw_m5 15 rfl) rfl
theorem q1019 : (Jvm.Cond.methodLink "SilkRowLaw" (69 : Nat) ({ cls := "SilkRow", name := "pay", desc := "(I)I" } : Jvm.MethodName)) ∈ lw_all := lw_g (lw_at lw_m5 16 rfl) rfl
theorem q1023 : (Jvm.Cond.methodLink "SilkRowLaw" (166 : Nat) ({ cls := "SilkRowLaw", name := "ofPlot", desc := "(LSilkRow;II[J)I" } : Jvm.MethodName)) ∈ lw_all := lw_g (lw_at lw_m5 20 rfl) rfl
theorem q1024 : (Jvm.Cond.static ({ cls := "SilkRowLaw", name := "ofPlot", desc := "(LSilkRow;II[J)I" } : Jvm.MethodName)) ∈ lw_all := lw_g (lw_at lw_m5 21 rfl) rfl
theorem q1025 : (Jvm.Cond.codeWith ({ cls := "SilkRowLaw", name := "ofPlot", desc := "(LSilkRow;II[J)I" } : Jvm.MethodName) method_20_code (5 : Nat) (Option.some Jvm.ClassFile.FieldType.int) [((0 : Nat), (10 : Nat), (13 : Nat), (25 : Nat)), ((0 : Nat), (10 : Nat), (17 : Nat), (13 : Nat))]) ∈ lw_all := lw_g (lw_at lw_m5 22 rfl) rfl
theorem q1026 : (Jvm.Cond.methodLink "SilkRowLaw" (72 : Nat) ({ cls := "SilkRow", name := "ofPlot", desc := "(II)I" } : Jvm.MethodName)) ∈ lw_all := lw_g (lw_at lw_m5 23 rfl) rfl
theorem q1030 : (Jvm.Cond.methodLink "SilkRowLaw" (169 : Nat) ({ cls := "SilkRowLaw", name := "ofLine", desc := "(LSilkRow;II[J)I" } : Jvm.MethodName)) ∈ lw_all := lw_g (lw_at lw_m5 27 rfl) rfl
theorem q1031 : (Jvm.Cond.static ({ cls := "SilkRowLaw", name := "ofLine", desc := "(LSilkRow;II[J)I" } : Jvm.MethodName)) ∈ lw_all := lw_g (lw_at lw_m5 28 rfl) rfl
theorem q1032 : (Jvm.Cond.codeWith ({ cls := "SilkRowLaw", name := "ofLine", desc := "(LSilkRow;II[J)I" } : Jvm.MethodName) method_21_code (5 : Nat) (Option.some Jvm.ClassFile.FieldType.int) [((0 : Nat), (10 : Nat), (13 : Nat), (25 : Nat)), ((0 : Nat), (10 : Nat), (17 : Nat), (13 : Nat))]) ∈ lw_all := lw_g (lw_at lw_m5 29 rfl) rfl
theorem q1033 : (Jvm.Cond.methodLink "SilkRowLaw" (75 : Nat) ({ cls := "SilkRow", name := "ofLine", desc := "(II)I" } : Jvm.MethodName)) ∈ lw_all := lw_g (lw_at lw_m5 30 rfl) rfl
theorem q1037 : (Jvm.Cond.methodLink "SilkRowLaw" (172 : Nat) ({ cls := "SilkRowLaw", name := "ofTray", desc := "(LSilkRow;II[J)I" } : Jvm.MethodName)) ∈ lw_all := lw_g (lw_at lw_m5 34 rfl) rfl
theorem q1038 : (Jvm.Cond.static ({ cls := "SilkRowLaw", name := "ofTray", desc := "(LSilkRow;II[J)I" } : Jvm.MethodName)) ∈ lw_all := lw_g (lw_at lw_m5 35 rfl) rfl
theorem q1039 : (Jvm.Cond.codeWith ({ cls := "SilkRowLaw", name := "ofTray", desc := "(LSilkRow;II[J)I" } : Jvm.MethodName) method_22_code (5 : Nat) (Option.some Jvm.ClassFile.FieldType.int) [((0 : Nat), (10 : Nat), (13 : Nat), (25 : Nat)), ((0 : Nat), (10 : Nat), (17 : Nat), (13 : Nat))]) ∈ lw_all := lw_g (lw_at lw_m5 36 rfl) rfl
theorem q1040 : (Jvm.Cond.methodLink "SilkRowLaw" (78 : Nat) ({ cls := "SilkRow", name := "ofTray", desc := "(II)I" } : Jvm.MethodName)) ∈ lw_all := lw_g (lw_at lw_m5 37 rfl) rfl
theorem q1044 : (Jvm.Cond.methodLink "SilkRowLaw" (175 : Nat) ({ cls := "SilkRowLaw", name := "ofLot", desc := "(LSilkRow;II[J)I" } : Jvm.MethodName)) ∈ lw_all := lw_g (lw_at lw_m5 41 rfl) rfl
theorem q1045 : (Jvm.Cond.static ({ cls := "SilkRowLaw", name := "ofLot", desc := "(LSilkRow;II[J)I" } : Jvm.MethodName)) ∈ lw_all := lw_g (lw_at lw_m5 42 rfl) rfl
theorem q1046 : (Jvm.Cond.codeWith ({ cls := "SilkRowLaw", name := "ofLot", desc := "(LSilkRow;II[J)I" } : Jvm.MethodName) method_23_code (5 : Nat) (Option.some Jvm.ClassFile.FieldType.int) [((0 : Nat), (10 : Nat), (13 : Nat), (25 : Nat)), ((0 : Nat), (10 : Nat), (17 : Nat), (13 : Nat))]) ∈ lw_all := lw_g (lw_at lw_m5 43 rfl) rfl
theorem q1047 : (Jvm.Cond.methodLink "SilkRowLaw" (81 : Nat) ({ cls := "SilkRow", name := "ofLot", desc := "(II)I" } : Jvm.MethodName)) ∈ lw_all := lw_g (lw_at lw_m5 44 rfl) rfl
theorem q1051 : (Jvm.Cond.methodLink "SilkRowLaw" (178 : Nat) ({ cls := "SilkRowLaw", name := "inBasin", desc := "(LSilkRow;II[J)I" } : Jvm.MethodName)) ∈ lw_all := lw_g (lw_at lw_m5 48 rfl) rfl
theorem q1052 : (Jvm.Cond.static ({ cls := "SilkRowLaw", name := "inBasin", desc := "(LSilkRow;II[J)I" } : Jvm.MethodName)) ∈ lw_all := lw_g (lw_at lw_m5 49 rfl) rfl
theorem q1053 : (Jvm.Cond.codeWith ({ cls := "SilkRowLaw", name := "inBasin", desc := "(LSilkRow;II[J)I" } : Jvm.MethodName) method_24_code (5 : Nat) (Option.some Jvm.ClassFile.FieldType.int) [((0 : Nat), (10 : Nat), (13 : Nat), (25 : Nat)), ((0 : Nat), (10 : Nat), (17 : Nat), (13 : Nat))]) ∈ lw_all := lw_g (lw_at lw_m5 50 rfl) rfl
theorem q1054 : (Jvm.Cond.methodLink "SilkRowLaw" (84 : Nat) ({ cls := "SilkRow", name := "inBasin", desc := "(II)I" } : Jvm.MethodName)) ∈ lw_all := lw_g (lw_at lw_m5 51 rfl) rfl
theorem q1058 : (Jvm.Cond.methodLink "SilkRowLaw" (181 : Nat) ({ cls := "SilkRowLaw", name := "ofSkein", desc := "(LSilkRow;II[J)I" } : Jvm.MethodName)) ∈ lw_all := lw_g (lw_at lw_m5 55 rfl) rfl
theorem q1059 : (Jvm.Cond.static ({ cls := "SilkRowLaw", name := "ofSkein", desc := "(LSilkRow;II[J)I" } : Jvm.MethodName)) ∈ lw_all := lw_g (lw_at lw_m5 56 rfl) rfl
theorem q1060 : (Jvm.Cond.codeWith ({ cls := "SilkRowLaw", name := "ofSkein", desc := "(LSilkRow;II[J)I" } : Jvm.MethodName) method_25_code (5 : Nat) (Option.some Jvm.ClassFile.FieldType.int) [((0 : Nat), (10 : Nat), (13 : Nat), (25 : Nat)), ((0 : Nat), (10 : Nat), (17 : Nat), (13 : Nat))]) ∈ lw_all := lw_g (lw_at lw_m5 57 rfl) rfl
theorem q1061 : (Jvm.Cond.methodLink "SilkRowLaw" (87 : Nat) ({ cls := "SilkRow", name := "ofSkein", desc := "(II)I" } : Jvm.MethodName)) ∈ lw_all := lw_g (lw_at lw_m5 58 rfl) rfl
theorem q1065 : (Jvm.Cond.methodLink "SilkRowLaw" (184 : Nat) ({ cls := "SilkRowLaw", name := "many", desc := "(LSilkRow;I[J)I" } : Jvm.MethodName)) ∈ lw_all := lw_g (lw_at lw_m5 62 rfl) rfl
theorem q1066 : (Jvm.Cond.static ({ cls := "SilkRowLaw", name := "many", desc := "(LSilkRow;I[J)I" } : Jvm.MethodName)) ∈ lw_all := lw_g (lw_at lw_m5 63 rfl) rfl
theorem q1067 : (Jvm.Cond.codeWith ({ cls := "SilkRowLaw", name := "many", desc := "(LSilkRow;I[J)I" } : Jvm.MethodName) method_26_code (4 : Nat) (Option.some Jvm.ClassFile.FieldType.int) [((0 : Nat), (9 : Nat), (12 : Nat), (13 : Nat))]) ∈ lw_all := lw_g (lw_at lw_m5 64 rfl) rfl
theorem q1068 : (Jvm.Cond.methodLink "SilkRowLaw" (90 : Nat) ({ cls := "SilkRow", name := "many", desc := "(I)I" } : Jvm.MethodName)) ∈ lw_all := lw_g (lw_at lw_m5 65 rfl) rfl
theorem q1072 : (Jvm.Cond.methodLink "SilkRowLaw" (192 : Nat) ({ cls := "SilkRowLaw", name := "ripeIn", desc := "(LSilkRow;I[J)I" } : Jvm.MethodName)) ∈ lw_all := lw_g (lw_at lw_m5 69 rfl) rfl
theorem q1073 : (Jvm.Cond.static ({ cls := "SilkRowLaw", name := "ripeIn", desc := "(LSilkRow;I[J)I" } : Jvm.MethodName)) ∈ lw_all := lw_g (lw_at lw_m5 70 rfl) rfl
theorem q1074 : (Jvm.Cond.codeWith ({ cls := "SilkRowLaw", name := "ripeIn", desc := "(LSilkRow;I[J)I" } : Jvm.MethodName) method_27_code (4 : Nat) (Option.some Jvm.ClassFile.FieldType.int) [((0 : Nat), (9 : Nat), (12 : Nat), (25 : Nat))]) ∈ lw_all := lw_g (lw_at lw_m5 71 rfl) rfl
theorem q1075 : (Jvm.Cond.methodLink "SilkRowLaw" (93 : Nat) ({ cls := "SilkRow", name := "ripeIn", desc := "(I)I" } : Jvm.MethodName)) ∈ lw_all := lw_g (lw_at lw_m5 72 rfl) rfl
theorem q1079 : (Jvm.Cond.methodLink "SilkRowLaw" (195 : Nat) ({ cls := "SilkRowLaw", name := "bestTarget", desc := "(LSilkRow;III[J)I" } : Jvm.MethodName)) ∈ lw_all := lw_g (lw_at lw_m5 76 rfl) rfl
theorem q1080 : (Jvm.Cond.static ({ cls := "SilkRowLaw", name := "bestTarget", desc := "(LSilkRow;III[J)I" } : Jvm.MethodName)) ∈ lw_all := lw_g (lw_at lw_m5 77 rfl) rfl
theorem q1081 : (Jvm.Cond.codeWith ({ cls := "SilkRowLaw", name := "bestTarget", desc := "(LSilkRow;III[J)I" } : Jvm.MethodName) method_28_code (6 : Nat) (Option.some Jvm.ClassFile.FieldType.int) [((0 : Nat), (12 : Nat), (15 : Nat), (25 : Nat)), ((0 : Nat), (12 : Nat), (19 : Nat), (13 : Nat)), ((0 : Nat), (12 : Nat), (23 : Nat), (15 : Nat))]) ∈ lw_all := lw_g (lw_at lw_m5 78 rfl) rfl
theorem q1082 : (Jvm.Cond.methodLink "SilkRowLaw" (96 : Nat) ({ cls := "SilkRow", name := "bestTarget", desc := "(III)I" } : Jvm.MethodName)) ∈ lw_all := lw_g (lw_at lw_m5 79 rfl) rfl
theorem q1086 : (Jvm.Cond.classLink "SilkRowLaw" (100 : Nat) "SilkRowModel") ∈ lw_all := lw_g (lw_at lw_m5 83 rfl) rfl
theorem q1088 : (Jvm.Cond.methodLink "SilkRowLaw" (102 : Nat) ({ cls := "SilkRowModel", name := "<init>", desc := "()V" } : Jvm.MethodName)) ∈ lw_all := lw_g (lw_at lw_m5 85 rfl) rfl
theorem q1223 : (Jvm.Cond.methodLink "SilkRowLaw" (109 : Nat) ({ cls := "SilkRowModel", name := "thrown", desc := "()I" } : Jvm.MethodName)) ∈ lw_all := lw_g (lw_at lw_m5 220 rfl) rfl
theorem q1227 : (Jvm.Cond.methodLink "SilkRowLaw" (108 : Nat) ({ cls := "SilkRowModel", name := "plot", desc := "(I)I" } : Jvm.MethodName)) ∈ lw_all := lw_g (lw_at lw_m5 224 rfl) rfl
theorem q1263 : (Jvm.Cond.methodLink "SilkRowLaw" (116 : Nat) ({ cls := "SilkRowModel", name := "pass", desc := "(IZI)I" } : Jvm.MethodName)) ∈ lw_all := lw_g (lw_at lw_m6 20 rfl) rfl
theorem q1317 : (Jvm.Cond.methodLink "SilkRowLaw" (120 : Nat) ({ cls := "SilkRowModel", name := "pick", desc := "(II)I" } : Jvm.MethodName)) ∈ lw_all := lw_g (lw_at lw_m6 74 rfl) rfl
theorem q1330 : (Jvm.Cond.methodLink "SilkRowLaw" (123 : Nat) ({ cls := "SilkRowModel", name := "prune", desc := "(I)I" } : Jvm.MethodName)) ∈ lw_all := lw_g (lw_at lw_m6 87 rfl) rfl
theorem q1338 : (Jvm.Cond.methodLink "SilkRowLaw" (126 : Nat) ({ cls := "SilkRowModel", name := "buy", desc := "(I)I" } : Jvm.MethodName)) ∈ lw_all := lw_g (lw_at lw_m6 95 rfl) rfl
theorem q1342 : (Jvm.Cond.methodLink "SilkRowLaw" (130 : Nat) ({ cls := "SilkRowModel", name := "line", desc := "(IIII)I" } : Jvm.MethodName)) ∈ lw_all := lw_g (lw_at lw_m6 99 rfl) rfl
theorem q1349 : (Jvm.Cond.methodLink "SilkRowLaw" (134 : Nat) ({ cls := "SilkRowModel", name := "hatch", desc := "(III)I" } : Jvm.MethodName)) ∈ lw_all := lw_g (lw_at lw_m6 106 rfl) rfl
theorem q1356 : (Jvm.Cond.methodLink "SilkRowLaw" (137 : Nat) ({ cls := "SilkRowModel", name := "feed", desc := "(II)I" } : Jvm.MethodName)) ∈ lw_all := lw_g (lw_at lw_m6 113 rfl) rfl
theorem q1360 : (Jvm.Cond.methodLink "SilkRowLaw" (140 : Nat) ({ cls := "SilkRowModel", name := "clean", desc := "(I)I" } : Jvm.MethodName)) ∈ lw_all := lw_g (lw_at lw_m6 117 rfl) rfl
theorem q1368 : (Jvm.Cond.methodLink "SilkRowLaw" (143 : Nat) ({ cls := "SilkRowModel", name := "part", desc := "(III)I" } : Jvm.MethodName)) ∈ lw_all := lw_g (lw_at lw_m6 125 rfl) rfl
theorem q1379 : (Jvm.Cond.methodLink "SilkRowLaw" (146 : Nat) ({ cls := "SilkRowModel", name := "mount", desc := "(I)I" } : Jvm.MethodName)) ∈ lw_all := lw_g (lw_at lw_m6 136 rfl) rfl
theorem q1422 : (Jvm.Cond.methodLink "SilkRowLaw" (149 : Nat) ({ cls := "SilkRowModel", name := "stifle", desc := "(I)I" } : Jvm.MethodName)) ∈ lw_all := lw_g (lw_at lw_m6 179 rfl) rfl
theorem q1434 : (Jvm.Cond.methodLink "SilkRowLaw" (153 : Nat) ({ cls := "SilkRowModel", name := "eggs", desc := "(IIZ)I" } : Jvm.MethodName)) ∈ lw_all := lw_g (lw_at lw_m6 191 rfl) rfl
theorem q1438 : (Jvm.Cond.methodLink "SilkRowLaw" (156 : Nat) ({ cls := "SilkRowModel", name := "reel", desc := "(IIII)I" } : Jvm.MethodName)) ∈ lw_all := lw_g (lw_at lw_m6 195 rfl) rfl
theorem q1516 : (Jvm.Cond.methodLink "SilkRowLaw" (159 : Nat) ({ cls := "SilkRowModel", name := "sell", desc := "(I)I" } : Jvm.MethodName)) ∈ lw_all := lw_g (lw_at lw_m7 33 rfl) rfl
theorem q1529 : (Jvm.Cond.methodLink "SilkRowLaw" (162 : Nat) ({ cls := "SilkRowModel", name := "borrow", desc := "(I)I" } : Jvm.MethodName)) ∈ lw_all := lw_g (lw_at lw_m7 46 rfl) rfl
theorem q1533 : (Jvm.Cond.methodLink "SilkRowLaw" (165 : Nat) ({ cls := "SilkRowModel", name := "pay", desc := "(I)I" } : Jvm.MethodName)) ∈ lw_all := lw_g (lw_at lw_m7 50 rfl) rfl
theorem q1537 : (Jvm.Cond.methodLink "SilkRowLaw" (168 : Nat) ({ cls := "SilkRowModel", name := "ofPlot", desc := "(II)I" } : Jvm.MethodName)) ∈ lw_all := lw_g (lw_at lw_m7 54 rfl) rfl
theorem q1545 : (Jvm.Cond.methodLink "SilkRowLaw" (171 : Nat) ({ cls := "SilkRowModel", name := "ofLine", desc := "(II)I" } : Jvm.MethodName)) ∈ lw_all := lw_g (lw_at lw_m7 62 rfl) rfl
theorem q1553 : (Jvm.Cond.methodLink "SilkRowLaw" (174 : Nat) ({ cls := "SilkRowModel", name := "ofTray", desc := "(II)I" } : Jvm.MethodName)) ∈ lw_all := lw_g (lw_at lw_m7 70 rfl) rfl
theorem q1562 : (Jvm.Cond.methodLink "SilkRowLaw" (177 : Nat) ({ cls := "SilkRowModel", name := "ofLot", desc := "(II)I" } : Jvm.MethodName)) ∈ lw_all := lw_g (lw_at lw_m7 79 rfl) rfl
theorem q1570 : (Jvm.Cond.methodLink "SilkRowLaw" (180 : Nat) ({ cls := "SilkRowModel", name := "inBasin", desc := "(II)I" } : Jvm.MethodName)) ∈ lw_all := lw_g (lw_at lw_m7 87 rfl) rfl
theorem q1580 : (Jvm.Cond.methodLink "SilkRowLaw" (183 : Nat) ({ cls := "SilkRowModel", name := "ofSkein", desc := "(II)I" } : Jvm.MethodName)) ∈ lw_all := lw_g (lw_at lw_m7 97 rfl) rfl
theorem q1588 : (Jvm.Cond.methodLink "SilkRowLaw" (186 : Nat) ({ cls := "SilkRowModel", name := "many", desc := "(I)I" } : Jvm.MethodName)) ∈ lw_all := lw_g (lw_at lw_m7 105 rfl) rfl
theorem q1596 : (Jvm.Cond.methodLink "SilkRowLaw" (191 : Nat) ({ cls := "SilkRowModel", name := "meanGrade", desc := "()D" } : Jvm.MethodName)) ∈ lw_all := lw_g (lw_at lw_m7 113 rfl) rfl
theorem q1600 : (Jvm.Cond.methodLink "SilkRowLaw" (194 : Nat) ({ cls := "SilkRowModel", name := "ripeIn", desc := "(I)I" } : Jvm.MethodName)) ∈ lw_all := lw_g (lw_at lw_m7 117 rfl) rfl
theorem q1608 : (Jvm.Cond.methodLink "SilkRowLaw" (197 : Nat) ({ cls := "SilkRowModel", name := "bestTarget", desc := "(III)I" } : Jvm.MethodName)) ∈ lw_all := lw_g (lw_at lw_m7 125 rfl) rfl
theorem q1659 : (Jvm.Cond.methodLink "SilkRowLaw" (202 : Nat) ({ cls := "SilkRowModel", name := "digest", desc := "()J" } : Jvm.MethodName)) ∈ lw_all := lw_g (lw_at lw_m7 176 rfl) rfl
/-! SilkRow$Line -/
set_option maxRecDepth 100000
def RX2 : String := "SilkRow$Line"
def TX2 : u_T := fun k => match k with
  | 0 => ("SilkRow$Line", "size", "I", false)
  | 1 => ("SilkRow$Line", "hardy", "I", false)
  | _ => ("SilkRow$Line", "taint", "I", false)
def tyX2 : Nat → FieldType := fun k => match k with
  | 0 => .int
  | 1 => .int
  | _ => .int
abbrev wsX20 : List Cond := u_ws RX2 TX2 3
theorem nmX2 : ∀ a, a < 3 → ∀ b, b < 3 → a ≠ b → (TX2 a).2.1 ≠ (TX2 b).2.1 := by decide +kernel
theorem tyX2_ok : ∀ k, k < 3 → parseFieldDescriptor (TX2 k).2.2.1 = some (tyX2 k) := by decide +kernel
abbrev cX2_init : ByteArray := prog_3_method_1_code
def yX2_init : MethodName := ⟨RX2, "<init>", "()V"⟩
def dkwX2_init_0 : List UInt8 := [42, 183, 0, 1, 42, 7, 181, 0, 7, 42, 6, 181, 0, 13, 177]
abbrev dktX2_init_0 : List UInt8 := dkwX2_init_0 ++ []
theorem dksX2_init_0 : cX2_init.data.toList.drop 0 = dktX2_init_0 := by decide +kernel
theorem dX2_init_0 : decode cX2_init 0 = .ok (.aload_n 0, 1) := dk_42 (dk_at dksX2_init_0 0 rfl rfl)
theorem dX2_init_1 : decode cX2_init 1 = .ok (.invokespecial 1, 3) := dk_183 0 1 (dk_at dksX2_init_0 1 rfl rfl)
theorem dX2_init_4 : decode cX2_init 4 = .ok (.aload_n 0, 1) := dk_42 (dk_at dksX2_init_0 4 rfl rfl)
theorem dX2_init_5 : decode cX2_init 5 = .ok (.iconst 4, 1) := dk_7 (dk_at dksX2_init_0 5 rfl rfl)
theorem dX2_init_6 : decode cX2_init 6 = .ok (.putfield 7, 3) := dk_181 0 7 (dk_at dksX2_init_0 6 rfl rfl)
theorem dX2_init_9 : decode cX2_init 9 = .ok (.aload_n 0, 1) := dk_42 (dk_at dksX2_init_0 9 rfl rfl)
theorem dX2_init_10 : decode cX2_init 10 = .ok (.iconst 3, 1) := dk_6 (dk_at dksX2_init_0 10 rfl rfl)
theorem dX2_init_11 : decode cX2_init 11 = .ok (.putfield 13, 3) := dk_181 0 13 (dk_at dksX2_init_0 11 rfl rfl)
theorem dX2_init_14 : decode cX2_init 14 = .ok (.return_, 1) := dk_177 (dk_at dksX2_init_0 14 rfl rfl)
theorem q48 : (Jvm.Cond.initialized "SilkRow$Line") ∈ lw_all := lw_g (lw_at lw_m1 5 rfl) rfl
theorem q115 : (Jvm.Cond.instantiable "SilkRow$Line" (3 : Nat)) ∈ lw_all := lw_g (lw_at lw_m1 72 rfl) rfl
theorem q117 : (Jvm.Cond.instanceMethod ({ cls := "SilkRow$Line", name := "<init>", desc := "()V" } : Jvm.MethodName)) ∈ lw_all := lw_g (lw_at lw_m1 74 rfl) rfl
theorem q118 : (Jvm.Cond.code ({ cls := "SilkRow$Line", name := "<init>", desc := "()V" } : Jvm.MethodName) prog_3_method_1_code (1 : Nat) (Option.none : Option Jvm.ClassFile.FieldType)) ∈ lw_all := lw_g (lw_at lw_m1 75 rfl) rfl
theorem q119 : (Jvm.Cond.methodLink "SilkRow$Line" (1 : Nat) ({ cls := "java/lang/Object", name := "<init>", desc := "()V" } : Jvm.MethodName)) ∈ lw_all := lw_g (lw_at lw_m1 76 rfl) rfl
theorem q120 : (Jvm.Cond.fieldLink "SilkRow$Line" (7 : Nat) "SilkRow$Line" "size" "I") ∈ lw_all := lw_g (lw_at lw_m1 77 rfl) rfl
theorem q122 : (Jvm.Cond.fieldLink "SilkRow$Line" (13 : Nat) "SilkRow$Line" "hardy" "I") ∈ lw_all := lw_g (lw_at lw_m1 79 rfl) rfl
theorem q125 : (Jvm.Cond.lays "SilkRow$Line" "SilkRow$Line" "size" "I") ∈ lw_all := lw_g (lw_at lw_m1 82 rfl) rfl
theorem q126 : (Jvm.Cond.soleField "SilkRow$Line" "size") ∈ lw_all := lw_g (lw_at lw_m1 83 rfl) rfl
theorem q127 : (Jvm.Cond.lays "SilkRow$Line" "SilkRow$Line" "hardy" "I") ∈ lw_all := lw_g (lw_at lw_m1 84 rfl) rfl
theorem q128 : (Jvm.Cond.soleField "SilkRow$Line" "hardy") ∈ lw_all := lw_g (lw_at lw_m1 85 rfl) rfl
theorem q129 : (Jvm.Cond.lays "SilkRow$Line" "SilkRow$Line" "taint" "I") ∈ lw_all := lw_g (lw_at lw_m1 86 rfl) rfl
theorem q130 : (Jvm.Cond.soleField "SilkRow$Line" "taint") ∈ lw_all := lw_g (lw_at lw_m1 87 rfl) rfl
theorem q131 : (Jvm.Cond.superclass "SilkRow$Line" "java/lang/Object") ∈ lw_all := lw_g (lw_at lw_m1 88 rfl) rfl
theorem q166 : (Jvm.Cond.selects "SilkRow$Line" ({ cls := "java/lang/Object", name := "getClass", desc := "()Ljava/lang/Class;" } : Jvm.MethodName) ({ cls := "java/lang/Object", name := "getClass", desc := "()Ljava/lang/Class;" } : Jvm.MethodName)) ∈ lw_all := lw_g (lw_at lw_m1 123 rfl) rfl
theorem q623 : (Jvm.Cond.selects "SilkRow$Line" ({ cls := "java/lang/Object", name := "equals", desc := "(Ljava/lang/Object;)Z" } : Jvm.MethodName) ({ cls := "java/lang/Object", name := "equals", desc := "(Ljava/lang/Object;)Z" } : Jvm.MethodName)) ∈ lw_all := lw_g (lw_at lw_m3 100 rfl) rfl
theorem q1678 : (Jvm.Cond.castable "SilkRow$Line" "java/lang/Object") ∈ lw_tbl := lw_at lw_m7 195 rfl
theorem in_X2 : ∀ w ∈ wsX20, w ∈ lw_all := lw_in wsX20 [125, 127, 129] (by decide +kernel) (by decide +kernel)
/-! SilkRow$Tray -/
set_option maxRecDepth 100000
def RX3 : String := "SilkRow$Tray"
def TX3 : u_T := fun k => match k with
  | 0 => ("SilkRow$Tray", "worms", "I", false)
  | 1 => ("SilkRow$Tray", "sick", "I", false)
  | 2 => ("SilkRow$Tray", "line", "I", false)
  | 3 => ("SilkRow$Tray", "instar", "I", false)
  | 4 => ("SilkRow$Tray", "eaten", "I", false)
  | 5 => ("SilkRow$Tray", "moult", "I", false)
  | 6 => ("SilkRow$Tray", "hunger", "I", false)
  | 7 => ("SilkRow$Tray", "litter", "I", false)
  | 8 => ("SilkRow$Tray", "given", "I", false)
  | 9 => ("SilkRow$Tray", "wetness", "I", false)
  | _ => ("SilkRow$Tray", "isRipe", "Z", false)
def tyX3 : Nat → FieldType := fun k => match k with
  | 0 => .int
  | 1 => .int
  | 2 => .int
  | 3 => .int
  | 4 => .int
  | 5 => .int
  | 6 => .int
  | 7 => .int
  | 8 => .int
  | 9 => .int
  | _ => .boolean
abbrev wsX30 : List Cond := u_ws RX3 TX3 11
theorem nmX3 : ∀ a, a < 11 → ∀ b, b < 11 → a ≠ b → (TX3 a).2.1 ≠ (TX3 b).2.1 := by decide +kernel
theorem tyX3_ok : ∀ k, k < 11 → parseFieldDescriptor (TX3 k).2.2.1 = some (tyX3 k) := by decide +kernel
abbrev cX3_init : ByteArray := prog_7_method_1_code
def yX3_init : MethodName := ⟨RX3, "<init>", "()V"⟩
def dkwX3_init_0 : List UInt8 := [42, 183, 0, 3, 42, 2, 181, 0, 9, 177]
abbrev dktX3_init_0 : List UInt8 := dkwX3_init_0 ++ []
theorem dksX3_init_0 : cX3_init.data.toList.drop 0 = dktX3_init_0 := by decide +kernel
theorem dX3_init_0 : decode cX3_init 0 = .ok (.aload_n 0, 1) := dk_42 (dk_at dksX3_init_0 0 rfl rfl)
theorem dX3_init_1 : decode cX3_init 1 = .ok (.invokespecial 3, 3) := dk_183 0 3 (dk_at dksX3_init_0 1 rfl rfl)
theorem dX3_init_4 : decode cX3_init 4 = .ok (.aload_n 0, 1) := dk_42 (dk_at dksX3_init_0 4 rfl rfl)
theorem dX3_init_5 : decode cX3_init 5 = .ok (.iconst (-1), 1) := dk_2 (dk_at dksX3_init_0 5 rfl rfl)
theorem dX3_init_6 : decode cX3_init 6 = .ok (.putfield 9, 3) := dk_181 0 9 (dk_at dksX3_init_0 6 rfl rfl)
theorem dX3_init_9 : decode cX3_init 9 = .ok (.return_, 1) := dk_177 (dk_at dksX3_init_0 9 rfl rfl)
abbrev cX3_need : ByteArray := prog_7_method_5_code
def yX3_need : MethodName := ⟨RX3, "need", "()I"⟩
def dkwX3_need_0 : List UInt8 := [42, 180, 0, 16, 42, 180, 0, 22, 104, 7, 184, 0, 51, 172]
abbrev dktX3_need_0 : List UInt8 := dkwX3_need_0 ++ []
theorem dksX3_need_0 : cX3_need.data.toList.drop 0 = dktX3_need_0 := by decide +kernel
theorem dX3_need_0 : decode cX3_need 0 = .ok (.aload_n 0, 1) := dk_42 (dk_at dksX3_need_0 0 rfl rfl)
theorem dX3_need_1 : decode cX3_need 1 = .ok (.getfield 16, 3) := dk_180 0 16 (dk_at dksX3_need_0 1 rfl rfl)
theorem dX3_need_4 : decode cX3_need 4 = .ok (.aload_n 0, 1) := dk_42 (dk_at dksX3_need_0 4 rfl rfl)
theorem dX3_need_5 : decode cX3_need 5 = .ok (.getfield 22, 3) := dk_180 0 22 (dk_at dksX3_need_0 5 rfl rfl)
theorem dX3_need_8 : decode cX3_need 8 = .ok (.imul, 1) := dk_104 (dk_at dksX3_need_0 8 rfl rfl)
theorem dX3_need_9 : decode cX3_need 9 = .ok (.iconst 4, 1) := dk_7 (dk_at dksX3_need_0 9 rfl rfl)
theorem dX3_need_10 : decode cX3_need 10 = .ok (.invokestatic 51, 3) := dk_184 0 51 (dk_at dksX3_need_0 10 rfl rfl)
theorem dX3_need_13 : decode cX3_need 13 = .ok (.ireturn, 1) := dk_172 (dk_at dksX3_need_0 13 rfl rfl)
abbrev cX3_copy : ByteArray := prog_7_method_2_code
def yX3_copy : MethodName := ⟨RX3, "copy", "()LSilkRow$Tray;"⟩
def dkwX3_copy_4 : List UInt8 := [43, 176]
abbrev dktX3_copy_4 : List UInt8 := dkwX3_copy_4 ++ []
def dkwX3_copy_3 : List UInt8 := [43, 42, 180, 0, 37, 181, 0, 37, 43, 42, 180, 0, 40, 181, 0, 40, 43, 42, 180, 0, 43, 181, 0, 43]
abbrev dktX3_copy_3 : List UInt8 := dkwX3_copy_3 ++ dktX3_copy_4
def dkwX3_copy_2 : List UInt8 := [43, 42, 180, 0, 28, 181, 0, 28, 43, 42, 180, 0, 31, 181, 0, 31, 43, 42, 180, 0, 34, 181, 0, 34]
abbrev dktX3_copy_2 : List UInt8 := dkwX3_copy_2 ++ dktX3_copy_3
def dkwX3_copy_1 : List UInt8 := [43, 42, 180, 0, 9, 181, 0, 9, 43, 42, 180, 0, 22, 181, 0, 22, 43, 42, 180, 0, 25, 181, 0, 25]
abbrev dktX3_copy_1 : List UInt8 := dkwX3_copy_1 ++ dktX3_copy_2
def dkwX3_copy_0 : List UInt8 := [187, 0, 10, 89, 183, 0, 15, 76, 43, 42, 180, 0, 16, 181, 0, 16, 43, 42, 180, 0, 19, 181, 0, 19]
abbrev dktX3_copy_0 : List UInt8 := dkwX3_copy_0 ++ dktX3_copy_1
theorem dksX3_copy_0 : cX3_copy.data.toList.drop 0 = dktX3_copy_0 := by decide +kernel
theorem dksX3_copy_1 : cX3_copy.data.toList.drop 24 = dktX3_copy_1 := dk_seg dksX3_copy_0 24 rfl rfl
theorem dksX3_copy_2 : cX3_copy.data.toList.drop 48 = dktX3_copy_2 := dk_seg dksX3_copy_1 24 rfl rfl
theorem dksX3_copy_3 : cX3_copy.data.toList.drop 72 = dktX3_copy_3 := dk_seg dksX3_copy_2 24 rfl rfl
theorem dksX3_copy_4 : cX3_copy.data.toList.drop 96 = dktX3_copy_4 := dk_seg dksX3_copy_3 24 rfl rfl
theorem dX3_copy_0 : decode cX3_copy 0 = .ok (.new 10, 3) := dk_187 0 10 (dk_at dksX3_copy_0 0 rfl rfl)
theorem dX3_copy_3 : decode cX3_copy 3 = .ok (.dup, 1) := dk_89 (dk_at dksX3_copy_0 3 rfl rfl)
theorem dX3_copy_4 : decode cX3_copy 4 = .ok (.invokespecial 15, 3) := dk_183 0 15 (dk_at dksX3_copy_0 4 rfl rfl)
theorem dX3_copy_7 : decode cX3_copy 7 = .ok (.astore_n 1, 1) := dk_76 (dk_at dksX3_copy_0 7 rfl rfl)
theorem dX3_copy_8 : decode cX3_copy 8 = .ok (.aload_n 1, 1) := dk_43 (dk_at dksX3_copy_0 8 rfl rfl)
theorem dX3_copy_9 : decode cX3_copy 9 = .ok (.aload_n 0, 1) := dk_42 (dk_at dksX3_copy_0 9 rfl rfl)
theorem dX3_copy_10 : decode cX3_copy 10 = .ok (.getfield 16, 3) := dk_180 0 16 (dk_at dksX3_copy_0 10 rfl rfl)
theorem dX3_copy_13 : decode cX3_copy 13 = .ok (.putfield 16, 3) := dk_181 0 16 (dk_at dksX3_copy_0 13 rfl rfl)
theorem dX3_copy_16 : decode cX3_copy 16 = .ok (.aload_n 1, 1) := dk_43 (dk_at dksX3_copy_0 16 rfl rfl)
theorem dX3_copy_17 : decode cX3_copy 17 = .ok (.aload_n 0, 1) := dk_42 (dk_at dksX3_copy_0 17 rfl rfl)
theorem dX3_copy_18 : decode cX3_copy 18 = .ok (.getfield 19, 3) := dk_180 0 19 (dk_at dksX3_copy_0 18 rfl rfl)
theorem dX3_copy_21 : decode cX3_copy 21 = .ok (.putfield 19, 3) := dk_181 0 19 (dk_at dksX3_copy_0 21 rfl rfl)
theorem dX3_copy_24 : decode cX3_copy 24 = .ok (.aload_n 1, 1) := dk_43 (dk_at dksX3_copy_1 0 rfl rfl)
theorem dX3_copy_25 : decode cX3_copy 25 = .ok (.aload_n 0, 1) := dk_42 (dk_at dksX3_copy_1 1 rfl rfl)
theorem dX3_copy_26 : decode cX3_copy 26 = .ok (.getfield 9, 3) := dk_180 0 9 (dk_at dksX3_copy_1 2 rfl rfl)
theorem dX3_copy_29 : decode cX3_copy 29 = .ok (.putfield 9, 3) := dk_181 0 9 (dk_at dksX3_copy_1 5 rfl rfl)
theorem dX3_copy_32 : decode cX3_copy 32 = .ok (.aload_n 1, 1) := dk_43 (dk_at dksX3_copy_1 8 rfl rfl)
theorem dX3_copy_33 : decode cX3_copy 33 = .ok (.aload_n 0, 1) := dk_42 (dk_at dksX3_copy_1 9 rfl rfl)
theorem dX3_copy_34 : decode cX3_copy 34 = .ok (.getfield 22, 3) := dk_180 0 22 (dk_at dksX3_copy_1 10 rfl rfl)
theorem dX3_copy_37 : decode cX3_copy 37 = .ok (.putfield 22, 3) := dk_181 0 22 (dk_at dksX3_copy_1 13 rfl rfl)
theorem dX3_copy_40 : decode cX3_copy 40 = .ok (.aload_n 1, 1) := dk_43 (dk_at dksX3_copy_1 16 rfl rfl)
theorem dX3_copy_41 : decode cX3_copy 41 = .ok (.aload_n 0, 1) := dk_42 (dk_at dksX3_copy_1 17 rfl rfl)
theorem dX3_copy_42 : decode cX3_copy 42 = .ok (.getfield 25, 3) := dk_180 0 25 (dk_at dksX3_copy_1 18 rfl rfl)
theorem dX3_copy_45 : decode cX3_copy 45 = .ok (.putfield 25, 3) := dk_181 0 25 (dk_at dksX3_copy_1 21 rfl rfl)
theorem dX3_copy_48 : decode cX3_copy 48 = .ok (.aload_n 1, 1) := dk_43 (dk_at dksX3_copy_2 0 rfl rfl)
theorem dX3_copy_49 : decode cX3_copy 49 = .ok (.aload_n 0, 1) := dk_42 (dk_at dksX3_copy_2 1 rfl rfl)
theorem dX3_copy_50 : decode cX3_copy 50 = .ok (.getfield 28, 3) := dk_180 0 28 (dk_at dksX3_copy_2 2 rfl rfl)
theorem dX3_copy_53 : decode cX3_copy 53 = .ok (.putfield 28, 3) := dk_181 0 28 (dk_at dksX3_copy_2 5 rfl rfl)
theorem dX3_copy_56 : decode cX3_copy 56 = .ok (.aload_n 1, 1) := dk_43 (dk_at dksX3_copy_2 8 rfl rfl)
theorem dX3_copy_57 : decode cX3_copy 57 = .ok (.aload_n 0, 1) := dk_42 (dk_at dksX3_copy_2 9 rfl rfl)
theorem dX3_copy_58 : decode cX3_copy 58 = .ok (.getfield 31, 3) := dk_180 0 31 (dk_at dksX3_copy_2 10 rfl rfl)
theorem dX3_copy_61 : decode cX3_copy 61 = .ok (.putfield 31, 3) := dk_181 0 31 (dk_at dksX3_copy_2 13 rfl rfl)
theorem dX3_copy_64 : decode cX3_copy 64 = .ok (.aload_n 1, 1) := dk_43 (dk_at dksX3_copy_2 16 rfl rfl)
theorem dX3_copy_65 : decode cX3_copy 65 = .ok (.aload_n 0, 1) := dk_42 (dk_at dksX3_copy_2 17 rfl rfl)
theorem dX3_copy_66 : decode cX3_copy 66 = .ok (.getfield 34, 3) := dk_180 0 34 (dk_at dksX3_copy_2 18 rfl rfl)
theorem dX3_copy_69 : decode cX3_copy 69 = .ok (.putfield 34, 3) := dk_181 0 34 (dk_at dksX3_copy_2 21 rfl rfl)
theorem dX3_copy_72 : decode cX3_copy 72 = .ok (.aload_n 1, 1) := dk_43 (dk_at dksX3_copy_3 0 rfl rfl)
theorem dX3_copy_73 : decode cX3_copy 73 = .ok (.aload_n 0, 1) := dk_42 (dk_at dksX3_copy_3 1 rfl rfl)
theorem dX3_copy_74 : decode cX3_copy 74 = .ok (.getfield 37, 3) := dk_180 0 37 (dk_at dksX3_copy_3 2 rfl rfl)
theorem dX3_copy_77 : decode cX3_copy 77 = .ok (.putfield 37, 3) := dk_181 0 37 (dk_at dksX3_copy_3 5 rfl rfl)
theorem dX3_copy_80 : decode cX3_copy 80 = .ok (.aload_n 1, 1) := dk_43 (dk_at dksX3_copy_3 8 rfl rfl)
theorem dX3_copy_81 : decode cX3_copy 81 = .ok (.aload_n 0, 1) := dk_42 (dk_at dksX3_copy_3 9 rfl rfl)
theorem dX3_copy_82 : decode cX3_copy 82 = .ok (.getfield 40, 3) := dk_180 0 40 (dk_at dksX3_copy_3 10 rfl rfl)
theorem dX3_copy_85 : decode cX3_copy 85 = .ok (.putfield 40, 3) := dk_181 0 40 (dk_at dksX3_copy_3 13 rfl rfl)
theorem dX3_copy_88 : decode cX3_copy 88 = .ok (.aload_n 1, 1) := dk_43 (dk_at dksX3_copy_3 16 rfl rfl)
theorem dX3_copy_89 : decode cX3_copy 89 = .ok (.aload_n 0, 1) := dk_42 (dk_at dksX3_copy_3 17 rfl rfl)
theorem dX3_copy_90 : decode cX3_copy 90 = .ok (.getfield 43, 3) := dk_180 0 43 (dk_at dksX3_copy_3 18 rfl rfl)
theorem dX3_copy_93 : decode cX3_copy 93 = .ok (.putfield 43, 3) := dk_181 0 43 (dk_at dksX3_copy_3 21 rfl rfl)
theorem dX3_copy_96 : decode cX3_copy 96 = .ok (.aload_n 1, 1) := dk_43 (dk_at dksX3_copy_4 0 rfl rfl)
theorem dX3_copy_97 : decode cX3_copy 97 = .ok (.areturn, 1) := dk_176 (dk_at dksX3_copy_4 1 rfl rfl)
abbrev cX3_pass : ByteArray := prog_7_method_7_code
def yX3_pass : MethodName := ⟨RX3, "pass", "(I)I"⟩
def dkwX3_pass_5 : List UInt8 := [181, 0, 40, 28, 42, 42, 180, 0, 19, 8, 108, 182, 0, 74, 96, 172]
abbrev dktX3_pass_5 : List UInt8 := dkwX3_pass_5 ++ []
def dkwX3_pass_4 : List UInt8 := [180, 0, 19, 100, 29, 184, 0, 71, 184, 0, 55, 96, 181, 0, 19, 42, 3, 181, 0, 37, 42, 3]
abbrev dktX3_pass_4 : List UInt8 := dkwX3_pass_4 ++ dktX3_pass_5
def dkwX3_pass_3 : List UInt8 := [167, 0, 4, 3, 184, 0, 67, 96, 27, 6, 108, 100, 62, 42, 89, 180, 0, 19, 3, 42, 180, 0, 16, 42]
abbrev dktX3_pass_3 : List UInt8 := dkwX3_pass_3 ++ dktX3_pass_4
def dkwX3_pass_2 : List UInt8 := [180, 0, 40, 158, 0, 7, 4, 167, 0, 4, 3, 184, 0, 67, 96, 42, 180, 0, 34, 7, 161, 0, 7, 4]
abbrev dktX3_pass_2 : List UInt8 := dkwX3_pass_2 ++ dktX3_pass_3
def dkwX3_pass_1 : List UInt8 := [17, 0, 200, 164, 0, 12, 42, 180, 0, 19, 5, 108, 167, 0, 9, 42, 180, 0, 19, 7, 108, 42]
abbrev dktX3_pass_1 : List UInt8 := dkwX3_pass_1 ++ dktX3_pass_2
def dkwX3_pass_0 : List UInt8 := [42, 182, 0, 63, 61, 42, 180, 0, 16, 154, 0, 5, 28, 172, 42, 180, 0, 16, 42, 180, 0, 22, 104]
abbrev dktX3_pass_0 : List UInt8 := dkwX3_pass_0 ++ dktX3_pass_1
theorem dksX3_pass_0 : cX3_pass.data.toList.drop 0 = dktX3_pass_0 := by decide +kernel
theorem dksX3_pass_1 : cX3_pass.data.toList.drop 23 = dktX3_pass_1 := dk_seg dksX3_pass_0 23 rfl rfl
theorem dksX3_pass_2 : cX3_pass.data.toList.drop 45 = dktX3_pass_2 := dk_seg dksX3_pass_1 22 rfl rfl
theorem dksX3_pass_3 : cX3_pass.data.toList.drop 69 = dktX3_pass_3 := dk_seg dksX3_pass_2 24 rfl rfl
theorem dksX3_pass_4 : cX3_pass.data.toList.drop 93 = dktX3_pass_4 := dk_seg dksX3_pass_3 24 rfl rfl
theorem dksX3_pass_5 : cX3_pass.data.toList.drop 115 = dktX3_pass_5 := dk_seg dksX3_pass_4 22 rfl rfl
theorem dX3_pass_0 : decode cX3_pass 0 = .ok (.aload_n 0, 1) := dk_42 (dk_at dksX3_pass_0 0 rfl rfl)
theorem dX3_pass_1 : decode cX3_pass 1 = .ok (.invokevirtual 63, 3) := dk_182 0 63 (dk_at dksX3_pass_0 1 rfl rfl)
theorem dX3_pass_4 : decode cX3_pass 4 = .ok (.istore_n 2, 1) := dk_61 (dk_at dksX3_pass_0 4 rfl rfl)
theorem dX3_pass_5 : decode cX3_pass 5 = .ok (.aload_n 0, 1) := dk_42 (dk_at dksX3_pass_0 5 rfl rfl)
theorem dX3_pass_6 : decode cX3_pass 6 = .ok (.getfield 16, 3) := dk_180 0 16 (dk_at dksX3_pass_0 6 rfl rfl)
theorem dX3_pass_9 : decode cX3_pass 9 = .ok (.ifCond .ne 5, 3) := dk_154 0 5 (dk_at dksX3_pass_0 9 rfl rfl)
theorem dX3_pass_12 : decode cX3_pass 12 = .ok (.iload_n 2, 1) := dk_28 (dk_at dksX3_pass_0 12 rfl rfl)
theorem dX3_pass_13 : decode cX3_pass 13 = .ok (.ireturn, 1) := dk_172 (dk_at dksX3_pass_0 13 rfl rfl)
theorem dX3_pass_14 : decode cX3_pass 14 = .ok (.aload_n 0, 1) := dk_42 (dk_at dksX3_pass_0 14 rfl rfl)
theorem dX3_pass_15 : decode cX3_pass 15 = .ok (.getfield 16, 3) := dk_180 0 16 (dk_at dksX3_pass_0 15 rfl rfl)
theorem dX3_pass_18 : decode cX3_pass 18 = .ok (.aload_n 0, 1) := dk_42 (dk_at dksX3_pass_0 18 rfl rfl)
theorem dX3_pass_19 : decode cX3_pass 19 = .ok (.getfield 22, 3) := dk_180 0 22 (dk_at dksX3_pass_0 19 rfl rfl)
theorem dX3_pass_22 : decode cX3_pass 22 = .ok (.imul, 1) := dk_104 (dk_at dksX3_pass_0 22 rfl rfl)
theorem dX3_pass_23 : decode cX3_pass 23 = .ok (.sipush 200, 3) := dk_17 0 200 (dk_at dksX3_pass_1 0 rfl rfl)
theorem dX3_pass_26 : decode cX3_pass 26 = .ok (.if_icmp .le 12, 3) := dk_164 0 12 (dk_at dksX3_pass_1 3 rfl rfl)
theorem dX3_pass_29 : decode cX3_pass 29 = .ok (.aload_n 0, 1) := dk_42 (dk_at dksX3_pass_1 6 rfl rfl)
theorem dX3_pass_30 : decode cX3_pass 30 = .ok (.getfield 19, 3) := dk_180 0 19 (dk_at dksX3_pass_1 7 rfl rfl)
theorem dX3_pass_33 : decode cX3_pass 33 = .ok (.iconst 2, 1) := dk_5 (dk_at dksX3_pass_1 10 rfl rfl)
theorem dX3_pass_34 : decode cX3_pass 34 = .ok (.idiv, 1) := dk_108 (dk_at dksX3_pass_1 11 rfl rfl)
theorem dX3_pass_35 : decode cX3_pass 35 = .ok (.goto 9, 3) := dk_167 0 9 (dk_at dksX3_pass_1 12 rfl rfl)
theorem dX3_pass_38 : decode cX3_pass 38 = .ok (.aload_n 0, 1) := dk_42 (dk_at dksX3_pass_1 15 rfl rfl)
theorem dX3_pass_39 : decode cX3_pass 39 = .ok (.getfield 19, 3) := dk_180 0 19 (dk_at dksX3_pass_1 16 rfl rfl)
theorem dX3_pass_42 : decode cX3_pass 42 = .ok (.iconst 4, 1) := dk_7 (dk_at dksX3_pass_1 19 rfl rfl)
theorem dX3_pass_43 : decode cX3_pass 43 = .ok (.idiv, 1) := dk_108 (dk_at dksX3_pass_1 20 rfl rfl)
theorem dX3_pass_44 : decode cX3_pass 44 = .ok (.aload_n 0, 1) := dk_42 (dk_at dksX3_pass_1 21 rfl rfl)
theorem dX3_pass_45 : decode cX3_pass 45 = .ok (.getfield 40, 3) := dk_180 0 40 (dk_at dksX3_pass_2 0 rfl rfl)
theorem dX3_pass_48 : decode cX3_pass 48 = .ok (.ifCond .le 7, 3) := dk_158 0 7 (dk_at dksX3_pass_2 3 rfl rfl)
theorem dX3_pass_51 : decode cX3_pass 51 = .ok (.iconst 1, 1) := dk_4 (dk_at dksX3_pass_2 6 rfl rfl)
theorem dX3_pass_52 : decode cX3_pass 52 = .ok (.goto 4, 3) := dk_167 0 4 (dk_at dksX3_pass_2 7 rfl rfl)
theorem dX3_pass_55 : decode cX3_pass 55 = .ok (.iconst 0, 1) := dk_3 (dk_at dksX3_pass_2 10 rfl rfl)
theorem dX3_pass_56 : decode cX3_pass 56 = .ok (.invokestatic 67, 3) := dk_184 0 67 (dk_at dksX3_pass_2 11 rfl rfl)
theorem dX3_pass_59 : decode cX3_pass 59 = .ok (.iadd, 1) := dk_96 (dk_at dksX3_pass_2 14 rfl rfl)
theorem dX3_pass_60 : decode cX3_pass 60 = .ok (.aload_n 0, 1) := dk_42 (dk_at dksX3_pass_2 15 rfl rfl)
theorem dX3_pass_61 : decode cX3_pass 61 = .ok (.getfield 34, 3) := dk_180 0 34 (dk_at dksX3_pass_2 16 rfl rfl)
theorem dX3_pass_64 : decode cX3_pass 64 = .ok (.iconst 4, 1) := dk_7 (dk_at dksX3_pass_2 19 rfl rfl)
theorem dX3_pass_65 : decode cX3_pass 65 = .ok (.if_icmp .lt 7, 3) := dk_161 0 7 (dk_at dksX3_pass_2 20 rfl rfl)
theorem dX3_pass_68 : decode cX3_pass 68 = .ok (.iconst 1, 1) := dk_4 (dk_at dksX3_pass_2 23 rfl rfl)
theorem dX3_pass_69 : decode cX3_pass 69 = .ok (.goto 4, 3) := dk_167 0 4 (dk_at dksX3_pass_3 0 rfl rfl)
theorem dX3_pass_72 : decode cX3_pass 72 = .ok (.iconst 0, 1) := dk_3 (dk_at dksX3_pass_3 3 rfl rfl)
theorem dX3_pass_73 : decode cX3_pass 73 = .ok (.invokestatic 67, 3) := dk_184 0 67 (dk_at dksX3_pass_3 4 rfl rfl)
theorem dX3_pass_76 : decode cX3_pass 76 = .ok (.iadd, 1) := dk_96 (dk_at dksX3_pass_3 7 rfl rfl)
theorem dX3_pass_77 : decode cX3_pass 77 = .ok (.iload_n 1, 1) := dk_27 (dk_at dksX3_pass_3 8 rfl rfl)
theorem dX3_pass_78 : decode cX3_pass 78 = .ok (.iconst 3, 1) := dk_6 (dk_at dksX3_pass_3 9 rfl rfl)
theorem dX3_pass_79 : decode cX3_pass 79 = .ok (.idiv, 1) := dk_108 (dk_at dksX3_pass_3 10 rfl rfl)
theorem dX3_pass_80 : decode cX3_pass 80 = .ok (.isub, 1) := dk_100 (dk_at dksX3_pass_3 11 rfl rfl)
theorem dX3_pass_81 : decode cX3_pass 81 = .ok (.istore_n 3, 1) := dk_62 (dk_at dksX3_pass_3 12 rfl rfl)
theorem dX3_pass_82 : decode cX3_pass 82 = .ok (.aload_n 0, 1) := dk_42 (dk_at dksX3_pass_3 13 rfl rfl)
theorem dX3_pass_83 : decode cX3_pass 83 = .ok (.dup, 1) := dk_89 (dk_at dksX3_pass_3 14 rfl rfl)
theorem dX3_pass_84 : decode cX3_pass 84 = .ok (.getfield 19, 3) := dk_180 0 19 (dk_at dksX3_pass_3 15 rfl rfl)
theorem dX3_pass_87 : decode cX3_pass 87 = .ok (.iconst 0, 1) := dk_3 (dk_at dksX3_pass_3 18 rfl rfl)
theorem dX3_pass_88 : decode cX3_pass 88 = .ok (.aload_n 0, 1) := dk_42 (dk_at dksX3_pass_3 19 rfl rfl)
theorem dX3_pass_89 : decode cX3_pass 89 = .ok (.getfield 16, 3) := dk_180 0 16 (dk_at dksX3_pass_3 20 rfl rfl)
theorem dX3_pass_92 : decode cX3_pass 92 = .ok (.aload_n 0, 1) := dk_42 (dk_at dksX3_pass_3 23 rfl rfl)
theorem dX3_pass_93 : decode cX3_pass 93 = .ok (.getfield 19, 3) := dk_180 0 19 (dk_at dksX3_pass_4 0 rfl rfl)
theorem dX3_pass_96 : decode cX3_pass 96 = .ok (.isub, 1) := dk_100 (dk_at dksX3_pass_4 3 rfl rfl)
theorem dX3_pass_97 : decode cX3_pass 97 = .ok (.iload_n 3, 1) := dk_29 (dk_at dksX3_pass_4 4 rfl rfl)
theorem dX3_pass_98 : decode cX3_pass 98 = .ok (.invokestatic 71, 3) := dk_184 0 71 (dk_at dksX3_pass_4 5 rfl rfl)
theorem dX3_pass_101 : decode cX3_pass 101 = .ok (.invokestatic 55, 3) := dk_184 0 55 (dk_at dksX3_pass_4 8 rfl rfl)
theorem dX3_pass_104 : decode cX3_pass 104 = .ok (.iadd, 1) := dk_96 (dk_at dksX3_pass_4 11 rfl rfl)
theorem dX3_pass_105 : decode cX3_pass 105 = .ok (.putfield 19, 3) := dk_181 0 19 (dk_at dksX3_pass_4 12 rfl rfl)
theorem dX3_pass_108 : decode cX3_pass 108 = .ok (.aload_n 0, 1) := dk_42 (dk_at dksX3_pass_4 15 rfl rfl)
theorem dX3_pass_109 : decode cX3_pass 109 = .ok (.iconst 0, 1) := dk_3 (dk_at dksX3_pass_4 16 rfl rfl)
theorem dX3_pass_110 : decode cX3_pass 110 = .ok (.putfield 37, 3) := dk_181 0 37 (dk_at dksX3_pass_4 17 rfl rfl)
theorem dX3_pass_113 : decode cX3_pass 113 = .ok (.aload_n 0, 1) := dk_42 (dk_at dksX3_pass_4 20 rfl rfl)
theorem dX3_pass_114 : decode cX3_pass 114 = .ok (.iconst 0, 1) := dk_3 (dk_at dksX3_pass_4 21 rfl rfl)
theorem dX3_pass_115 : decode cX3_pass 115 = .ok (.putfield 40, 3) := dk_181 0 40 (dk_at dksX3_pass_5 0 rfl rfl)
theorem dX3_pass_118 : decode cX3_pass 118 = .ok (.iload_n 2, 1) := dk_28 (dk_at dksX3_pass_5 3 rfl rfl)
theorem dX3_pass_119 : decode cX3_pass 119 = .ok (.aload_n 0, 1) := dk_42 (dk_at dksX3_pass_5 4 rfl rfl)
theorem dX3_pass_120 : decode cX3_pass 120 = .ok (.aload_n 0, 1) := dk_42 (dk_at dksX3_pass_5 5 rfl rfl)
theorem dX3_pass_121 : decode cX3_pass 121 = .ok (.getfield 19, 3) := dk_180 0 19 (dk_at dksX3_pass_5 6 rfl rfl)
theorem dX3_pass_124 : decode cX3_pass 124 = .ok (.iconst 5, 1) := dk_8 (dk_at dksX3_pass_5 9 rfl rfl)
theorem dX3_pass_125 : decode cX3_pass 125 = .ok (.idiv, 1) := dk_108 (dk_at dksX3_pass_5 10 rfl rfl)
theorem dX3_pass_126 : decode cX3_pass 126 = .ok (.invokevirtual 74, 3) := dk_182 0 74 (dk_at dksX3_pass_5 11 rfl rfl)
theorem dX3_pass_129 : decode cX3_pass 129 = .ok (.iadd, 1) := dk_96 (dk_at dksX3_pass_5 14 rfl rfl)
theorem dX3_pass_130 : decode cX3_pass 130 = .ok (.ireturn, 1) := dk_172 (dk_at dksX3_pass_5 15 rfl rfl)
abbrev cX3_grow : ByteArray := prog_7_method_8_code
def yX3_grow : MethodName := ⟨RX3, "grow", "()I"⟩
def dkwX3_grow_7 : List UInt8 := [167, 0, 8, 42, 5, 181, 0, 28, 27, 172]
abbrev dktX3_grow_7 : List UInt8 := dkwX3_grow_7 ++ []
def dkwX3_grow_6 : List UInt8 := [6, 162, 0, 5, 27, 172, 42, 3, 181, 0, 25, 42, 180, 0, 22, 8, 160, 0, 11, 42, 4, 181, 0, 43]
abbrev dktX3_grow_6 : List UInt8 := dkwX3_grow_6 ++ dktX3_grow_7
def dkwX3_grow_5 : List UInt8 := [60, 42, 180, 0, 16, 153, 0, 23, 42, 180, 0, 25, 42, 180, 0, 22, 8, 160, 0, 7, 8, 167, 0, 4]
abbrev dktX3_grow_5 : List UInt8 := dkwX3_grow_5 ++ dktX3_grow_6
def dkwX3_grow_4 : List UInt8 := [181, 0, 31, 42, 180, 0, 31, 5, 161, 0, 17, 42, 42, 180, 0, 16, 16, 10, 184, 0, 51, 182, 0, 74]
abbrev dktX3_grow_4 : List UInt8 := dkwX3_grow_4 ++ dktX3_grow_5
def dkwX3_grow_3 : List UInt8 := [181, 0, 31, 42, 89, 180, 0, 34, 4, 96, 181, 0, 34, 167, 0, 35, 42, 89, 180, 0, 31, 4, 96]
abbrev dktX3_grow_3 : List UInt8 := dkwX3_grow_3 ++ dktX3_grow_4
def dkwX3_grow_2 : List UInt8 := [180, 0, 37, 42, 182, 0, 78, 161, 0, 31, 42, 89, 180, 0, 25, 4, 96, 181, 0, 25, 42, 3]
abbrev dktX3_grow_2 : List UInt8 := dkwX3_grow_2 ++ dktX3_grow_3
def dkwX3_grow_1 : List UInt8 := [180, 0, 28, 154, 0, 7, 4, 167, 0, 4, 3, 184, 0, 67, 96, 181, 0, 22, 3, 172, 3, 60, 42]
abbrev dktX3_grow_1 : List UInt8 := dkwX3_grow_1 ++ dktX3_grow_2
def dkwX3_grow_0 : List UInt8 := [42, 180, 0, 28, 158, 0, 39, 42, 89, 180, 0, 28, 4, 100, 181, 0, 28, 42, 89, 180, 0, 22, 42]
abbrev dktX3_grow_0 : List UInt8 := dkwX3_grow_0 ++ dktX3_grow_1
theorem dksX3_grow_0 : cX3_grow.data.toList.drop 0 = dktX3_grow_0 := by decide +kernel
theorem dksX3_grow_1 : cX3_grow.data.toList.drop 23 = dktX3_grow_1 := dk_seg dksX3_grow_0 23 rfl rfl
theorem dksX3_grow_2 : cX3_grow.data.toList.drop 46 = dktX3_grow_2 := dk_seg dksX3_grow_1 23 rfl rfl
theorem dksX3_grow_3 : cX3_grow.data.toList.drop 68 = dktX3_grow_3 := dk_seg dksX3_grow_2 22 rfl rfl
theorem dksX3_grow_4 : cX3_grow.data.toList.drop 91 = dktX3_grow_4 := dk_seg dksX3_grow_3 23 rfl rfl
theorem dksX3_grow_5 : cX3_grow.data.toList.drop 115 = dktX3_grow_5 := dk_seg dksX3_grow_4 24 rfl rfl
theorem dksX3_grow_6 : cX3_grow.data.toList.drop 139 = dktX3_grow_6 := dk_seg dksX3_grow_5 24 rfl rfl
theorem dksX3_grow_7 : cX3_grow.data.toList.drop 163 = dktX3_grow_7 := dk_seg dksX3_grow_6 24 rfl rfl
theorem dX3_grow_0 : decode cX3_grow 0 = .ok (.aload_n 0, 1) := dk_42 (dk_at dksX3_grow_0 0 rfl rfl)
theorem dX3_grow_1 : decode cX3_grow 1 = .ok (.getfield 28, 3) := dk_180 0 28 (dk_at dksX3_grow_0 1 rfl rfl)
theorem dX3_grow_4 : decode cX3_grow 4 = .ok (.ifCond .le 39, 3) := dk_158 0 39 (dk_at dksX3_grow_0 4 rfl rfl)
theorem dX3_grow_7 : decode cX3_grow 7 = .ok (.aload_n 0, 1) := dk_42 (dk_at dksX3_grow_0 7 rfl rfl)
theorem dX3_grow_8 : decode cX3_grow 8 = .ok (.dup, 1) := dk_89 (dk_at dksX3_grow_0 8 rfl rfl)
theorem dX3_grow_9 : decode cX3_grow 9 = .ok (.getfield 28, 3) := dk_180 0 28 (dk_at dksX3_grow_0 9 rfl rfl)
theorem dX3_grow_12 : decode cX3_grow 12 = .ok (.iconst 1, 1) := dk_4 (dk_at dksX3_grow_0 12 rfl rfl)
theorem dX3_grow_13 : decode cX3_grow 13 = .ok (.isub, 1) := dk_100 (dk_at dksX3_grow_0 13 rfl rfl)
theorem dX3_grow_14 : decode cX3_grow 14 = .ok (.putfield 28, 3) := dk_181 0 28 (dk_at dksX3_grow_0 14 rfl rfl)
theorem dX3_grow_17 : decode cX3_grow 17 = .ok (.aload_n 0, 1) := dk_42 (dk_at dksX3_grow_0 17 rfl rfl)
theorem dX3_grow_18 : decode cX3_grow 18 = .ok (.dup, 1) := dk_89 (dk_at dksX3_grow_0 18 rfl rfl)
theorem dX3_grow_19 : decode cX3_grow 19 = .ok (.getfield 22, 3) := dk_180 0 22 (dk_at dksX3_grow_0 19 rfl rfl)
theorem dX3_grow_22 : decode cX3_grow 22 = .ok (.aload_n 0, 1) := dk_42 (dk_at dksX3_grow_0 22 rfl rfl)
theorem dX3_grow_23 : decode cX3_grow 23 = .ok (.getfield 28, 3) := dk_180 0 28 (dk_at dksX3_grow_1 0 rfl rfl)
theorem dX3_grow_26 : decode cX3_grow 26 = .ok (.ifCond .ne 7, 3) := dk_154 0 7 (dk_at dksX3_grow_1 3 rfl rfl)
theorem dX3_grow_29 : decode cX3_grow 29 = .ok (.iconst 1, 1) := dk_4 (dk_at dksX3_grow_1 6 rfl rfl)
theorem dX3_grow_30 : decode cX3_grow 30 = .ok (.goto 4, 3) := dk_167 0 4 (dk_at dksX3_grow_1 7 rfl rfl)
theorem dX3_grow_33 : decode cX3_grow 33 = .ok (.iconst 0, 1) := dk_3 (dk_at dksX3_grow_1 10 rfl rfl)
theorem dX3_grow_34 : decode cX3_grow 34 = .ok (.invokestatic 67, 3) := dk_184 0 67 (dk_at dksX3_grow_1 11 rfl rfl)
theorem dX3_grow_37 : decode cX3_grow 37 = .ok (.iadd, 1) := dk_96 (dk_at dksX3_grow_1 14 rfl rfl)
theorem dX3_grow_38 : decode cX3_grow 38 = .ok (.putfield 22, 3) := dk_181 0 22 (dk_at dksX3_grow_1 15 rfl rfl)
theorem dX3_grow_41 : decode cX3_grow 41 = .ok (.iconst 0, 1) := dk_3 (dk_at dksX3_grow_1 18 rfl rfl)
theorem dX3_grow_42 : decode cX3_grow 42 = .ok (.ireturn, 1) := dk_172 (dk_at dksX3_grow_1 19 rfl rfl)
theorem dX3_grow_43 : decode cX3_grow 43 = .ok (.iconst 0, 1) := dk_3 (dk_at dksX3_grow_1 20 rfl rfl)
theorem dX3_grow_44 : decode cX3_grow 44 = .ok (.istore_n 1, 1) := dk_60 (dk_at dksX3_grow_1 21 rfl rfl)
theorem dX3_grow_45 : decode cX3_grow 45 = .ok (.aload_n 0, 1) := dk_42 (dk_at dksX3_grow_1 22 rfl rfl)
theorem dX3_grow_46 : decode cX3_grow 46 = .ok (.getfield 37, 3) := dk_180 0 37 (dk_at dksX3_grow_2 0 rfl rfl)
theorem dX3_grow_49 : decode cX3_grow 49 = .ok (.aload_n 0, 1) := dk_42 (dk_at dksX3_grow_2 3 rfl rfl)
theorem dX3_grow_50 : decode cX3_grow 50 = .ok (.invokevirtual 78, 3) := dk_182 0 78 (dk_at dksX3_grow_2 4 rfl rfl)
theorem dX3_grow_53 : decode cX3_grow 53 = .ok (.if_icmp .lt 31, 3) := dk_161 0 31 (dk_at dksX3_grow_2 7 rfl rfl)
theorem dX3_grow_56 : decode cX3_grow 56 = .ok (.aload_n 0, 1) := dk_42 (dk_at dksX3_grow_2 10 rfl rfl)
theorem dX3_grow_57 : decode cX3_grow 57 = .ok (.dup, 1) := dk_89 (dk_at dksX3_grow_2 11 rfl rfl)
theorem dX3_grow_58 : decode cX3_grow 58 = .ok (.getfield 25, 3) := dk_180 0 25 (dk_at dksX3_grow_2 12 rfl rfl)
theorem dX3_grow_61 : decode cX3_grow 61 = .ok (.iconst 1, 1) := dk_4 (dk_at dksX3_grow_2 15 rfl rfl)
theorem dX3_grow_62 : decode cX3_grow 62 = .ok (.iadd, 1) := dk_96 (dk_at dksX3_grow_2 16 rfl rfl)
theorem dX3_grow_63 : decode cX3_grow 63 = .ok (.putfield 25, 3) := dk_181 0 25 (dk_at dksX3_grow_2 17 rfl rfl)
theorem dX3_grow_66 : decode cX3_grow 66 = .ok (.aload_n 0, 1) := dk_42 (dk_at dksX3_grow_2 20 rfl rfl)
theorem dX3_grow_67 : decode cX3_grow 67 = .ok (.iconst 0, 1) := dk_3 (dk_at dksX3_grow_2 21 rfl rfl)
theorem dX3_grow_68 : decode cX3_grow 68 = .ok (.putfield 31, 3) := dk_181 0 31 (dk_at dksX3_grow_3 0 rfl rfl)
theorem dX3_grow_71 : decode cX3_grow 71 = .ok (.aload_n 0, 1) := dk_42 (dk_at dksX3_grow_3 3 rfl rfl)
theorem dX3_grow_72 : decode cX3_grow 72 = .ok (.dup, 1) := dk_89 (dk_at dksX3_grow_3 4 rfl rfl)
theorem dX3_grow_73 : decode cX3_grow 73 = .ok (.getfield 34, 3) := dk_180 0 34 (dk_at dksX3_grow_3 5 rfl rfl)
theorem dX3_grow_76 : decode cX3_grow 76 = .ok (.iconst 1, 1) := dk_4 (dk_at dksX3_grow_3 8 rfl rfl)
theorem dX3_grow_77 : decode cX3_grow 77 = .ok (.iadd, 1) := dk_96 (dk_at dksX3_grow_3 9 rfl rfl)
theorem dX3_grow_78 : decode cX3_grow 78 = .ok (.putfield 34, 3) := dk_181 0 34 (dk_at dksX3_grow_3 10 rfl rfl)
theorem dX3_grow_81 : decode cX3_grow 81 = .ok (.goto 35, 3) := dk_167 0 35 (dk_at dksX3_grow_3 13 rfl rfl)
theorem dX3_grow_84 : decode cX3_grow 84 = .ok (.aload_n 0, 1) := dk_42 (dk_at dksX3_grow_3 16 rfl rfl)
theorem dX3_grow_85 : decode cX3_grow 85 = .ok (.dup, 1) := dk_89 (dk_at dksX3_grow_3 17 rfl rfl)
theorem dX3_grow_86 : decode cX3_grow 86 = .ok (.getfield 31, 3) := dk_180 0 31 (dk_at dksX3_grow_3 18 rfl rfl)
theorem dX3_grow_89 : decode cX3_grow 89 = .ok (.iconst 1, 1) := dk_4 (dk_at dksX3_grow_3 21 rfl rfl)
theorem dX3_grow_90 : decode cX3_grow 90 = .ok (.iadd, 1) := dk_96 (dk_at dksX3_grow_3 22 rfl rfl)
theorem dX3_grow_91 : decode cX3_grow 91 = .ok (.putfield 31, 3) := dk_181 0 31 (dk_at dksX3_grow_4 0 rfl rfl)
theorem dX3_grow_94 : decode cX3_grow 94 = .ok (.aload_n 0, 1) := dk_42 (dk_at dksX3_grow_4 3 rfl rfl)
theorem dX3_grow_95 : decode cX3_grow 95 = .ok (.getfield 31, 3) := dk_180 0 31 (dk_at dksX3_grow_4 4 rfl rfl)
theorem dX3_grow_98 : decode cX3_grow 98 = .ok (.iconst 2, 1) := dk_5 (dk_at dksX3_grow_4 7 rfl rfl)
theorem dX3_grow_99 : decode cX3_grow 99 = .ok (.if_icmp .lt 17, 3) := dk_161 0 17 (dk_at dksX3_grow_4 8 rfl rfl)
theorem dX3_grow_102 : decode cX3_grow 102 = .ok (.aload_n 0, 1) := dk_42 (dk_at dksX3_grow_4 11 rfl rfl)
theorem dX3_grow_103 : decode cX3_grow 103 = .ok (.aload_n 0, 1) := dk_42 (dk_at dksX3_grow_4 12 rfl rfl)
theorem dX3_grow_104 : decode cX3_grow 104 = .ok (.getfield 16, 3) := dk_180 0 16 (dk_at dksX3_grow_4 13 rfl rfl)
theorem dX3_grow_107 : decode cX3_grow 107 = .ok (.bipush 10, 2) := dk_16 10 (dk_at dksX3_grow_4 16 rfl rfl)
theorem dX3_grow_109 : decode cX3_grow 109 = .ok (.invokestatic 51, 3) := dk_184 0 51 (dk_at dksX3_grow_4 18 rfl rfl)
theorem dX3_grow_112 : decode cX3_grow 112 = .ok (.invokevirtual 74, 3) := dk_182 0 74 (dk_at dksX3_grow_4 21 rfl rfl)
theorem dX3_grow_115 : decode cX3_grow 115 = .ok (.istore_n 1, 1) := dk_60 (dk_at dksX3_grow_5 0 rfl rfl)
theorem dX3_grow_116 : decode cX3_grow 116 = .ok (.aload_n 0, 1) := dk_42 (dk_at dksX3_grow_5 1 rfl rfl)
theorem dX3_grow_117 : decode cX3_grow 117 = .ok (.getfield 16, 3) := dk_180 0 16 (dk_at dksX3_grow_5 2 rfl rfl)
theorem dX3_grow_120 : decode cX3_grow 120 = .ok (.ifCond .eq 23, 3) := dk_153 0 23 (dk_at dksX3_grow_5 5 rfl rfl)
theorem dX3_grow_123 : decode cX3_grow 123 = .ok (.aload_n 0, 1) := dk_42 (dk_at dksX3_grow_5 8 rfl rfl)
theorem dX3_grow_124 : decode cX3_grow 124 = .ok (.getfield 25, 3) := dk_180 0 25 (dk_at dksX3_grow_5 9 rfl rfl)
theorem dX3_grow_127 : decode cX3_grow 127 = .ok (.aload_n 0, 1) := dk_42 (dk_at dksX3_grow_5 12 rfl rfl)
theorem dX3_grow_128 : decode cX3_grow 128 = .ok (.getfield 22, 3) := dk_180 0 22 (dk_at dksX3_grow_5 13 rfl rfl)
theorem dX3_grow_131 : decode cX3_grow 131 = .ok (.iconst 5, 1) := dk_8 (dk_at dksX3_grow_5 16 rfl rfl)
theorem dX3_grow_132 : decode cX3_grow 132 = .ok (.if_icmp .ne 7, 3) := dk_160 0 7 (dk_at dksX3_grow_5 17 rfl rfl)
theorem dX3_grow_135 : decode cX3_grow 135 = .ok (.iconst 5, 1) := dk_8 (dk_at dksX3_grow_5 20 rfl rfl)
theorem dX3_grow_136 : decode cX3_grow 136 = .ok (.goto 4, 3) := dk_167 0 4 (dk_at dksX3_grow_5 21 rfl rfl)
theorem dX3_grow_139 : decode cX3_grow 139 = .ok (.iconst 3, 1) := dk_6 (dk_at dksX3_grow_6 0 rfl rfl)
theorem dX3_grow_140 : decode cX3_grow 140 = .ok (.if_icmp .ge 5, 3) := dk_162 0 5 (dk_at dksX3_grow_6 1 rfl rfl)
theorem dX3_grow_143 : decode cX3_grow 143 = .ok (.iload_n 1, 1) := dk_27 (dk_at dksX3_grow_6 4 rfl rfl)
theorem dX3_grow_144 : decode cX3_grow 144 = .ok (.ireturn, 1) := dk_172 (dk_at dksX3_grow_6 5 rfl rfl)
theorem dX3_grow_145 : decode cX3_grow 145 = .ok (.aload_n 0, 1) := dk_42 (dk_at dksX3_grow_6 6 rfl rfl)
theorem dX3_grow_146 : decode cX3_grow 146 = .ok (.iconst 0, 1) := dk_3 (dk_at dksX3_grow_6 7 rfl rfl)
theorem dX3_grow_147 : decode cX3_grow 147 = .ok (.putfield 25, 3) := dk_181 0 25 (dk_at dksX3_grow_6 8 rfl rfl)
theorem dX3_grow_150 : decode cX3_grow 150 = .ok (.aload_n 0, 1) := dk_42 (dk_at dksX3_grow_6 11 rfl rfl)
theorem dX3_grow_151 : decode cX3_grow 151 = .ok (.getfield 22, 3) := dk_180 0 22 (dk_at dksX3_grow_6 12 rfl rfl)
theorem dX3_grow_154 : decode cX3_grow 154 = .ok (.iconst 5, 1) := dk_8 (dk_at dksX3_grow_6 15 rfl rfl)
theorem dX3_grow_155 : decode cX3_grow 155 = .ok (.if_icmp .ne 11, 3) := dk_160 0 11 (dk_at dksX3_grow_6 16 rfl rfl)
theorem dX3_grow_158 : decode cX3_grow 158 = .ok (.aload_n 0, 1) := dk_42 (dk_at dksX3_grow_6 19 rfl rfl)
theorem dX3_grow_159 : decode cX3_grow 159 = .ok (.iconst 1, 1) := dk_4 (dk_at dksX3_grow_6 20 rfl rfl)
theorem dX3_grow_160 : decode cX3_grow 160 = .ok (.putfield 43, 3) := dk_181 0 43 (dk_at dksX3_grow_6 21 rfl rfl)
theorem dX3_grow_163 : decode cX3_grow 163 = .ok (.goto 8, 3) := dk_167 0 8 (dk_at dksX3_grow_7 0 rfl rfl)
theorem dX3_grow_166 : decode cX3_grow 166 = .ok (.aload_n 0, 1) := dk_42 (dk_at dksX3_grow_7 3 rfl rfl)
theorem dX3_grow_167 : decode cX3_grow 167 = .ok (.iconst 2, 1) := dk_5 (dk_at dksX3_grow_7 4 rfl rfl)
theorem dX3_grow_168 : decode cX3_grow 168 = .ok (.putfield 28, 3) := dk_181 0 28 (dk_at dksX3_grow_7 5 rfl rfl)
theorem dX3_grow_171 : decode cX3_grow 171 = .ok (.iload_n 1, 1) := dk_27 (dk_at dksX3_grow_7 8 rfl rfl)
theorem dX3_grow_172 : decode cX3_grow 172 = .ok (.ireturn, 1) := dk_172 (dk_at dksX3_grow_7 9 rfl rfl)
abbrev cX3_lose : ByteArray := prog_7_method_6_code
def yX3_lose : MethodName := ⟨RX3, "lose", "(I)I"⟩
def dkwX3_lose_1 : List UInt8 := [42, 180, 0, 16, 154, 0, 7, 42, 182, 0, 60, 27, 172]
abbrev dktX3_lose_1 : List UInt8 := dkwX3_lose_1 ++ []
def dkwX3_lose_0 : List UInt8 := [42, 89, 180, 0, 16, 27, 100, 181, 0, 16, 42, 3, 42, 180, 0, 19, 27, 100, 184, 0, 55, 181, 0, 19]
abbrev dktX3_lose_0 : List UInt8 := dkwX3_lose_0 ++ dktX3_lose_1
theorem dksX3_lose_0 : cX3_lose.data.toList.drop 0 = dktX3_lose_0 := by decide +kernel
theorem dksX3_lose_1 : cX3_lose.data.toList.drop 24 = dktX3_lose_1 := dk_seg dksX3_lose_0 24 rfl rfl
theorem dX3_lose_0 : decode cX3_lose 0 = .ok (.aload_n 0, 1) := dk_42 (dk_at dksX3_lose_0 0 rfl rfl)
theorem dX3_lose_1 : decode cX3_lose 1 = .ok (.dup, 1) := dk_89 (dk_at dksX3_lose_0 1 rfl rfl)
theorem dX3_lose_2 : decode cX3_lose 2 = .ok (.getfield 16, 3) := dk_180 0 16 (dk_at dksX3_lose_0 2 rfl rfl)
theorem dX3_lose_5 : decode cX3_lose 5 = .ok (.iload_n 1, 1) := dk_27 (dk_at dksX3_lose_0 5 rfl rfl)
theorem dX3_lose_6 : decode cX3_lose 6 = .ok (.isub, 1) := dk_100 (dk_at dksX3_lose_0 6 rfl rfl)
theorem dX3_lose_7 : decode cX3_lose 7 = .ok (.putfield 16, 3) := dk_181 0 16 (dk_at dksX3_lose_0 7 rfl rfl)
theorem dX3_lose_10 : decode cX3_lose 10 = .ok (.aload_n 0, 1) := dk_42 (dk_at dksX3_lose_0 10 rfl rfl)
theorem dX3_lose_11 : decode cX3_lose 11 = .ok (.iconst 0, 1) := dk_3 (dk_at dksX3_lose_0 11 rfl rfl)
theorem dX3_lose_12 : decode cX3_lose 12 = .ok (.aload_n 0, 1) := dk_42 (dk_at dksX3_lose_0 12 rfl rfl)
theorem dX3_lose_13 : decode cX3_lose 13 = .ok (.getfield 19, 3) := dk_180 0 19 (dk_at dksX3_lose_0 13 rfl rfl)
theorem dX3_lose_16 : decode cX3_lose 16 = .ok (.iload_n 1, 1) := dk_27 (dk_at dksX3_lose_0 16 rfl rfl)
theorem dX3_lose_17 : decode cX3_lose 17 = .ok (.isub, 1) := dk_100 (dk_at dksX3_lose_0 17 rfl rfl)
theorem dX3_lose_18 : decode cX3_lose 18 = .ok (.invokestatic 55, 3) := dk_184 0 55 (dk_at dksX3_lose_0 18 rfl rfl)
theorem dX3_lose_21 : decode cX3_lose 21 = .ok (.putfield 19, 3) := dk_181 0 19 (dk_at dksX3_lose_0 21 rfl rfl)
theorem dX3_lose_24 : decode cX3_lose 24 = .ok (.aload_n 0, 1) := dk_42 (dk_at dksX3_lose_1 0 rfl rfl)
theorem dX3_lose_25 : decode cX3_lose 25 = .ok (.getfield 16, 3) := dk_180 0 16 (dk_at dksX3_lose_1 1 rfl rfl)
theorem dX3_lose_28 : decode cX3_lose 28 = .ok (.ifCond .ne 7, 3) := dk_154 0 7 (dk_at dksX3_lose_1 4 rfl rfl)
theorem dX3_lose_31 : decode cX3_lose 31 = .ok (.aload_n 0, 1) := dk_42 (dk_at dksX3_lose_1 7 rfl rfl)
theorem dX3_lose_32 : decode cX3_lose 32 = .ok (.invokevirtual 60, 3) := dk_182 0 60 (dk_at dksX3_lose_1 8 rfl rfl)
theorem dX3_lose_35 : decode cX3_lose 35 = .ok (.iload_n 1, 1) := dk_27 (dk_at dksX3_lose_1 11 rfl rfl)
theorem dX3_lose_36 : decode cX3_lose 36 = .ok (.ireturn, 1) := dk_172 (dk_at dksX3_lose_1 12 rfl rfl)
abbrev cX3_empty : ByteArray := prog_7_method_4_code
def yX3_empty : MethodName := ⟨RX3, "empty", "()V"⟩
def dkwX3_empty_0 : List UInt8 := [42, 187, 0, 10, 89, 183, 0, 15, 182, 0, 47, 177]
abbrev dktX3_empty_0 : List UInt8 := dkwX3_empty_0 ++ []
theorem dksX3_empty_0 : cX3_empty.data.toList.drop 0 = dktX3_empty_0 := by decide +kernel
theorem dX3_empty_0 : decode cX3_empty 0 = .ok (.aload_n 0, 1) := dk_42 (dk_at dksX3_empty_0 0 rfl rfl)
theorem dX3_empty_1 : decode cX3_empty 1 = .ok (.new 10, 3) := dk_187 0 10 (dk_at dksX3_empty_0 1 rfl rfl)
theorem dX3_empty_4 : decode cX3_empty 4 = .ok (.dup, 1) := dk_89 (dk_at dksX3_empty_0 4 rfl rfl)
theorem dX3_empty_5 : decode cX3_empty 5 = .ok (.invokespecial 15, 3) := dk_183 0 15 (dk_at dksX3_empty_0 5 rfl rfl)
theorem dX3_empty_8 : decode cX3_empty 8 = .ok (.invokevirtual 47, 3) := dk_182 0 47 (dk_at dksX3_empty_0 8 rfl rfl)
theorem dX3_empty_11 : decode cX3_empty 11 = .ok (.return_, 1) := dk_177 (dk_at dksX3_empty_0 11 rfl rfl)
abbrev cX3_take : ByteArray := prog_7_method_3_code
def yX3_take : MethodName := ⟨RX3, "take", "(LSilkRow$Tray;)V"⟩
def dkwX3_take_3 : List UInt8 := [42, 43, 180, 0, 40, 181, 0, 40, 42, 43, 180, 0, 43, 181, 0, 43, 177]
abbrev dktX3_take_3 : List UInt8 := dkwX3_take_3 ++ []
def dkwX3_take_2 : List UInt8 := [42, 43, 180, 0, 31, 181, 0, 31, 42, 43, 180, 0, 34, 181, 0, 34, 42, 43, 180, 0, 37, 181, 0, 37]
abbrev dktX3_take_2 : List UInt8 := dkwX3_take_2 ++ dktX3_take_3
def dkwX3_take_1 : List UInt8 := [42, 43, 180, 0, 22, 181, 0, 22, 42, 43, 180, 0, 25, 181, 0, 25, 42, 43, 180, 0, 28, 181, 0, 28]
abbrev dktX3_take_1 : List UInt8 := dkwX3_take_1 ++ dktX3_take_2
def dkwX3_take_0 : List UInt8 := [42, 43, 180, 0, 16, 181, 0, 16, 42, 43, 180, 0, 19, 181, 0, 19, 42, 43, 180, 0, 9, 181, 0, 9]
abbrev dktX3_take_0 : List UInt8 := dkwX3_take_0 ++ dktX3_take_1
theorem dksX3_take_0 : cX3_take.data.toList.drop 0 = dktX3_take_0 := by decide +kernel
theorem dksX3_take_1 : cX3_take.data.toList.drop 24 = dktX3_take_1 := dk_seg dksX3_take_0 24 rfl rfl
theorem dksX3_take_2 : cX3_take.data.toList.drop 48 = dktX3_take_2 := dk_seg dksX3_take_1 24 rfl rfl
theorem dksX3_take_3 : cX3_take.data.toList.drop 72 = dktX3_take_3 := dk_seg dksX3_take_2 24 rfl rfl
theorem dX3_take_0 : decode cX3_take 0 = .ok (.aload_n 0, 1) := dk_42 (dk_at dksX3_take_0 0 rfl rfl)
theorem dX3_take_1 : decode cX3_take 1 = .ok (.aload_n 1, 1) := dk_43 (dk_at dksX3_take_0 1 rfl rfl)
theorem dX3_take_2 : decode cX3_take 2 = .ok (.getfield 16, 3) := dk_180 0 16 (dk_at dksX3_take_0 2 rfl rfl)
theorem dX3_take_5 : decode cX3_take 5 = .ok (.putfield 16, 3) := dk_181 0 16 (dk_at dksX3_take_0 5 rfl rfl)
theorem dX3_take_8 : decode cX3_take 8 = .ok (.aload_n 0, 1) := dk_42 (dk_at dksX3_take_0 8 rfl rfl)
theorem dX3_take_9 : decode cX3_take 9 = .ok (.aload_n 1, 1) := dk_43 (dk_at dksX3_take_0 9 rfl rfl)
theorem dX3_take_10 : decode cX3_take 10 = .ok (.getfield 19, 3) := dk_180 0 19 (dk_at dksX3_take_0 10 rfl rfl)
theorem dX3_take_13 : decode cX3_take 13 = .ok (.putfield 19, 3) := dk_181 0 19 (dk_at dksX3_take_0 13 rfl rfl)
theorem dX3_take_16 : decode cX3_take 16 = .ok (.aload_n 0, 1) := dk_42 (dk_at dksX3_take_0 16 rfl rfl)
theorem dX3_take_17 : decode cX3_take 17 = .ok (.aload_n 1, 1) := dk_43 (dk_at dksX3_take_0 17 rfl rfl)
theorem dX3_take_18 : decode cX3_take 18 = .ok (.getfield 9, 3) := dk_180 0 9 (dk_at dksX3_take_0 18 rfl rfl)
theorem dX3_take_21 : decode cX3_take 21 = .ok (.putfield 9, 3) := dk_181 0 9 (dk_at dksX3_take_0 21 rfl rfl)
theorem dX3_take_24 : decode cX3_take 24 = .ok (.aload_n 0, 1) := dk_42 (dk_at dksX3_take_1 0 rfl rfl)
theorem dX3_take_25 : decode cX3_take 25 = .ok (.aload_n 1, 1) := dk_43 (dk_at dksX3_take_1 1 rfl rfl)
theorem dX3_take_26 : decode cX3_take 26 = .ok (.getfield 22, 3) := dk_180 0 22 (dk_at dksX3_take_1 2 rfl rfl)
theorem dX3_take_29 : decode cX3_take 29 = .ok (.putfield 22, 3) := dk_181 0 22 (dk_at dksX3_take_1 5 rfl rfl)
theorem dX3_take_32 : decode cX3_take 32 = .ok (.aload_n 0, 1) := dk_42 (dk_at dksX3_take_1 8 rfl rfl)
theorem dX3_take_33 : decode cX3_take 33 = .ok (.aload_n 1, 1) := dk_43 (dk_at dksX3_take_1 9 rfl rfl)
theorem dX3_take_34 : decode cX3_take 34 = .ok (.getfield 25, 3) := dk_180 0 25 (dk_at dksX3_take_1 10 rfl rfl)
theorem dX3_take_37 : decode cX3_take 37 = .ok (.putfield 25, 3) := dk_181 0 25 (dk_at dksX3_take_1 13 rfl rfl)
theorem dX3_take_40 : decode cX3_take 40 = .ok (.aload_n 0, 1) := dk_42 (dk_at dksX3_take_1 16 rfl rfl)
theorem dX3_take_41 : decode cX3_take 41 = .ok (.aload_n 1, 1) := dk_43 (dk_at dksX3_take_1 17 rfl rfl)
theorem dX3_take_42 : decode cX3_take 42 = .ok (.getfield 28, 3) := dk_180 0 28 (dk_at dksX3_take_1 18 rfl rfl)
theorem dX3_take_45 : decode cX3_take 45 = .ok (.putfield 28, 3) := dk_181 0 28 (dk_at dksX3_take_1 21 rfl rfl)
theorem dX3_take_48 : decode cX3_take 48 = .ok (.aload_n 0, 1) := dk_42 (dk_at dksX3_take_2 0 rfl rfl)
theorem dX3_take_49 : decode cX3_take 49 = .ok (.aload_n 1, 1) := dk_43 (dk_at dksX3_take_2 1 rfl rfl)
theorem dX3_take_50 : decode cX3_take 50 = .ok (.getfield 31, 3) := dk_180 0 31 (dk_at dksX3_take_2 2 rfl rfl)
theorem dX3_take_53 : decode cX3_take 53 = .ok (.putfield 31, 3) := dk_181 0 31 (dk_at dksX3_take_2 5 rfl rfl)
theorem dX3_take_56 : decode cX3_take 56 = .ok (.aload_n 0, 1) := dk_42 (dk_at dksX3_take_2 8 rfl rfl)
theorem dX3_take_57 : decode cX3_take 57 = .ok (.aload_n 1, 1) := dk_43 (dk_at dksX3_take_2 9 rfl rfl)
theorem dX3_take_58 : decode cX3_take 58 = .ok (.getfield 34, 3) := dk_180 0 34 (dk_at dksX3_take_2 10 rfl rfl)
theorem dX3_take_61 : decode cX3_take 61 = .ok (.putfield 34, 3) := dk_181 0 34 (dk_at dksX3_take_2 13 rfl rfl)
theorem dX3_take_64 : decode cX3_take 64 = .ok (.aload_n 0, 1) := dk_42 (dk_at dksX3_take_2 16 rfl rfl)
theorem dX3_take_65 : decode cX3_take 65 = .ok (.aload_n 1, 1) := dk_43 (dk_at dksX3_take_2 17 rfl rfl)
theorem dX3_take_66 : decode cX3_take 66 = .ok (.getfield 37, 3) := dk_180 0 37 (dk_at dksX3_take_2 18 rfl rfl)
theorem dX3_take_69 : decode cX3_take 69 = .ok (.putfield 37, 3) := dk_181 0 37 (dk_at dksX3_take_2 21 rfl rfl)
theorem dX3_take_72 : decode cX3_take 72 = .ok (.aload_n 0, 1) := dk_42 (dk_at dksX3_take_3 0 rfl rfl)
theorem dX3_take_73 : decode cX3_take 73 = .ok (.aload_n 1, 1) := dk_43 (dk_at dksX3_take_3 1 rfl rfl)
theorem dX3_take_74 : decode cX3_take 74 = .ok (.getfield 40, 3) := dk_180 0 40 (dk_at dksX3_take_3 2 rfl rfl)
theorem dX3_take_77 : decode cX3_take 77 = .ok (.putfield 40, 3) := dk_181 0 40 (dk_at dksX3_take_3 5 rfl rfl)
theorem dX3_take_80 : decode cX3_take 80 = .ok (.aload_n 0, 1) := dk_42 (dk_at dksX3_take_3 8 rfl rfl)
theorem dX3_take_81 : decode cX3_take 81 = .ok (.aload_n 1, 1) := dk_43 (dk_at dksX3_take_3 9 rfl rfl)
theorem dX3_take_82 : decode cX3_take 82 = .ok (.getfield 43, 3) := dk_180 0 43 (dk_at dksX3_take_3 10 rfl rfl)
theorem dX3_take_85 : decode cX3_take 85 = .ok (.putfield 43, 3) := dk_181 0 43 (dk_at dksX3_take_3 13 rfl rfl)
theorem dX3_take_88 : decode cX3_take 88 = .ok (.return_, 1) := dk_177 (dk_at dksX3_take_3 16 rfl rfl)
abbrev cX3_clean : ByteArray := prog_7_method_9_code
def yX3_clean : MethodName := ⟨RX3, "clean", "()I"⟩
def dkwX3_clean_1 : List UInt8 := [182, 0, 74, 167, 0, 4, 3, 172]
abbrev dktX3_clean_1 : List UInt8 := dkwX3_clean_1 ++ []
def dkwX3_clean_0 : List UInt8 := [42, 3, 181, 0, 34, 42, 180, 0, 28, 158, 0, 19, 42, 42, 180, 0, 16, 16, 10, 184, 0, 51]
abbrev dktX3_clean_0 : List UInt8 := dkwX3_clean_0 ++ dktX3_clean_1
theorem dksX3_clean_0 : cX3_clean.data.toList.drop 0 = dktX3_clean_0 := by decide +kernel
theorem dksX3_clean_1 : cX3_clean.data.toList.drop 22 = dktX3_clean_1 := dk_seg dksX3_clean_0 22 rfl rfl
theorem dX3_clean_0 : decode cX3_clean 0 = .ok (.aload_n 0, 1) := dk_42 (dk_at dksX3_clean_0 0 rfl rfl)
theorem dX3_clean_1 : decode cX3_clean 1 = .ok (.iconst 0, 1) := dk_3 (dk_at dksX3_clean_0 1 rfl rfl)
theorem dX3_clean_2 : decode cX3_clean 2 = .ok (.putfield 34, 3) := dk_181 0 34 (dk_at dksX3_clean_0 2 rfl rfl)
theorem dX3_clean_5 : decode cX3_clean 5 = .ok (.aload_n 0, 1) := dk_42 (dk_at dksX3_clean_0 5 rfl rfl)
theorem dX3_clean_6 : decode cX3_clean 6 = .ok (.getfield 28, 3) := dk_180 0 28 (dk_at dksX3_clean_0 6 rfl rfl)
theorem dX3_clean_9 : decode cX3_clean 9 = .ok (.ifCond .le 19, 3) := dk_158 0 19 (dk_at dksX3_clean_0 9 rfl rfl)
theorem dX3_clean_12 : decode cX3_clean 12 = .ok (.aload_n 0, 1) := dk_42 (dk_at dksX3_clean_0 12 rfl rfl)
theorem dX3_clean_13 : decode cX3_clean 13 = .ok (.aload_n 0, 1) := dk_42 (dk_at dksX3_clean_0 13 rfl rfl)
theorem dX3_clean_14 : decode cX3_clean 14 = .ok (.getfield 16, 3) := dk_180 0 16 (dk_at dksX3_clean_0 14 rfl rfl)
theorem dX3_clean_17 : decode cX3_clean 17 = .ok (.bipush 10, 2) := dk_16 10 (dk_at dksX3_clean_0 17 rfl rfl)
theorem dX3_clean_19 : decode cX3_clean 19 = .ok (.invokestatic 51, 3) := dk_184 0 51 (dk_at dksX3_clean_0 19 rfl rfl)
theorem dX3_clean_22 : decode cX3_clean 22 = .ok (.invokevirtual 74, 3) := dk_182 0 74 (dk_at dksX3_clean_1 0 rfl rfl)
theorem dX3_clean_25 : decode cX3_clean 25 = .ok (.goto 4, 3) := dk_167 0 4 (dk_at dksX3_clean_1 3 rfl rfl)
theorem dX3_clean_28 : decode cX3_clean 28 = .ok (.iconst 0, 1) := dk_3 (dk_at dksX3_clean_1 6 rfl rfl)
theorem dX3_clean_29 : decode cX3_clean 29 = .ok (.ireturn, 1) := dk_172 (dk_at dksX3_clean_1 7 rfl rfl)
abbrev cX3_part : ByteArray := prog_7_method_10_code
def yX3_part : MethodName := ⟨RX3, "part", "(LSilkRow$Tray;I)I"⟩
def dkwX3_part_2 : List UInt8 := [100, 181, 0, 16, 42, 89, 180, 0, 19, 29, 100, 181, 0, 19, 29, 172]
abbrev dktX3_part_2 : List UInt8 := dkwX3_part_2 ++ []
def dkwX3_part_1 : List UInt8 := [181, 0, 19, 43, 3, 181, 0, 37, 43, 3, 181, 0, 40, 43, 3, 181, 0, 34, 42, 89, 180, 0, 16, 28]
abbrev dktX3_part_1 : List UInt8 := dkwX3_part_1 ++ dktX3_part_2
def dkwX3_part_0 : List UInt8 := [42, 180, 0, 19, 28, 104, 42, 180, 0, 16, 108, 62, 43, 42, 182, 0, 47, 43, 28, 181, 0, 16, 43, 29]
abbrev dktX3_part_0 : List UInt8 := dkwX3_part_0 ++ dktX3_part_1
theorem dksX3_part_0 : cX3_part.data.toList.drop 0 = dktX3_part_0 := by decide +kernel
theorem dksX3_part_1 : cX3_part.data.toList.drop 24 = dktX3_part_1 := dk_seg dksX3_part_0 24 rfl rfl
theorem dksX3_part_2 : cX3_part.data.toList.drop 48 = dktX3_part_2 := dk_seg dksX3_part_1 24 rfl rfl
theorem dX3_part_0 : decode cX3_part 0 = .ok (.aload_n 0, 1) := dk_42 (dk_at dksX3_part_0 0 rfl rfl)
theorem dX3_part_1 : decode cX3_part 1 = .ok (.getfield 19, 3) := dk_180 0 19 (dk_at dksX3_part_0 1 rfl rfl)
theorem dX3_part_4 : decode cX3_part 4 = .ok (.iload_n 2, 1) := dk_28 (dk_at dksX3_part_0 4 rfl rfl)
theorem dX3_part_5 : decode cX3_part 5 = .ok (.imul, 1) := dk_104 (dk_at dksX3_part_0 5 rfl rfl)
theorem dX3_part_6 : decode cX3_part 6 = .ok (.aload_n 0, 1) := dk_42 (dk_at dksX3_part_0 6 rfl rfl)
theorem dX3_part_7 : decode cX3_part 7 = .ok (.getfield 16, 3) := dk_180 0 16 (dk_at dksX3_part_0 7 rfl rfl)
theorem dX3_part_10 : decode cX3_part 10 = .ok (.idiv, 1) := dk_108 (dk_at dksX3_part_0 10 rfl rfl)
theorem dX3_part_11 : decode cX3_part 11 = .ok (.istore_n 3, 1) := dk_62 (dk_at dksX3_part_0 11 rfl rfl)
theorem dX3_part_12 : decode cX3_part 12 = .ok (.aload_n 1, 1) := dk_43 (dk_at dksX3_part_0 12 rfl rfl)
theorem dX3_part_13 : decode cX3_part 13 = .ok (.aload_n 0, 1) := dk_42 (dk_at dksX3_part_0 13 rfl rfl)
theorem dX3_part_14 : decode cX3_part 14 = .ok (.invokevirtual 47, 3) := dk_182 0 47 (dk_at dksX3_part_0 14 rfl rfl)
theorem dX3_part_17 : decode cX3_part 17 = .ok (.aload_n 1, 1) := dk_43 (dk_at dksX3_part_0 17 rfl rfl)
theorem dX3_part_18 : decode cX3_part 18 = .ok (.iload_n 2, 1) := dk_28 (dk_at dksX3_part_0 18 rfl rfl)
theorem dX3_part_19 : decode cX3_part 19 = .ok (.putfield 16, 3) := dk_181 0 16 (dk_at dksX3_part_0 19 rfl rfl)
theorem dX3_part_22 : decode cX3_part 22 = .ok (.aload_n 1, 1) := dk_43 (dk_at dksX3_part_0 22 rfl rfl)
theorem dX3_part_23 : decode cX3_part 23 = .ok (.iload_n 3, 1) := dk_29 (dk_at dksX3_part_0 23 rfl rfl)
theorem dX3_part_24 : decode cX3_part 24 = .ok (.putfield 19, 3) := dk_181 0 19 (dk_at dksX3_part_1 0 rfl rfl)
theorem dX3_part_27 : decode cX3_part 27 = .ok (.aload_n 1, 1) := dk_43 (dk_at dksX3_part_1 3 rfl rfl)
theorem dX3_part_28 : decode cX3_part 28 = .ok (.iconst 0, 1) := dk_3 (dk_at dksX3_part_1 4 rfl rfl)
theorem dX3_part_29 : decode cX3_part 29 = .ok (.putfield 37, 3) := dk_181 0 37 (dk_at dksX3_part_1 5 rfl rfl)
theorem dX3_part_32 : decode cX3_part 32 = .ok (.aload_n 1, 1) := dk_43 (dk_at dksX3_part_1 8 rfl rfl)
theorem dX3_part_33 : decode cX3_part 33 = .ok (.iconst 0, 1) := dk_3 (dk_at dksX3_part_1 9 rfl rfl)
theorem dX3_part_34 : decode cX3_part 34 = .ok (.putfield 40, 3) := dk_181 0 40 (dk_at dksX3_part_1 10 rfl rfl)
theorem dX3_part_37 : decode cX3_part 37 = .ok (.aload_n 1, 1) := dk_43 (dk_at dksX3_part_1 13 rfl rfl)
theorem dX3_part_38 : decode cX3_part 38 = .ok (.iconst 0, 1) := dk_3 (dk_at dksX3_part_1 14 rfl rfl)
theorem dX3_part_39 : decode cX3_part 39 = .ok (.putfield 34, 3) := dk_181 0 34 (dk_at dksX3_part_1 15 rfl rfl)
theorem dX3_part_42 : decode cX3_part 42 = .ok (.aload_n 0, 1) := dk_42 (dk_at dksX3_part_1 18 rfl rfl)
theorem dX3_part_43 : decode cX3_part 43 = .ok (.dup, 1) := dk_89 (dk_at dksX3_part_1 19 rfl rfl)
theorem dX3_part_44 : decode cX3_part 44 = .ok (.getfield 16, 3) := dk_180 0 16 (dk_at dksX3_part_1 20 rfl rfl)
theorem dX3_part_47 : decode cX3_part 47 = .ok (.iload_n 2, 1) := dk_28 (dk_at dksX3_part_1 23 rfl rfl)
theorem dX3_part_48 : decode cX3_part 48 = .ok (.isub, 1) := dk_100 (dk_at dksX3_part_2 0 rfl rfl)
theorem dX3_part_49 : decode cX3_part 49 = .ok (.putfield 16, 3) := dk_181 0 16 (dk_at dksX3_part_2 1 rfl rfl)
theorem dX3_part_52 : decode cX3_part 52 = .ok (.aload_n 0, 1) := dk_42 (dk_at dksX3_part_2 4 rfl rfl)
theorem dX3_part_53 : decode cX3_part 53 = .ok (.dup, 1) := dk_89 (dk_at dksX3_part_2 5 rfl rfl)
theorem dX3_part_54 : decode cX3_part 54 = .ok (.getfield 19, 3) := dk_180 0 19 (dk_at dksX3_part_2 6 rfl rfl)
theorem dX3_part_57 : decode cX3_part 57 = .ok (.iload_n 3, 1) := dk_29 (dk_at dksX3_part_2 9 rfl rfl)
theorem dX3_part_58 : decode cX3_part 58 = .ok (.isub, 1) := dk_100 (dk_at dksX3_part_2 10 rfl rfl)
theorem dX3_part_59 : decode cX3_part 59 = .ok (.putfield 19, 3) := dk_181 0 19 (dk_at dksX3_part_2 11 rfl rfl)
theorem dX3_part_62 : decode cX3_part 62 = .ok (.iload_n 3, 1) := dk_29 (dk_at dksX3_part_2 14 rfl rfl)
theorem dX3_part_63 : decode cX3_part 63 = .ok (.ireturn, 1) := dk_172 (dk_at dksX3_part_2 15 rfl rfl)
theorem q53 : (Jvm.Cond.initialized "SilkRow$Tray") ∈ lw_all := lw_g (lw_at lw_m1 10 rfl) rfl
theorem q170 : (Jvm.Cond.selects "SilkRow$Tray" ({ cls := "java/lang/Object", name := "getClass", desc := "()Ljava/lang/Class;" } : Jvm.MethodName) ({ cls := "java/lang/Object", name := "getClass", desc := "()Ljava/lang/Class;" } : Jvm.MethodName)) ∈ lw_all := lw_g (lw_at lw_m1 127 rfl) rfl
theorem q201 : (Jvm.Cond.instantiable "SilkRow$Tray" (11 : Nat)) ∈ lw_all := lw_g (lw_at lw_m1 158 rfl) rfl
theorem q203 : (Jvm.Cond.instanceMethod ({ cls := "SilkRow$Tray", name := "<init>", desc := "()V" } : Jvm.MethodName)) ∈ lw_all := lw_g (lw_at lw_m1 160 rfl) rfl
theorem q204 : (Jvm.Cond.code ({ cls := "SilkRow$Tray", name := "<init>", desc := "()V" } : Jvm.MethodName) prog_7_method_1_code (1 : Nat) (Option.none : Option Jvm.ClassFile.FieldType)) ∈ lw_all := lw_g (lw_at lw_m1 161 rfl) rfl
theorem q205 : (Jvm.Cond.methodLink "SilkRow$Tray" (3 : Nat) ({ cls := "java/lang/Object", name := "<init>", desc := "()V" } : Jvm.MethodName)) ∈ lw_all := lw_g (lw_at lw_m1 162 rfl) rfl
theorem q206 : (Jvm.Cond.fieldLink "SilkRow$Tray" (16 : Nat) "SilkRow$Tray" "worms" "I") ∈ lw_all := lw_g (lw_at lw_m1 163 rfl) rfl
theorem q208 : (Jvm.Cond.fieldLink "SilkRow$Tray" (19 : Nat) "SilkRow$Tray" "sick" "I") ∈ lw_all := lw_g (lw_at lw_m1 165 rfl) rfl
theorem q210 : (Jvm.Cond.fieldLink "SilkRow$Tray" (9 : Nat) "SilkRow$Tray" "line" "I") ∈ lw_all := lw_g (lw_at lw_m1 167 rfl) rfl
theorem q212 : (Jvm.Cond.fieldLink "SilkRow$Tray" (22 : Nat) "SilkRow$Tray" "instar" "I") ∈ lw_all := lw_g (lw_at lw_m1 169 rfl) rfl
theorem q214 : (Jvm.Cond.fieldLink "SilkRow$Tray" (25 : Nat) "SilkRow$Tray" "eaten" "I") ∈ lw_all := lw_g (lw_at lw_m1 171 rfl) rfl
theorem q216 : (Jvm.Cond.fieldLink "SilkRow$Tray" (28 : Nat) "SilkRow$Tray" "moult" "I") ∈ lw_all := lw_g (lw_at lw_m1 173 rfl) rfl
theorem q218 : (Jvm.Cond.fieldLink "SilkRow$Tray" (31 : Nat) "SilkRow$Tray" "hunger" "I") ∈ lw_all := lw_g (lw_at lw_m1 175 rfl) rfl
theorem q220 : (Jvm.Cond.fieldLink "SilkRow$Tray" (34 : Nat) "SilkRow$Tray" "litter" "I") ∈ lw_all := lw_g (lw_at lw_m1 177 rfl) rfl
theorem q222 : (Jvm.Cond.fieldLink "SilkRow$Tray" (37 : Nat) "SilkRow$Tray" "given" "I") ∈ lw_all := lw_g (lw_at lw_m1 179 rfl) rfl
theorem q224 : (Jvm.Cond.fieldLink "SilkRow$Tray" (40 : Nat) "SilkRow$Tray" "wetness" "I") ∈ lw_all := lw_g (lw_at lw_m1 181 rfl) rfl
theorem q226 : (Jvm.Cond.fieldLink "SilkRow$Tray" (43 : Nat) "SilkRow$Tray" "isRipe" "Z") ∈ lw_all := lw_g (lw_at lw_m1 183 rfl) rfl
theorem q228 : (Jvm.Cond.lays "SilkRow$Tray" "SilkRow$Tray" "worms" "I") ∈ lw_all := lw_g (lw_at lw_m1 185 rfl) rfl
theorem q229 : (Jvm.Cond.soleField "SilkRow$Tray" "worms") ∈ lw_all := lw_g (lw_at lw_m1 186 rfl) rfl
theorem q230 : (Jvm.Cond.lays "SilkRow$Tray" "SilkRow$Tray" "sick" "I") ∈ lw_all := lw_g (lw_at lw_m1 187 rfl) rfl
theorem q231 : (Jvm.Cond.soleField "SilkRow$Tray" "sick") ∈ lw_all := lw_g (lw_at lw_m1 188 rfl) rfl
theorem q232 : (Jvm.Cond.lays "SilkRow$Tray" "SilkRow$Tray" "line" "I") ∈ lw_all := lw_g (lw_at lw_m1 189 rfl) rfl
theorem q233 : (Jvm.Cond.soleField "SilkRow$Tray" "line") ∈ lw_all := lw_g (lw_at lw_m1 190 rfl) rfl
theorem q234 : (Jvm.Cond.lays "SilkRow$Tray" "SilkRow$Tray" "instar" "I") ∈ lw_all := lw_g (lw_at lw_m1 191 rfl) rfl
theorem q235 : (Jvm.Cond.soleField "SilkRow$Tray" "instar") ∈ lw_all := lw_g (lw_at lw_m1 192 rfl) rfl
theorem q236 : (Jvm.Cond.lays "SilkRow$Tray" "SilkRow$Tray" "eaten" "I") ∈ lw_all := lw_g (lw_at lw_m1 193 rfl) rfl
theorem q237 : (Jvm.Cond.soleField "SilkRow$Tray" "eaten") ∈ lw_all := lw_g (lw_at lw_m1 194 rfl) rfl
theorem q238 : (Jvm.Cond.lays "SilkRow$Tray" "SilkRow$Tray" "moult" "I") ∈ lw_all := lw_g (lw_at lw_m1 195 rfl) rfl
theorem q239 : (Jvm.Cond.soleField "SilkRow$Tray" "moult") ∈ lw_all := lw_g (lw_at lw_m1 196 rfl) rfl
theorem q240 : (Jvm.Cond.lays "SilkRow$Tray" "SilkRow$Tray" "hunger" "I") ∈ lw_all := lw_g (lw_at lw_m1 197 rfl) rfl
theorem q241 : (Jvm.Cond.soleField "SilkRow$Tray" "hunger") ∈ lw_all := lw_g (lw_at lw_m1 198 rfl) rfl
theorem q242 : (Jvm.Cond.lays "SilkRow$Tray" "SilkRow$Tray" "litter" "I") ∈ lw_all := lw_g (lw_at lw_m1 199 rfl) rfl
theorem q243 : (Jvm.Cond.soleField "SilkRow$Tray" "litter") ∈ lw_all := lw_g (lw_at lw_m1 200 rfl) rfl
theorem q244 : (Jvm.Cond.lays "SilkRow$Tray" "SilkRow$Tray" "given" "I") ∈ lw_all := lw_g (lw_at lw_m1 201 rfl) rfl
theorem q245 : (Jvm.Cond.soleField "SilkRow$Tray" "given") ∈ lw_all := lw_g (lw_at lw_m1 202 rfl) rfl
theorem q246 : (Jvm.Cond.lays "SilkRow$Tray" "SilkRow$Tray" "wetness" "I") ∈ lw_all := lw_g (lw_at lw_m1 203 rfl) rfl
theorem q247 : (Jvm.Cond.soleField "SilkRow$Tray" "wetness") ∈ lw_all := lw_g (lw_at lw_m1 204 rfl) rfl
theorem q248 : (Jvm.Cond.lays "SilkRow$Tray" "SilkRow$Tray" "isRipe" "Z") ∈ lw_all := lw_g (lw_at lw_m1 205 rfl) rfl
theorem q249 : (Jvm.Cond.soleField "SilkRow$Tray" "isRipe") ∈ lw_all := lw_g (lw_at lw_m1 206 rfl) rfl
theorem q250 : (Jvm.Cond.superclass "SilkRow$Tray" "java/lang/Object") ∈ lw_all := lw_g (lw_at lw_m1 207 rfl) rfl
theorem q377 : (Jvm.Cond.instanceMethod ({ cls := "SilkRow$Tray", name := "need", desc := "()I" } : Jvm.MethodName)) ∈ lw_all := lw_g (lw_at lw_m2 94 rfl) rfl
theorem q378 : (Jvm.Cond.selects "SilkRow$Tray" ({ cls := "SilkRow$Tray", name := "need", desc := "()I" } : Jvm.MethodName) ({ cls := "SilkRow$Tray", name := "need", desc := "()I" } : Jvm.MethodName)) ∈ lw_all := lw_g (lw_at lw_m2 95 rfl) rfl
theorem q379 : (Jvm.Cond.code ({ cls := "SilkRow$Tray", name := "need", desc := "()I" } : Jvm.MethodName) prog_7_method_5_code (1 : Nat) (Option.some Jvm.ClassFile.FieldType.int)) ∈ lw_all := lw_g (lw_at lw_m2 96 rfl) rfl
theorem q380 : (Jvm.Cond.methodLinkNest "SilkRow$Tray" (51 : Nat) ({ cls := "SilkRow", name := "up", desc := "(II)I" } : Jvm.MethodName) "SilkRow") ∈ lw_tbl := lw_at lw_m2 97 rfl
theorem q388 : (Jvm.Cond.instanceMethod ({ cls := "SilkRow$Tray", name := "copy", desc := "()LSilkRow$Tray;" } : Jvm.MethodName)) ∈ lw_all := lw_g (lw_at lw_m2 105 rfl) rfl
theorem q389 : (Jvm.Cond.selects "SilkRow$Tray" ({ cls := "SilkRow$Tray", name := "copy", desc := "()LSilkRow$Tray;" } : Jvm.MethodName) ({ cls := "SilkRow$Tray", name := "copy", desc := "()LSilkRow$Tray;" } : Jvm.MethodName)) ∈ lw_all := lw_g (lw_at lw_m2 106 rfl) rfl
theorem q390 : (Jvm.Cond.code ({ cls := "SilkRow$Tray", name := "copy", desc := "()LSilkRow$Tray;" } : Jvm.MethodName) prog_7_method_2_code (2 : Nat) (Option.some (Jvm.ClassFile.FieldType.object "SilkRow$Tray"))) ∈ lw_all := lw_g (lw_at lw_m2 107 rfl) rfl
theorem q391 : (Jvm.Cond.classLink "SilkRow$Tray" (10 : Nat) "SilkRow$Tray") ∈ lw_all := lw_g (lw_at lw_m2 108 rfl) rfl
theorem q392 : (Jvm.Cond.methodLink "SilkRow$Tray" (15 : Nat) ({ cls := "SilkRow$Tray", name := "<init>", desc := "()V" } : Jvm.MethodName)) ∈ lw_all := lw_g (lw_at lw_m2 109 rfl) rfl
theorem q408 : (Jvm.Cond.instanceMethod ({ cls := "SilkRow$Tray", name := "pass", desc := "(I)I" } : Jvm.MethodName)) ∈ lw_all := lw_g (lw_at lw_m2 125 rfl) rfl
theorem q409 : (Jvm.Cond.selects "SilkRow$Tray" ({ cls := "SilkRow$Tray", name := "pass", desc := "(I)I" } : Jvm.MethodName) ({ cls := "SilkRow$Tray", name := "pass", desc := "(I)I" } : Jvm.MethodName)) ∈ lw_all := lw_g (lw_at lw_m2 126 rfl) rfl
theorem q410 : (Jvm.Cond.code ({ cls := "SilkRow$Tray", name := "pass", desc := "(I)I" } : Jvm.MethodName) prog_7_method_7_code (4 : Nat) (Option.some Jvm.ClassFile.FieldType.int)) ∈ lw_all := lw_g (lw_at lw_m2 127 rfl) rfl
theorem q411 : (Jvm.Cond.methodLink "SilkRow$Tray" (63 : Nat) ({ cls := "SilkRow$Tray", name := "grow", desc := "()I" } : Jvm.MethodName)) ∈ lw_all := lw_g (lw_at lw_m2 128 rfl) rfl
theorem q412 : (Jvm.Cond.privateMethod ({ cls := "SilkRow$Tray", name := "grow", desc := "()I" } : Jvm.MethodName)) ∈ lw_tbl := lw_at lw_m2 129 rfl
theorem q413 : (Jvm.Cond.instanceMethod ({ cls := "SilkRow$Tray", name := "grow", desc := "()I" } : Jvm.MethodName)) ∈ lw_all := lw_g (lw_at lw_m2 130 rfl) rfl
theorem q414 : (Jvm.Cond.code ({ cls := "SilkRow$Tray", name := "grow", desc := "()I" } : Jvm.MethodName) prog_7_method_8_code (2 : Nat) (Option.some Jvm.ClassFile.FieldType.int)) ∈ lw_all := lw_g (lw_at lw_m2 131 rfl) rfl
theorem q415 : (Jvm.Cond.methodLinkNest "SilkRow$Tray" (67 : Nat) ({ cls := "SilkRow", name := "one", desc := "(Z)I" } : Jvm.MethodName) "SilkRow") ∈ lw_tbl := lw_at lw_m2 132 rfl
theorem q416 : (Jvm.Cond.methodLink "SilkRow$Tray" (78 : Nat) ({ cls := "SilkRow$Tray", name := "need", desc := "()I" } : Jvm.MethodName)) ∈ lw_all := lw_g (lw_at lw_m2 133 rfl) rfl
theorem q417 : (Jvm.Cond.methodLink "SilkRow$Tray" (74 : Nat) ({ cls := "SilkRow$Tray", name := "lose", desc := "(I)I" } : Jvm.MethodName)) ∈ lw_all := lw_g (lw_at lw_m2 134 rfl) rfl
theorem q418 : (Jvm.Cond.instanceMethod ({ cls := "SilkRow$Tray", name := "lose", desc := "(I)I" } : Jvm.MethodName)) ∈ lw_all := lw_g (lw_at lw_m2 135 rfl) rfl
theorem q419 : (Jvm.Cond.selects "SilkRow$Tray" ({ cls := "SilkRow$Tray", name := "lose", desc := "(I)I" } : Jvm.MethodName) ({ cls := "SilkRow$Tray", name := "lose", desc := "(I)I" } : Jvm.MethodName)) ∈ lw_all := lw_g (lw_at lw_m2 136 rfl) rfl
theorem q420 : (Jvm.Cond.code ({ cls := "SilkRow$Tray", name := "lose", desc := "(I)I" } : Jvm.MethodName) prog_7_method_6_code (2 : Nat) (Option.some Jvm.ClassFile.FieldType.int)) ∈ lw_all := lw_g (lw_at lw_m2 137 rfl) rfl
theorem q421 : (Jvm.Cond.methodLink "SilkRow$Tray" (55 : Nat) ({ cls := "java/lang/Math", name := "max", desc := "(II)I" } : Jvm.MethodName)) ∈ lw_all := lw_g (lw_at lw_m2 138 rfl) rfl
theorem q422 : (Jvm.Cond.methodLink "SilkRow$Tray" (60 : Nat) ({ cls := "SilkRow$Tray", name := "empty", desc := "()V" } : Jvm.MethodName)) ∈ lw_all := lw_g (lw_at lw_m2 139 rfl) rfl
theorem q423 : (Jvm.Cond.instanceMethod ({ cls := "SilkRow$Tray", name := "empty", desc := "()V" } : Jvm.MethodName)) ∈ lw_all := lw_g (lw_at lw_m2 140 rfl) rfl
theorem q424 : (Jvm.Cond.selects "SilkRow$Tray" ({ cls := "SilkRow$Tray", name := "empty", desc := "()V" } : Jvm.MethodName) ({ cls := "SilkRow$Tray", name := "empty", desc := "()V" } : Jvm.MethodName)) ∈ lw_all := lw_g (lw_at lw_m2 141 rfl) rfl
theorem q425 : (Jvm.Cond.code ({ cls := "SilkRow$Tray", name := "empty", desc := "()V" } : Jvm.MethodName) prog_7_method_4_code (1 : Nat) (Option.none : Option Jvm.ClassFile.FieldType)) ∈ lw_all := lw_g (lw_at lw_m2 142 rfl) rfl
theorem q426 : (Jvm.Cond.methodLink "SilkRow$Tray" (47 : Nat) ({ cls := "SilkRow$Tray", name := "take", desc := "(LSilkRow$Tray;)V" } : Jvm.MethodName)) ∈ lw_all := lw_g (lw_at lw_m2 143 rfl) rfl
theorem q427 : (Jvm.Cond.instanceMethod ({ cls := "SilkRow$Tray", name := "take", desc := "(LSilkRow$Tray;)V" } : Jvm.MethodName)) ∈ lw_all := lw_g (lw_at lw_m2 144 rfl) rfl
theorem q428 : (Jvm.Cond.selects "SilkRow$Tray" ({ cls := "SilkRow$Tray", name := "take", desc := "(LSilkRow$Tray;)V" } : Jvm.MethodName) ({ cls := "SilkRow$Tray", name := "take", desc := "(LSilkRow$Tray;)V" } : Jvm.MethodName)) ∈ lw_all := lw_g (lw_at lw_m2 145 rfl) rfl
theorem q429 : (Jvm.Cond.code ({ cls := "SilkRow$Tray", name := "take", desc := "(LSilkRow$Tray;)V" } : Jvm.MethodName) prog_7_method_3_code (2 : Nat) (Option.none : Option Jvm.ClassFile.FieldType)) ∈ lw_all := lw_g (lw_at lw_m2 146 rfl) rfl
theorem q430 : (Jvm.Cond.methodLink "SilkRow$Tray" (71 : Nat) ({ cls := "java/lang/Math", name := "min", desc := "(II)I" } : Jvm.MethodName)) ∈ lw_all := lw_g (lw_at lw_m2 147 rfl) rfl
theorem q627 : (Jvm.Cond.selects "SilkRow$Tray" ({ cls := "java/lang/Object", name := "equals", desc := "(Ljava/lang/Object;)Z" } : Jvm.MethodName) ({ cls := "java/lang/Object", name := "equals", desc := "(Ljava/lang/Object;)Z" } : Jvm.MethodName)) ∈ lw_all := lw_g (lw_at lw_m3 104 rfl) rfl
theorem q933 : (Jvm.Cond.instanceMethod ({ cls := "SilkRow$Tray", name := "clean", desc := "()I" } : Jvm.MethodName)) ∈ lw_all := lw_g (lw_at lw_m4 170 rfl) rfl
theorem q934 : (Jvm.Cond.selects "SilkRow$Tray" ({ cls := "SilkRow$Tray", name := "clean", desc := "()I" } : Jvm.MethodName) ({ cls := "SilkRow$Tray", name := "clean", desc := "()I" } : Jvm.MethodName)) ∈ lw_all := lw_g (lw_at lw_m4 171 rfl) rfl
theorem q935 : (Jvm.Cond.code ({ cls := "SilkRow$Tray", name := "clean", desc := "()I" } : Jvm.MethodName) prog_7_method_9_code (1 : Nat) (Option.some Jvm.ClassFile.FieldType.int)) ∈ lw_all := lw_g (lw_at lw_m4 172 rfl) rfl
theorem q944 : (Jvm.Cond.instanceMethod ({ cls := "SilkRow$Tray", name := "part", desc := "(LSilkRow$Tray;I)I" } : Jvm.MethodName)) ∈ lw_all := lw_g (lw_at lw_m4 181 rfl) rfl
theorem q945 : (Jvm.Cond.selects "SilkRow$Tray" ({ cls := "SilkRow$Tray", name := "part", desc := "(LSilkRow$Tray;I)I" } : Jvm.MethodName) ({ cls := "SilkRow$Tray", name := "part", desc := "(LSilkRow$Tray;I)I" } : Jvm.MethodName)) ∈ lw_all := lw_g (lw_at lw_m4 182 rfl) rfl
theorem q946 : (Jvm.Cond.code ({ cls := "SilkRow$Tray", name := "part", desc := "(LSilkRow$Tray;I)I" } : Jvm.MethodName) prog_7_method_10_code (4 : Nat) (Option.some Jvm.ClassFile.FieldType.int)) ∈ lw_all := lw_g (lw_at lw_m4 183 rfl) rfl
theorem q1679 : (Jvm.Cond.castable "SilkRow$Tray" "java/lang/Object") ∈ lw_tbl := lw_at lw_m7 196 rfl
theorem in_X3 : ∀ w ∈ wsX30, w ∈ lw_all := lw_in wsX30 [228, 230, 232, 234, 236, 238, 240, 242, 244, 246, 248] (by decide +kernel) (by decide +kernel)
/-! SilkRowModel$Basin -/
set_option maxRecDepth 100000
def RX5 : String := "SilkRowModel$Basin"
def TX5 : u_T := fun k => match k with
  | _ => ("SilkRowModel$Basin", "filaments", "Ljava/util/ArrayList;", true)
def tyX5 : Nat → FieldType := fun k => match k with
  | _ => .object "java/util/ArrayList"
abbrev wsX50 : List Cond := u_ws RX5 TX5 1
theorem nmX5 : ∀ a, a < 1 → ∀ b, b < 1 → a ≠ b → (TX5 a).2.1 ≠ (TX5 b).2.1 := by decide +kernel
theorem tyX5_ok : ∀ k, k < 1 → parseFieldDescriptor (TX5 k).2.2.1 = some (tyX5 k) := by decide +kernel
abbrev cX5_init : ByteArray := prog_10_method_1_code
def yX5_init : MethodName := ⟨RX5, "<init>", "()V"⟩
def dkwX5_init_0 : List UInt8 := [42, 183, 0, 3, 42, 187, 0, 9, 89, 183, 0, 11, 181, 0, 12, 177]
abbrev dktX5_init_0 : List UInt8 := dkwX5_init_0 ++ []
theorem dksX5_init_0 : cX5_init.data.toList.drop 0 = dktX5_init_0 := by decide +kernel
theorem dX5_init_0 : decode cX5_init 0 = .ok (.aload_n 0, 1) := dk_42 (dk_at dksX5_init_0 0 rfl rfl)
theorem dX5_init_1 : decode cX5_init 1 = .ok (.invokespecial 3, 3) := dk_183 0 3 (dk_at dksX5_init_0 1 rfl rfl)
theorem dX5_init_4 : decode cX5_init 4 = .ok (.aload_n 0, 1) := dk_42 (dk_at dksX5_init_0 4 rfl rfl)
theorem dX5_init_5 : decode cX5_init 5 = .ok (.new 9, 3) := dk_187 0 9 (dk_at dksX5_init_0 5 rfl rfl)
theorem dX5_init_8 : decode cX5_init 8 = .ok (.dup, 1) := dk_89 (dk_at dksX5_init_0 8 rfl rfl)
theorem dX5_init_9 : decode cX5_init 9 = .ok (.invokespecial 11, 3) := dk_183 0 11 (dk_at dksX5_init_0 9 rfl rfl)
theorem dX5_init_12 : decode cX5_init 12 = .ok (.putfield 12, 3) := dk_181 0 12 (dk_at dksX5_init_0 12 rfl rfl)
theorem dX5_init_15 : decode cX5_init 15 = .ok (.return_, 1) := dk_177 (dk_at dksX5_init_0 15 rfl rfl)
abbrev cX5_reel : ByteArray := prog_10_method_5_code
def yX5_reel : MethodName := ⟨RX5, "reel", "(LSilkRowModel$Lot;[III)LSilkRowModel$Skein;"⟩
def dkwX5_reel_3 : List UInt8 := [167, 255, 198, 25, 5, 176]
abbrev dktX5_reel_3 : List UInt8 := dkwX5_reel_3 ++ []
def dkwX5_reel_2 : List UInt8 := [153, 0, 6, 25, 5, 176, 25, 5, 42, 182, 0, 51, 182, 0, 62, 42, 25, 5, 182, 0, 65, 132, 6, 1]
abbrev dktX5_reel_2 : List UInt8 := dkwX5_reel_2 ++ dktX5_reel_3
def dkwX5_reel_1 : List UInt8 := [162, 0, 15, 42, 43, 44, 182, 0, 54, 153, 0, 6, 167, 255, 239, 42, 180, 0, 12, 182, 0, 58]
abbrev dktX5_reel_1 : List UInt8 := dkwX5_reel_1 ++ dktX5_reel_2
def dkwX5_reel_0 : List UInt8 := [187, 0, 48, 89, 183, 0, 50, 58, 5, 3, 54, 6, 21, 6, 21, 4, 162, 0, 57, 42, 182, 0, 51, 29]
abbrev dktX5_reel_0 : List UInt8 := dkwX5_reel_0 ++ dktX5_reel_1
theorem dksX5_reel_0 : cX5_reel.data.toList.drop 0 = dktX5_reel_0 := by decide +kernel
theorem dksX5_reel_1 : cX5_reel.data.toList.drop 24 = dktX5_reel_1 := dk_seg dksX5_reel_0 24 rfl rfl
theorem dksX5_reel_2 : cX5_reel.data.toList.drop 46 = dktX5_reel_2 := dk_seg dksX5_reel_1 22 rfl rfl
theorem dksX5_reel_3 : cX5_reel.data.toList.drop 70 = dktX5_reel_3 := dk_seg dksX5_reel_2 24 rfl rfl
theorem dX5_reel_0 : decode cX5_reel 0 = .ok (.new 48, 3) := dk_187 0 48 (dk_at dksX5_reel_0 0 rfl rfl)
theorem dX5_reel_3 : decode cX5_reel 3 = .ok (.dup, 1) := dk_89 (dk_at dksX5_reel_0 3 rfl rfl)
theorem dX5_reel_4 : decode cX5_reel 4 = .ok (.invokespecial 50, 3) := dk_183 0 50 (dk_at dksX5_reel_0 4 rfl rfl)
theorem dX5_reel_7 : decode cX5_reel 7 = .ok (.astore 5, 2) := dk_58 5 (dk_at dksX5_reel_0 7 rfl rfl)
theorem dX5_reel_9 : decode cX5_reel 9 = .ok (.iconst 0, 1) := dk_3 (dk_at dksX5_reel_0 9 rfl rfl)
theorem dX5_reel_10 : decode cX5_reel 10 = .ok (.istore 6, 2) := dk_54 6 (dk_at dksX5_reel_0 10 rfl rfl)
theorem dX5_reel_12 : decode cX5_reel 12 = .ok (.iload 6, 2) := dk_21 6 (dk_at dksX5_reel_0 12 rfl rfl)
theorem dX5_reel_14 : decode cX5_reel 14 = .ok (.iload 4, 2) := dk_21 4 (dk_at dksX5_reel_0 14 rfl rfl)
theorem dX5_reel_16 : decode cX5_reel 16 = .ok (.if_icmp .ge 57, 3) := dk_162 0 57 (dk_at dksX5_reel_0 16 rfl rfl)
theorem dX5_reel_19 : decode cX5_reel 19 = .ok (.aload_n 0, 1) := dk_42 (dk_at dksX5_reel_0 19 rfl rfl)
theorem dX5_reel_20 : decode cX5_reel 20 = .ok (.invokevirtual 51, 3) := dk_182 0 51 (dk_at dksX5_reel_0 20 rfl rfl)
theorem dX5_reel_23 : decode cX5_reel 23 = .ok (.iload_n 3, 1) := dk_29 (dk_at dksX5_reel_0 23 rfl rfl)
theorem dX5_reel_24 : decode cX5_reel 24 = .ok (.if_icmp .ge 15, 3) := dk_162 0 15 (dk_at dksX5_reel_1 0 rfl rfl)
theorem dX5_reel_27 : decode cX5_reel 27 = .ok (.aload_n 0, 1) := dk_42 (dk_at dksX5_reel_1 3 rfl rfl)
theorem dX5_reel_28 : decode cX5_reel 28 = .ok (.aload_n 1, 1) := dk_43 (dk_at dksX5_reel_1 4 rfl rfl)
theorem dX5_reel_29 : decode cX5_reel 29 = .ok (.aload_n 2, 1) := dk_44 (dk_at dksX5_reel_1 5 rfl rfl)
theorem dX5_reel_30 : decode cX5_reel 30 = .ok (.invokevirtual 54, 3) := dk_182 0 54 (dk_at dksX5_reel_1 6 rfl rfl)
theorem dX5_reel_33 : decode cX5_reel 33 = .ok (.ifCond .eq 6, 3) := dk_153 0 6 (dk_at dksX5_reel_1 9 rfl rfl)
theorem dX5_reel_36 : decode cX5_reel 36 = .ok (.goto (-17), 3) := dk_167 255 239 (dk_at dksX5_reel_1 12 rfl rfl)
theorem dX5_reel_39 : decode cX5_reel 39 = .ok (.aload_n 0, 1) := dk_42 (dk_at dksX5_reel_1 15 rfl rfl)
theorem dX5_reel_40 : decode cX5_reel 40 = .ok (.getfield 12, 3) := dk_180 0 12 (dk_at dksX5_reel_1 16 rfl rfl)
theorem dX5_reel_43 : decode cX5_reel 43 = .ok (.invokevirtual 58, 3) := dk_182 0 58 (dk_at dksX5_reel_1 19 rfl rfl)
theorem dX5_reel_46 : decode cX5_reel 46 = .ok (.ifCond .eq 6, 3) := dk_153 0 6 (dk_at dksX5_reel_2 0 rfl rfl)
theorem dX5_reel_49 : decode cX5_reel 49 = .ok (.aload 5, 2) := dk_25 5 (dk_at dksX5_reel_2 3 rfl rfl)
theorem dX5_reel_51 : decode cX5_reel 51 = .ok (.areturn, 1) := dk_176 (dk_at dksX5_reel_2 5 rfl rfl)
theorem dX5_reel_52 : decode cX5_reel 52 = .ok (.aload 5, 2) := dk_25 5 (dk_at dksX5_reel_2 6 rfl rfl)
theorem dX5_reel_54 : decode cX5_reel 54 = .ok (.aload_n 0, 1) := dk_42 (dk_at dksX5_reel_2 8 rfl rfl)
theorem dX5_reel_55 : decode cX5_reel 55 = .ok (.invokevirtual 51, 3) := dk_182 0 51 (dk_at dksX5_reel_2 9 rfl rfl)
theorem dX5_reel_58 : decode cX5_reel 58 = .ok (.invokevirtual 62, 3) := dk_182 0 62 (dk_at dksX5_reel_2 12 rfl rfl)
theorem dX5_reel_61 : decode cX5_reel 61 = .ok (.aload_n 0, 1) := dk_42 (dk_at dksX5_reel_2 15 rfl rfl)
theorem dX5_reel_62 : decode cX5_reel 62 = .ok (.aload 5, 2) := dk_25 5 (dk_at dksX5_reel_2 16 rfl rfl)
theorem dX5_reel_64 : decode cX5_reel 64 = .ok (.invokevirtual 65, 3) := dk_182 0 65 (dk_at dksX5_reel_2 18 rfl rfl)
theorem dX5_reel_67 : decode cX5_reel 67 = .ok (.iinc 6 1, 3) := dk_132 6 1 (dk_at dksX5_reel_2 21 rfl rfl)
theorem dX5_reel_70 : decode cX5_reel 70 = .ok (.goto (-58), 3) := dk_167 255 198 (dk_at dksX5_reel_3 0 rfl rfl)
theorem dX5_reel_73 : decode cX5_reel 73 = .ok (.aload 5, 2) := dk_25 5 (dk_at dksX5_reel_3 3 rfl rfl)
theorem dX5_reel_75 : decode cX5_reel 75 = .ok (.areturn, 1) := dk_176 (dk_at dksX5_reel_3 5 rfl rfl)
abbrev cX5_sum : ByteArray := prog_10_method_3_code
def yX5_sum : MethodName := ⟨RX5, "sum", "()I"⟩
def dkwX5_sum_1 : List UInt8 := [192, 0, 30, 184, 0, 32, 96, 60, 132, 2, 1, 167, 255, 225, 27, 172]
abbrev dktX5_sum_1 : List UInt8 := dkwX5_sum_1 ++ []
def dkwX5_sum_0 : List UInt8 := [3, 60, 3, 61, 28, 42, 180, 0, 12, 182, 0, 22, 162, 0, 26, 27, 42, 180, 0, 12, 28, 182, 0, 26]
abbrev dktX5_sum_0 : List UInt8 := dkwX5_sum_0 ++ dktX5_sum_1
theorem dksX5_sum_0 : cX5_sum.data.toList.drop 0 = dktX5_sum_0 := by decide +kernel
theorem dksX5_sum_1 : cX5_sum.data.toList.drop 24 = dktX5_sum_1 := dk_seg dksX5_sum_0 24 rfl rfl
theorem dX5_sum_0 : decode cX5_sum 0 = .ok (.iconst 0, 1) := dk_3 (dk_at dksX5_sum_0 0 rfl rfl)
theorem dX5_sum_1 : decode cX5_sum 1 = .ok (.istore_n 1, 1) := dk_60 (dk_at dksX5_sum_0 1 rfl rfl)
theorem dX5_sum_2 : decode cX5_sum 2 = .ok (.iconst 0, 1) := dk_3 (dk_at dksX5_sum_0 2 rfl rfl)
theorem dX5_sum_3 : decode cX5_sum 3 = .ok (.istore_n 2, 1) := dk_61 (dk_at dksX5_sum_0 3 rfl rfl)
theorem dX5_sum_4 : decode cX5_sum 4 = .ok (.iload_n 2, 1) := dk_28 (dk_at dksX5_sum_0 4 rfl rfl)
theorem dX5_sum_5 : decode cX5_sum 5 = .ok (.aload_n 0, 1) := dk_42 (dk_at dksX5_sum_0 5 rfl rfl)
theorem dX5_sum_6 : decode cX5_sum 6 = .ok (.getfield 12, 3) := dk_180 0 12 (dk_at dksX5_sum_0 6 rfl rfl)
theorem dX5_sum_9 : decode cX5_sum 9 = .ok (.invokevirtual 22, 3) := dk_182 0 22 (dk_at dksX5_sum_0 9 rfl rfl)
theorem dX5_sum_12 : decode cX5_sum 12 = .ok (.if_icmp .ge 26, 3) := dk_162 0 26 (dk_at dksX5_sum_0 12 rfl rfl)
theorem dX5_sum_15 : decode cX5_sum 15 = .ok (.iload_n 1, 1) := dk_27 (dk_at dksX5_sum_0 15 rfl rfl)
theorem dX5_sum_16 : decode cX5_sum 16 = .ok (.aload_n 0, 1) := dk_42 (dk_at dksX5_sum_0 16 rfl rfl)
theorem dX5_sum_17 : decode cX5_sum 17 = .ok (.getfield 12, 3) := dk_180 0 12 (dk_at dksX5_sum_0 17 rfl rfl)
theorem dX5_sum_20 : decode cX5_sum 20 = .ok (.iload_n 2, 1) := dk_28 (dk_at dksX5_sum_0 20 rfl rfl)
theorem dX5_sum_21 : decode cX5_sum 21 = .ok (.invokevirtual 26, 3) := dk_182 0 26 (dk_at dksX5_sum_0 21 rfl rfl)
theorem dX5_sum_24 : decode cX5_sum 24 = .ok (.checkcast 30, 3) := dk_192 0 30 (dk_at dksX5_sum_1 0 rfl rfl)
theorem dX5_sum_27 : decode cX5_sum 27 = .ok (.invokestatic 32, 3) := dk_184 0 32 (dk_at dksX5_sum_1 3 rfl rfl)
theorem dX5_sum_30 : decode cX5_sum 30 = .ok (.iadd, 1) := dk_96 (dk_at dksX5_sum_1 6 rfl rfl)
theorem dX5_sum_31 : decode cX5_sum 31 = .ok (.istore_n 1, 1) := dk_60 (dk_at dksX5_sum_1 7 rfl rfl)
theorem dX5_sum_32 : decode cX5_sum 32 = .ok (.iinc 2 1, 3) := dk_132 2 1 (dk_at dksX5_sum_1 8 rfl rfl)
theorem dX5_sum_35 : decode cX5_sum 35 = .ok (.goto (-31), 3) := dk_167 255 225 (dk_at dksX5_sum_1 11 rfl rfl)
theorem dX5_sum_38 : decode cX5_sum 38 = .ok (.iload_n 1, 1) := dk_27 (dk_at dksX5_sum_1 14 rfl rfl)
theorem dX5_sum_39 : decode cX5_sum 39 = .ok (.ireturn, 1) := dk_172 (dk_at dksX5_sum_1 15 rfl rfl)
abbrev cX5_next : ByteArray := prog_10_method_2_code
def yX5_next : MethodName := ⟨RX5, "next", "([I)I"⟩
def dkwX5_next_0 : List UInt8 := [42, 3, 46, 42, 4, 46, 42, 6, 46, 184, 0, 18, 172]
abbrev dktX5_next_0 : List UInt8 := dkwX5_next_0 ++ []
theorem dksX5_next_0 : cX5_next.data.toList.drop 0 = dktX5_next_0 := by decide +kernel
theorem dX5_next_0 : decode cX5_next 0 = .ok (.aload_n 0, 1) := dk_42 (dk_at dksX5_next_0 0 rfl rfl)
theorem dX5_next_1 : decode cX5_next 1 = .ok (.iconst 0, 1) := dk_3 (dk_at dksX5_next_0 1 rfl rfl)
theorem dX5_next_2 : decode cX5_next 2 = .ok (.iaload, 1) := dk_46 (dk_at dksX5_next_0 2 rfl rfl)
theorem dX5_next_3 : decode cX5_next 3 = .ok (.aload_n 0, 1) := dk_42 (dk_at dksX5_next_0 3 rfl rfl)
theorem dX5_next_4 : decode cX5_next 4 = .ok (.iconst 1, 1) := dk_4 (dk_at dksX5_next_0 4 rfl rfl)
theorem dX5_next_5 : decode cX5_next 5 = .ok (.iaload, 1) := dk_46 (dk_at dksX5_next_0 5 rfl rfl)
theorem dX5_next_6 : decode cX5_next 6 = .ok (.aload_n 0, 1) := dk_42 (dk_at dksX5_next_0 6 rfl rfl)
theorem dX5_next_7 : decode cX5_next 7 = .ok (.iconst 3, 1) := dk_6 (dk_at dksX5_next_0 7 rfl rfl)
theorem dX5_next_8 : decode cX5_next 8 = .ok (.iaload, 1) := dk_46 (dk_at dksX5_next_0 8 rfl rfl)
theorem dX5_next_9 : decode cX5_next 9 = .ok (.invokestatic 18, 3) := dk_184 0 18 (dk_at dksX5_next_0 9 rfl rfl)
theorem dX5_next_12 : decode cX5_next 12 = .ok (.ireturn, 1) := dk_172 (dk_at dksX5_next_0 12 rfl rfl)
abbrev cX5_join : ByteArray := prog_10_method_4_code
def yX5_join : MethodName := ⟨RX5, "join", "(LSilkRowModel$Lot;[I)Z"⟩
def dkwX5_join_2 : List UInt8 := [89, 6, 3, 79, 182, 0, 44, 87, 4, 172, 132, 3, 1, 167, 255, 197, 3, 172]
abbrev dktX5_join_2 : List UInt8 := dkwX5_join_2 ++ []
def dkwX5_join_1 : List UInt8 := [180, 0, 12, 7, 188, 10, 89, 3, 29, 79, 89, 4, 43, 180, 0, 36, 79, 89, 5, 43, 180, 0, 41, 79]
abbrev dktX5_join_1 : List UInt8 := dkwX5_join_1 ++ dktX5_join_2
def dkwX5_join_0 : List UInt8 := [3, 62, 29, 5, 163, 0, 60, 44, 29, 46, 154, 0, 6, 167, 0, 45, 44, 29, 92, 46, 4, 100, 79, 42]
abbrev dktX5_join_0 : List UInt8 := dkwX5_join_0 ++ dktX5_join_1
theorem dksX5_join_0 : cX5_join.data.toList.drop 0 = dktX5_join_0 := by decide +kernel
theorem dksX5_join_1 : cX5_join.data.toList.drop 24 = dktX5_join_1 := dk_seg dksX5_join_0 24 rfl rfl
theorem dksX5_join_2 : cX5_join.data.toList.drop 48 = dktX5_join_2 := dk_seg dksX5_join_1 24 rfl rfl
theorem dX5_join_0 : decode cX5_join 0 = .ok (.iconst 0, 1) := dk_3 (dk_at dksX5_join_0 0 rfl rfl)
theorem dX5_join_1 : decode cX5_join 1 = .ok (.istore_n 3, 1) := dk_62 (dk_at dksX5_join_0 1 rfl rfl)
theorem dX5_join_2 : decode cX5_join 2 = .ok (.iload_n 3, 1) := dk_29 (dk_at dksX5_join_0 2 rfl rfl)
theorem dX5_join_3 : decode cX5_join 3 = .ok (.iconst 2, 1) := dk_5 (dk_at dksX5_join_0 3 rfl rfl)
theorem dX5_join_4 : decode cX5_join 4 = .ok (.if_icmp .gt 60, 3) := dk_163 0 60 (dk_at dksX5_join_0 4 rfl rfl)
theorem dX5_join_7 : decode cX5_join 7 = .ok (.aload_n 2, 1) := dk_44 (dk_at dksX5_join_0 7 rfl rfl)
theorem dX5_join_8 : decode cX5_join 8 = .ok (.iload_n 3, 1) := dk_29 (dk_at dksX5_join_0 8 rfl rfl)
theorem dX5_join_9 : decode cX5_join 9 = .ok (.iaload, 1) := dk_46 (dk_at dksX5_join_0 9 rfl rfl)
theorem dX5_join_10 : decode cX5_join 10 = .ok (.ifCond .ne 6, 3) := dk_154 0 6 (dk_at dksX5_join_0 10 rfl rfl)
theorem dX5_join_13 : decode cX5_join 13 = .ok (.goto 45, 3) := dk_167 0 45 (dk_at dksX5_join_0 13 rfl rfl)
theorem dX5_join_16 : decode cX5_join 16 = .ok (.aload_n 2, 1) := dk_44 (dk_at dksX5_join_0 16 rfl rfl)
theorem dX5_join_17 : decode cX5_join 17 = .ok (.iload_n 3, 1) := dk_29 (dk_at dksX5_join_0 17 rfl rfl)
theorem dX5_join_18 : decode cX5_join 18 = .ok (.dup2, 1) := dk_92 (dk_at dksX5_join_0 18 rfl rfl)
theorem dX5_join_19 : decode cX5_join 19 = .ok (.iaload, 1) := dk_46 (dk_at dksX5_join_0 19 rfl rfl)
theorem dX5_join_20 : decode cX5_join 20 = .ok (.iconst 1, 1) := dk_4 (dk_at dksX5_join_0 20 rfl rfl)
theorem dX5_join_21 : decode cX5_join 21 = .ok (.isub, 1) := dk_100 (dk_at dksX5_join_0 21 rfl rfl)
theorem dX5_join_22 : decode cX5_join 22 = .ok (.iastore, 1) := dk_79 (dk_at dksX5_join_0 22 rfl rfl)
theorem dX5_join_23 : decode cX5_join 23 = .ok (.aload_n 0, 1) := dk_42 (dk_at dksX5_join_0 23 rfl rfl)
theorem dX5_join_24 : decode cX5_join 24 = .ok (.getfield 12, 3) := dk_180 0 12 (dk_at dksX5_join_1 0 rfl rfl)
theorem dX5_join_27 : decode cX5_join 27 = .ok (.iconst 4, 1) := dk_7 (dk_at dksX5_join_1 3 rfl rfl)
theorem dX5_join_28 : decode cX5_join 28 = .ok (.newarray .int, 2) := dk_188_10 (dk_at dksX5_join_1 4 rfl rfl)
theorem dX5_join_30 : decode cX5_join 30 = .ok (.dup, 1) := dk_89 (dk_at dksX5_join_1 6 rfl rfl)
theorem dX5_join_31 : decode cX5_join 31 = .ok (.iconst 0, 1) := dk_3 (dk_at dksX5_join_1 7 rfl rfl)
theorem dX5_join_32 : decode cX5_join 32 = .ok (.iload_n 3, 1) := dk_29 (dk_at dksX5_join_1 8 rfl rfl)
theorem dX5_join_33 : decode cX5_join 33 = .ok (.iastore, 1) := dk_79 (dk_at dksX5_join_1 9 rfl rfl)
theorem dX5_join_34 : decode cX5_join 34 = .ok (.dup, 1) := dk_89 (dk_at dksX5_join_1 10 rfl rfl)
theorem dX5_join_35 : decode cX5_join 35 = .ok (.iconst 1, 1) := dk_4 (dk_at dksX5_join_1 11 rfl rfl)
theorem dX5_join_36 : decode cX5_join 36 = .ok (.aload_n 1, 1) := dk_43 (dk_at dksX5_join_1 12 rfl rfl)
theorem dX5_join_37 : decode cX5_join 37 = .ok (.getfield 36, 3) := dk_180 0 36 (dk_at dksX5_join_1 13 rfl rfl)
theorem dX5_join_40 : decode cX5_join 40 = .ok (.iastore, 1) := dk_79 (dk_at dksX5_join_1 16 rfl rfl)
theorem dX5_join_41 : decode cX5_join 41 = .ok (.dup, 1) := dk_89 (dk_at dksX5_join_1 17 rfl rfl)
theorem dX5_join_42 : decode cX5_join 42 = .ok (.iconst 2, 1) := dk_5 (dk_at dksX5_join_1 18 rfl rfl)
theorem dX5_join_43 : decode cX5_join 43 = .ok (.aload_n 1, 1) := dk_43 (dk_at dksX5_join_1 19 rfl rfl)
theorem dX5_join_44 : decode cX5_join 44 = .ok (.getfield 41, 3) := dk_180 0 41 (dk_at dksX5_join_1 20 rfl rfl)
theorem dX5_join_47 : decode cX5_join 47 = .ok (.iastore, 1) := dk_79 (dk_at dksX5_join_1 23 rfl rfl)
theorem dX5_join_48 : decode cX5_join 48 = .ok (.dup, 1) := dk_89 (dk_at dksX5_join_2 0 rfl rfl)
theorem dX5_join_49 : decode cX5_join 49 = .ok (.iconst 3, 1) := dk_6 (dk_at dksX5_join_2 1 rfl rfl)
theorem dX5_join_50 : decode cX5_join 50 = .ok (.iconst 0, 1) := dk_3 (dk_at dksX5_join_2 2 rfl rfl)
theorem dX5_join_51 : decode cX5_join 51 = .ok (.iastore, 1) := dk_79 (dk_at dksX5_join_2 3 rfl rfl)
theorem dX5_join_52 : decode cX5_join 52 = .ok (.invokevirtual 44, 3) := dk_182 0 44 (dk_at dksX5_join_2 4 rfl rfl)
theorem dX5_join_55 : decode cX5_join 55 = .ok (.pop, 1) := dk_87 (dk_at dksX5_join_2 7 rfl rfl)
theorem dX5_join_56 : decode cX5_join 56 = .ok (.iconst 1, 1) := dk_4 (dk_at dksX5_join_2 8 rfl rfl)
theorem dX5_join_57 : decode cX5_join 57 = .ok (.ireturn, 1) := dk_172 (dk_at dksX5_join_2 9 rfl rfl)
theorem dX5_join_58 : decode cX5_join 58 = .ok (.iinc 3 1, 3) := dk_132 3 1 (dk_at dksX5_join_2 10 rfl rfl)
theorem dX5_join_61 : decode cX5_join 61 = .ok (.goto (-59), 3) := dk_167 255 197 (dk_at dksX5_join_2 13 rfl rfl)
theorem dX5_join_64 : decode cX5_join 64 = .ok (.iconst 0, 1) := dk_3 (dk_at dksX5_join_2 16 rfl rfl)
theorem dX5_join_65 : decode cX5_join 65 = .ok (.ireturn, 1) := dk_172 (dk_at dksX5_join_2 17 rfl rfl)
abbrev cX5_go : ByteArray := prog_10_method_6_code
def yX5_go : MethodName := ⟨RX5, "go", "(LSilkRowModel$Skein;)V"⟩
def dkwX5_go_2 : List UInt8 := [154, 0, 15, 42, 180, 0, 12, 28, 132, 2, 255, 182, 0, 72, 87, 132, 2, 1, 167, 255, 192, 177]
abbrev dktX5_go_2 : List UInt8 := dkwX5_go_2 ++ []
def dkwX5_go_1 : List UInt8 := [78, 43, 180, 0, 69, 45, 5, 46, 92, 46, 4, 96, 79, 45, 6, 92, 46, 4, 96, 79, 45, 184, 0, 32]
abbrev dktX5_go_1 : List UInt8 := dkwX5_go_1 ++ dktX5_go_2
def dkwX5_go_0 : List UInt8 := [3, 61, 28, 42, 180, 0, 12, 182, 0, 22, 162, 0, 59, 42, 180, 0, 12, 28, 182, 0, 26, 192, 0, 30]
abbrev dktX5_go_0 : List UInt8 := dkwX5_go_0 ++ dktX5_go_1
theorem dksX5_go_0 : cX5_go.data.toList.drop 0 = dktX5_go_0 := by decide +kernel
theorem dksX5_go_1 : cX5_go.data.toList.drop 24 = dktX5_go_1 := dk_seg dksX5_go_0 24 rfl rfl
theorem dksX5_go_2 : cX5_go.data.toList.drop 48 = dktX5_go_2 := dk_seg dksX5_go_1 24 rfl rfl
theorem dX5_go_0 : decode cX5_go 0 = .ok (.iconst 0, 1) := dk_3 (dk_at dksX5_go_0 0 rfl rfl)
theorem dX5_go_1 : decode cX5_go 1 = .ok (.istore_n 2, 1) := dk_61 (dk_at dksX5_go_0 1 rfl rfl)
theorem dX5_go_2 : decode cX5_go 2 = .ok (.iload_n 2, 1) := dk_28 (dk_at dksX5_go_0 2 rfl rfl)
theorem dX5_go_3 : decode cX5_go 3 = .ok (.aload_n 0, 1) := dk_42 (dk_at dksX5_go_0 3 rfl rfl)
theorem dX5_go_4 : decode cX5_go 4 = .ok (.getfield 12, 3) := dk_180 0 12 (dk_at dksX5_go_0 4 rfl rfl)
theorem dX5_go_7 : decode cX5_go 7 = .ok (.invokevirtual 22, 3) := dk_182 0 22 (dk_at dksX5_go_0 7 rfl rfl)
theorem dX5_go_10 : decode cX5_go 10 = .ok (.if_icmp .ge 59, 3) := dk_162 0 59 (dk_at dksX5_go_0 10 rfl rfl)
theorem dX5_go_13 : decode cX5_go 13 = .ok (.aload_n 0, 1) := dk_42 (dk_at dksX5_go_0 13 rfl rfl)
theorem dX5_go_14 : decode cX5_go 14 = .ok (.getfield 12, 3) := dk_180 0 12 (dk_at dksX5_go_0 14 rfl rfl)
theorem dX5_go_17 : decode cX5_go 17 = .ok (.iload_n 2, 1) := dk_28 (dk_at dksX5_go_0 17 rfl rfl)
theorem dX5_go_18 : decode cX5_go 18 = .ok (.invokevirtual 26, 3) := dk_182 0 26 (dk_at dksX5_go_0 18 rfl rfl)
theorem dX5_go_21 : decode cX5_go 21 = .ok (.checkcast 30, 3) := dk_192 0 30 (dk_at dksX5_go_0 21 rfl rfl)
theorem dX5_go_24 : decode cX5_go 24 = .ok (.astore_n 3, 1) := dk_78 (dk_at dksX5_go_1 0 rfl rfl)
theorem dX5_go_25 : decode cX5_go 25 = .ok (.aload_n 1, 1) := dk_43 (dk_at dksX5_go_1 1 rfl rfl)
theorem dX5_go_26 : decode cX5_go 26 = .ok (.getfield 69, 3) := dk_180 0 69 (dk_at dksX5_go_1 2 rfl rfl)
theorem dX5_go_29 : decode cX5_go 29 = .ok (.aload_n 3, 1) := dk_45 (dk_at dksX5_go_1 5 rfl rfl)
theorem dX5_go_30 : decode cX5_go 30 = .ok (.iconst 2, 1) := dk_5 (dk_at dksX5_go_1 6 rfl rfl)
theorem dX5_go_31 : decode cX5_go 31 = .ok (.iaload, 1) := dk_46 (dk_at dksX5_go_1 7 rfl rfl)
theorem dX5_go_32 : decode cX5_go 32 = .ok (.dup2, 1) := dk_92 (dk_at dksX5_go_1 8 rfl rfl)
theorem dX5_go_33 : decode cX5_go 33 = .ok (.iaload, 1) := dk_46 (dk_at dksX5_go_1 9 rfl rfl)
theorem dX5_go_34 : decode cX5_go 34 = .ok (.iconst 1, 1) := dk_4 (dk_at dksX5_go_1 10 rfl rfl)
theorem dX5_go_35 : decode cX5_go 35 = .ok (.iadd, 1) := dk_96 (dk_at dksX5_go_1 11 rfl rfl)
theorem dX5_go_36 : decode cX5_go 36 = .ok (.iastore, 1) := dk_79 (dk_at dksX5_go_1 12 rfl rfl)
theorem dX5_go_37 : decode cX5_go 37 = .ok (.aload_n 3, 1) := dk_45 (dk_at dksX5_go_1 13 rfl rfl)
theorem dX5_go_38 : decode cX5_go 38 = .ok (.iconst 3, 1) := dk_6 (dk_at dksX5_go_1 14 rfl rfl)
theorem dX5_go_39 : decode cX5_go 39 = .ok (.dup2, 1) := dk_92 (dk_at dksX5_go_1 15 rfl rfl)
theorem dX5_go_40 : decode cX5_go 40 = .ok (.iaload, 1) := dk_46 (dk_at dksX5_go_1 16 rfl rfl)
theorem dX5_go_41 : decode cX5_go 41 = .ok (.iconst 1, 1) := dk_4 (dk_at dksX5_go_1 17 rfl rfl)
theorem dX5_go_42 : decode cX5_go 42 = .ok (.iadd, 1) := dk_96 (dk_at dksX5_go_1 18 rfl rfl)
theorem dX5_go_43 : decode cX5_go 43 = .ok (.iastore, 1) := dk_79 (dk_at dksX5_go_1 19 rfl rfl)
theorem dX5_go_44 : decode cX5_go 44 = .ok (.aload_n 3, 1) := dk_45 (dk_at dksX5_go_1 20 rfl rfl)
theorem dX5_go_45 : decode cX5_go 45 = .ok (.invokestatic 32, 3) := dk_184 0 32 (dk_at dksX5_go_1 21 rfl rfl)
theorem dX5_go_48 : decode cX5_go 48 = .ok (.ifCond .ne 15, 3) := dk_154 0 15 (dk_at dksX5_go_2 0 rfl rfl)
theorem dX5_go_51 : decode cX5_go 51 = .ok (.aload_n 0, 1) := dk_42 (dk_at dksX5_go_2 3 rfl rfl)
theorem dX5_go_52 : decode cX5_go 52 = .ok (.getfield 12, 3) := dk_180 0 12 (dk_at dksX5_go_2 4 rfl rfl)
theorem dX5_go_55 : decode cX5_go 55 = .ok (.iload_n 2, 1) := dk_28 (dk_at dksX5_go_2 7 rfl rfl)
theorem dX5_go_56 : decode cX5_go 56 = .ok (.iinc 2 (-1), 3) := dk_132 2 255 (dk_at dksX5_go_2 8 rfl rfl)
theorem dX5_go_59 : decode cX5_go 59 = .ok (.invokevirtual 72, 3) := dk_182 0 72 (dk_at dksX5_go_2 11 rfl rfl)
theorem dX5_go_62 : decode cX5_go 62 = .ok (.pop, 1) := dk_87 (dk_at dksX5_go_2 14 rfl rfl)
theorem dX5_go_63 : decode cX5_go 63 = .ok (.iinc 2 1, 3) := dk_132 2 1 (dk_at dksX5_go_2 15 rfl rfl)
theorem dX5_go_66 : decode cX5_go 66 = .ok (.goto (-64), 3) := dk_167 255 192 (dk_at dksX5_go_2 18 rfl rfl)
theorem dX5_go_69 : decode cX5_go 69 = .ok (.return_, 1) := dk_177 (dk_at dksX5_go_2 21 rfl rfl)
theorem q55 : (Jvm.Cond.initialized "SilkRowModel$Basin") ∈ lw_all := lw_g (lw_at lw_m1 12 rfl) rfl
theorem q172 : (Jvm.Cond.selects "SilkRowModel$Basin" ({ cls := "java/lang/Object", name := "getClass", desc := "()Ljava/lang/Class;" } : Jvm.MethodName) ({ cls := "java/lang/Object", name := "getClass", desc := "()Ljava/lang/Class;" } : Jvm.MethodName)) ∈ lw_all := lw_g (lw_at lw_m1 129 rfl) rfl
theorem q629 : (Jvm.Cond.selects "SilkRowModel$Basin" ({ cls := "java/lang/Object", name := "equals", desc := "(Ljava/lang/Object;)Z" } : Jvm.MethodName) ({ cls := "java/lang/Object", name := "equals", desc := "(Ljava/lang/Object;)Z" } : Jvm.MethodName)) ∈ lw_all := lw_g (lw_at lw_m3 106 rfl) rfl
theorem q1100 : (Jvm.Cond.instantiable "SilkRowModel$Basin" (1 : Nat)) ∈ lw_all := lw_g (lw_at lw_m5 97 rfl) rfl
theorem q1102 : (Jvm.Cond.instanceMethod ({ cls := "SilkRowModel$Basin", name := "<init>", desc := "()V" } : Jvm.MethodName)) ∈ lw_all := lw_g (lw_at lw_m5 99 rfl) rfl
theorem q1103 : (Jvm.Cond.code ({ cls := "SilkRowModel$Basin", name := "<init>", desc := "()V" } : Jvm.MethodName) prog_10_method_1_code (1 : Nat) (Option.none : Option Jvm.ClassFile.FieldType)) ∈ lw_all := lw_g (lw_at lw_m5 100 rfl) rfl
theorem q1104 : (Jvm.Cond.methodLink "SilkRowModel$Basin" (3 : Nat) ({ cls := "java/lang/Object", name := "<init>", desc := "()V" } : Jvm.MethodName)) ∈ lw_all := lw_g (lw_at lw_m5 101 rfl) rfl
theorem q1105 : (Jvm.Cond.classLink "SilkRowModel$Basin" (9 : Nat) "java/util/ArrayList") ∈ lw_all := lw_g (lw_at lw_m5 102 rfl) rfl
theorem q1106 : (Jvm.Cond.methodLink "SilkRowModel$Basin" (11 : Nat) ({ cls := "java/util/ArrayList", name := "<init>", desc := "()V" } : Jvm.MethodName)) ∈ lw_all := lw_g (lw_at lw_m5 103 rfl) rfl
theorem q1107 : (Jvm.Cond.fieldLink "SilkRowModel$Basin" (12 : Nat) "SilkRowModel$Basin" "filaments" "Ljava/util/ArrayList;") ∈ lw_all := lw_g (lw_at lw_m5 104 rfl) rfl
theorem q1110 : (Jvm.Cond.laysFinal "SilkRowModel$Basin" "SilkRowModel$Basin" "filaments" "Ljava/util/ArrayList;") ∈ lw_all := lw_g (lw_at lw_m5 107 rfl) rfl
theorem q1111 : (Jvm.Cond.soleField "SilkRowModel$Basin" "filaments") ∈ lw_all := lw_g (lw_at lw_m5 108 rfl) rfl
theorem q1112 : (Jvm.Cond.superclass "SilkRowModel$Basin" "java/lang/Object") ∈ lw_all := lw_g (lw_at lw_m5 109 rfl) rfl
theorem q1389 : (Jvm.Cond.fieldLink "SilkRowModel$Basin" (41 : Nat) "SilkRowModel$Lot" "line" "I") ∈ lw_all := lw_g (lw_at lw_m6 146 rfl) rfl
theorem q1392 : (Jvm.Cond.fieldLink "SilkRowModel$Basin" (36 : Nat) "SilkRowModel$Lot" "size" "I") ∈ lw_all := lw_g (lw_at lw_m6 149 rfl) rfl
theorem q1446 : (Jvm.Cond.instanceMethod ({ cls := "SilkRowModel$Basin", name := "reel", desc := "(LSilkRowModel$Lot;[III)LSilkRowModel$Skein;" } : Jvm.MethodName)) ∈ lw_all := lw_g (lw_at lw_m6 203 rfl) rfl
theorem q1447 : (Jvm.Cond.selects "SilkRowModel$Basin" ({ cls := "SilkRowModel$Basin", name := "reel", desc := "(LSilkRowModel$Lot;[III)LSilkRowModel$Skein;" } : Jvm.MethodName) ({ cls := "SilkRowModel$Basin", name := "reel", desc := "(LSilkRowModel$Lot;[III)LSilkRowModel$Skein;" } : Jvm.MethodName)) ∈ lw_all := lw_g (lw_at lw_m6 204 rfl) rfl
theorem q1448 : (Jvm.Cond.code ({ cls := "SilkRowModel$Basin", name := "reel", desc := "(LSilkRowModel$Lot;[III)LSilkRowModel$Skein;" } : Jvm.MethodName) prog_10_method_5_code (7 : Nat) (Option.some (Jvm.ClassFile.FieldType.object "SilkRowModel$Skein"))) ∈ lw_all := lw_g (lw_at lw_m6 205 rfl) rfl
theorem q1449 : (Jvm.Cond.classLink "SilkRowModel$Basin" (48 : Nat) "SilkRowModel$Skein") ∈ lw_all := lw_g (lw_at lw_m6 206 rfl) rfl
theorem q1451 : (Jvm.Cond.methodLinkNest "SilkRowModel$Basin" (50 : Nat) ({ cls := "SilkRowModel$Skein", name := "<init>", desc := "()V" } : Jvm.MethodName) "SilkRowModel") ∈ lw_tbl := lw_at lw_m6 208 rfl
theorem q1464 : (Jvm.Cond.fieldLink "SilkRowModel$Basin" (69 : Nat) "SilkRowModel$Skein" "pieces" "[I") ∈ lw_all := lw_g (lw_at lw_m6 221 rfl) rfl
theorem q1480 : (Jvm.Cond.methodLink "SilkRowModel$Basin" (51 : Nat) ({ cls := "SilkRowModel$Basin", name := "sum", desc := "()I" } : Jvm.MethodName)) ∈ lw_all := lw_g (lw_at lw_m6 237 rfl) rfl
theorem q1481 : (Jvm.Cond.instanceMethod ({ cls := "SilkRowModel$Basin", name := "sum", desc := "()I" } : Jvm.MethodName)) ∈ lw_all := lw_g (lw_at lw_m6 238 rfl) rfl
theorem q1482 : (Jvm.Cond.selects "SilkRowModel$Basin" ({ cls := "SilkRowModel$Basin", name := "sum", desc := "()I" } : Jvm.MethodName) ({ cls := "SilkRowModel$Basin", name := "sum", desc := "()I" } : Jvm.MethodName)) ∈ lw_all := lw_g (lw_at lw_m6 239 rfl) rfl
theorem q1483 : (Jvm.Cond.code ({ cls := "SilkRowModel$Basin", name := "sum", desc := "()I" } : Jvm.MethodName) prog_10_method_3_code (3 : Nat) (Option.some Jvm.ClassFile.FieldType.int)) ∈ lw_all := lw_g (lw_at lw_m7 0 rfl) rfl
theorem q1484 : (Jvm.Cond.methodLink "SilkRowModel$Basin" (22 : Nat) ({ cls := "java/util/ArrayList", name := "size", desc := "()I" } : Jvm.MethodName)) ∈ lw_all := lw_g (lw_at lw_m7 1 rfl) rfl
theorem q1485 : (Jvm.Cond.methodLink "SilkRowModel$Basin" (26 : Nat) ({ cls := "java/util/ArrayList", name := "get", desc := "(I)Ljava/lang/Object;" } : Jvm.MethodName)) ∈ lw_all := lw_g (lw_at lw_m7 2 rfl) rfl
theorem q1486 : (Jvm.Cond.classLink "SilkRowModel$Basin" (30 : Nat) "[I") ∈ lw_all := lw_g (lw_at lw_m7 3 rfl) rfl
theorem q1487 : (Jvm.Cond.methodLink "SilkRowModel$Basin" (32 : Nat) ({ cls := "SilkRowModel$Basin", name := "next", desc := "([I)I" } : Jvm.MethodName)) ∈ lw_all := lw_g (lw_at lw_m7 4 rfl) rfl
theorem q1488 : (Jvm.Cond.static ({ cls := "SilkRowModel$Basin", name := "next", desc := "([I)I" } : Jvm.MethodName)) ∈ lw_all := lw_g (lw_at lw_m7 5 rfl) rfl
theorem q1489 : (Jvm.Cond.code ({ cls := "SilkRowModel$Basin", name := "next", desc := "([I)I" } : Jvm.MethodName) prog_10_method_2_code (1 : Nat) (Option.some Jvm.ClassFile.FieldType.int)) ∈ lw_all := lw_g (lw_at lw_m7 6 rfl) rfl
theorem q1490 : (Jvm.Cond.methodLinkNest "SilkRowModel$Basin" (18 : Nat) ({ cls := "SilkRowModel", name := "piece", desc := "(III)I" } : Jvm.MethodName) "SilkRowModel") ∈ lw_tbl := lw_at lw_m7 7 rfl
theorem q1496 : (Jvm.Cond.methodLink "SilkRowModel$Basin" (54 : Nat) ({ cls := "SilkRowModel$Basin", name := "join", desc := "(LSilkRowModel$Lot;[I)Z" } : Jvm.MethodName)) ∈ lw_all := lw_g (lw_at lw_m7 13 rfl) rfl
theorem q1497 : (Jvm.Cond.privateMethod ({ cls := "SilkRowModel$Basin", name := "join", desc := "(LSilkRowModel$Lot;[I)Z" } : Jvm.MethodName)) ∈ lw_tbl := lw_at lw_m7 14 rfl
theorem q1498 : (Jvm.Cond.instanceMethod ({ cls := "SilkRowModel$Basin", name := "join", desc := "(LSilkRowModel$Lot;[I)Z" } : Jvm.MethodName)) ∈ lw_all := lw_g (lw_at lw_m7 15 rfl) rfl
theorem q1499 : (Jvm.Cond.code ({ cls := "SilkRowModel$Basin", name := "join", desc := "(LSilkRowModel$Lot;[I)Z" } : Jvm.MethodName) prog_10_method_4_code (4 : Nat) (Option.some Jvm.ClassFile.FieldType.boolean)) ∈ lw_all := lw_g (lw_at lw_m7 16 rfl) rfl
theorem q1500 : (Jvm.Cond.methodLink "SilkRowModel$Basin" (44 : Nat) ({ cls := "java/util/ArrayList", name := "add", desc := "(Ljava/lang/Object;)Z" } : Jvm.MethodName)) ∈ lw_all := lw_g (lw_at lw_m7 17 rfl) rfl
theorem q1501 : (Jvm.Cond.methodLink "SilkRowModel$Basin" (58 : Nat) ({ cls := "java/util/ArrayList", name := "isEmpty", desc := "()Z" } : Jvm.MethodName)) ∈ lw_all := lw_g (lw_at lw_m7 18 rfl) rfl
theorem q1502 : (Jvm.Cond.methodLink "SilkRowModel$Basin" (62 : Nat) ({ cls := "SilkRowModel$Skein", name := "add", desc := "(I)V" } : Jvm.MethodName)) ∈ lw_all := lw_g (lw_at lw_m7 19 rfl) rfl
theorem q1508 : (Jvm.Cond.methodLink "SilkRowModel$Basin" (65 : Nat) ({ cls := "SilkRowModel$Basin", name := "go", desc := "(LSilkRowModel$Skein;)V" } : Jvm.MethodName)) ∈ lw_all := lw_g (lw_at lw_m7 25 rfl) rfl
theorem q1509 : (Jvm.Cond.privateMethod ({ cls := "SilkRowModel$Basin", name := "go", desc := "(LSilkRowModel$Skein;)V" } : Jvm.MethodName)) ∈ lw_tbl := lw_at lw_m7 26 rfl
theorem q1510 : (Jvm.Cond.instanceMethod ({ cls := "SilkRowModel$Basin", name := "go", desc := "(LSilkRowModel$Skein;)V" } : Jvm.MethodName)) ∈ lw_all := lw_g (lw_at lw_m7 27 rfl) rfl
theorem q1511 : (Jvm.Cond.code ({ cls := "SilkRowModel$Basin", name := "go", desc := "(LSilkRowModel$Skein;)V" } : Jvm.MethodName) prog_10_method_6_code (4 : Nat) (Option.none : Option Jvm.ClassFile.FieldType)) ∈ lw_all := lw_g (lw_at lw_m7 28 rfl) rfl
theorem q1512 : (Jvm.Cond.methodLink "SilkRowModel$Basin" (72 : Nat) ({ cls := "java/util/ArrayList", name := "remove", desc := "(I)Ljava/lang/Object;" } : Jvm.MethodName)) ∈ lw_all := lw_g (lw_at lw_m7 29 rfl) rfl
theorem q1675 : (Jvm.Cond.castable "SilkRowModel$Basin" "java/lang/Object") ∈ lw_tbl := lw_at lw_m7 192 rfl
theorem in_X5 : ∀ w ∈ wsX50, w ∈ lw_all := lw_in wsX50 [1110] (by decide +kernel) (by decide +kernel)
/-! SilkRowModel$Line -/
set_option maxRecDepth 100000
def RX6 : String := "SilkRowModel$Line"
def TX6 : u_T := fun k => match k with
  | 0 => ("SilkRowModel$Line", "size", "I", false)
  | 1 => ("SilkRowModel$Line", "hardy", "I", false)
  | _ => ("SilkRowModel$Line", "taint", "I", false)
def tyX6 : Nat → FieldType := fun k => match k with
  | 0 => .int
  | 1 => .int
  | _ => .int
abbrev wsX60 : List Cond := u_ws RX6 TX6 3
theorem nmX6 : ∀ a, a < 3 → ∀ b, b < 3 → a ≠ b → (TX6 a).2.1 ≠ (TX6 b).2.1 := by decide +kernel
theorem tyX6_ok : ∀ k, k < 3 → parseFieldDescriptor (TX6 k).2.2.1 = some (tyX6 k) := by decide +kernel
abbrev cX6_init : ByteArray := prog_11_method_1_code
def yX6_init : MethodName := ⟨RX6, "<init>", "()V"⟩
def dkwX6_init_0 : List UInt8 := [42, 183, 0, 1, 42, 7, 181, 0, 7, 42, 6, 181, 0, 13, 177]
abbrev dktX6_init_0 : List UInt8 := dkwX6_init_0 ++ []
theorem dksX6_init_0 : cX6_init.data.toList.drop 0 = dktX6_init_0 := by decide +kernel
theorem dX6_init_0 : decode cX6_init 0 = .ok (.aload_n 0, 1) := dk_42 (dk_at dksX6_init_0 0 rfl rfl)
theorem dX6_init_1 : decode cX6_init 1 = .ok (.invokespecial 1, 3) := dk_183 0 1 (dk_at dksX6_init_0 1 rfl rfl)
theorem dX6_init_4 : decode cX6_init 4 = .ok (.aload_n 0, 1) := dk_42 (dk_at dksX6_init_0 4 rfl rfl)
theorem dX6_init_5 : decode cX6_init 5 = .ok (.iconst 4, 1) := dk_7 (dk_at dksX6_init_0 5 rfl rfl)
theorem dX6_init_6 : decode cX6_init 6 = .ok (.putfield 7, 3) := dk_181 0 7 (dk_at dksX6_init_0 6 rfl rfl)
theorem dX6_init_9 : decode cX6_init 9 = .ok (.aload_n 0, 1) := dk_42 (dk_at dksX6_init_0 9 rfl rfl)
theorem dX6_init_10 : decode cX6_init 10 = .ok (.iconst 3, 1) := dk_6 (dk_at dksX6_init_0 10 rfl rfl)
theorem dX6_init_11 : decode cX6_init 11 = .ok (.putfield 13, 3) := dk_181 0 13 (dk_at dksX6_init_0 11 rfl rfl)
theorem dX6_init_14 : decode cX6_init 14 = .ok (.return_, 1) := dk_177 (dk_at dksX6_init_0 14 rfl rfl)
theorem q56 : (Jvm.Cond.initialized "SilkRowModel$Line") ∈ lw_all := lw_g (lw_at lw_m1 13 rfl) rfl
theorem q173 : (Jvm.Cond.selects "SilkRowModel$Line" ({ cls := "java/lang/Object", name := "getClass", desc := "()Ljava/lang/Class;" } : Jvm.MethodName) ({ cls := "java/lang/Object", name := "getClass", desc := "()Ljava/lang/Class;" } : Jvm.MethodName)) ∈ lw_all := lw_g (lw_at lw_m1 130 rfl) rfl
theorem q630 : (Jvm.Cond.selects "SilkRowModel$Line" ({ cls := "java/lang/Object", name := "equals", desc := "(Ljava/lang/Object;)Z" } : Jvm.MethodName) ({ cls := "java/lang/Object", name := "equals", desc := "(Ljava/lang/Object;)Z" } : Jvm.MethodName)) ∈ lw_all := lw_g (lw_at lw_m3 107 rfl) rfl
theorem q1113 : (Jvm.Cond.instantiable "SilkRowModel$Line" (3 : Nat)) ∈ lw_all := lw_g (lw_at lw_m5 110 rfl) rfl
theorem q1115 : (Jvm.Cond.instanceMethod ({ cls := "SilkRowModel$Line", name := "<init>", desc := "()V" } : Jvm.MethodName)) ∈ lw_all := lw_g (lw_at lw_m5 112 rfl) rfl
theorem q1116 : (Jvm.Cond.code ({ cls := "SilkRowModel$Line", name := "<init>", desc := "()V" } : Jvm.MethodName) prog_11_method_1_code (1 : Nat) (Option.none : Option Jvm.ClassFile.FieldType)) ∈ lw_all := lw_g (lw_at lw_m5 113 rfl) rfl
theorem q1117 : (Jvm.Cond.methodLink "SilkRowModel$Line" (1 : Nat) ({ cls := "java/lang/Object", name := "<init>", desc := "()V" } : Jvm.MethodName)) ∈ lw_all := lw_g (lw_at lw_m5 114 rfl) rfl
theorem q1118 : (Jvm.Cond.fieldLink "SilkRowModel$Line" (7 : Nat) "SilkRowModel$Line" "size" "I") ∈ lw_all := lw_g (lw_at lw_m5 115 rfl) rfl
theorem q1120 : (Jvm.Cond.fieldLink "SilkRowModel$Line" (13 : Nat) "SilkRowModel$Line" "hardy" "I") ∈ lw_all := lw_g (lw_at lw_m5 117 rfl) rfl
theorem q1123 : (Jvm.Cond.lays "SilkRowModel$Line" "SilkRowModel$Line" "size" "I") ∈ lw_all := lw_g (lw_at lw_m5 120 rfl) rfl
theorem q1124 : (Jvm.Cond.soleField "SilkRowModel$Line" "size") ∈ lw_all := lw_g (lw_at lw_m5 121 rfl) rfl
theorem q1125 : (Jvm.Cond.lays "SilkRowModel$Line" "SilkRowModel$Line" "hardy" "I") ∈ lw_all := lw_g (lw_at lw_m5 122 rfl) rfl
theorem q1126 : (Jvm.Cond.soleField "SilkRowModel$Line" "hardy") ∈ lw_all := lw_g (lw_at lw_m5 123 rfl) rfl
theorem q1127 : (Jvm.Cond.lays "SilkRowModel$Line" "SilkRowModel$Line" "taint" "I") ∈ lw_all := lw_g (lw_at lw_m5 124 rfl) rfl
theorem q1128 : (Jvm.Cond.soleField "SilkRowModel$Line" "taint") ∈ lw_all := lw_g (lw_at lw_m5 125 rfl) rfl
theorem q1129 : (Jvm.Cond.superclass "SilkRowModel$Line" "java/lang/Object") ∈ lw_all := lw_g (lw_at lw_m5 126 rfl) rfl
theorem q1673 : (Jvm.Cond.castable "SilkRowModel$Line" "java/lang/Object") ∈ lw_tbl := lw_at lw_m7 190 rfl
theorem in_X6 : ∀ w ∈ wsX60, w ∈ lw_all := lw_in wsX60 [1123, 1125, 1127] (by decide +kernel) (by decide +kernel)
/-! SilkRowModel$Tray -/
set_option maxRecDepth 100000
def RX7 : String := "SilkRowModel$Tray"
def TX7 : u_T := fun k => match k with
  | 0 => ("SilkRowModel$Tray", "worms", "I", false)
  | 1 => ("SilkRowModel$Tray", "sick", "I", false)
  | 2 => ("SilkRowModel$Tray", "line", "I", false)
  | 3 => ("SilkRowModel$Tray", "instar", "I", false)
  | 4 => ("SilkRowModel$Tray", "eaten", "I", false)
  | 5 => ("SilkRowModel$Tray", "moult", "I", false)
  | 6 => ("SilkRowModel$Tray", "hunger", "I", false)
  | 7 => ("SilkRowModel$Tray", "litter", "I", false)
  | 8 => ("SilkRowModel$Tray", "given", "I", false)
  | 9 => ("SilkRowModel$Tray", "wet", "I", false)
  | _ => ("SilkRowModel$Tray", "isRipe", "Z", false)
def tyX7 : Nat → FieldType := fun k => match k with
  | 0 => .int
  | 1 => .int
  | 2 => .int
  | 3 => .int
  | 4 => .int
  | 5 => .int
  | 6 => .int
  | 7 => .int
  | 8 => .int
  | 9 => .int
  | _ => .boolean
abbrev wsX70 : List Cond := u_ws RX7 TX7 11
theorem nmX7 : ∀ a, a < 11 → ∀ b, b < 11 → a ≠ b → (TX7 a).2.1 ≠ (TX7 b).2.1 := by decide +kernel
theorem tyX7_ok : ∀ k, k < 11 → parseFieldDescriptor (TX7 k).2.2.1 = some (tyX7 k) := by decide +kernel
abbrev cX7_init : ByteArray := prog_15_method_1_code
def yX7_init : MethodName := ⟨RX7, "<init>", "()V"⟩
def dkwX7_init_0 : List UInt8 := [42, 183, 0, 3, 42, 2, 181, 0, 9, 177]
abbrev dktX7_init_0 : List UInt8 := dkwX7_init_0 ++ []
theorem dksX7_init_0 : cX7_init.data.toList.drop 0 = dktX7_init_0 := by decide +kernel
theorem dX7_init_0 : decode cX7_init 0 = .ok (.aload_n 0, 1) := dk_42 (dk_at dksX7_init_0 0 rfl rfl)
theorem dX7_init_1 : decode cX7_init 1 = .ok (.invokespecial 3, 3) := dk_183 0 3 (dk_at dksX7_init_0 1 rfl rfl)
theorem dX7_init_4 : decode cX7_init 4 = .ok (.aload_n 0, 1) := dk_42 (dk_at dksX7_init_0 4 rfl rfl)
theorem dX7_init_5 : decode cX7_init 5 = .ok (.iconst (-1), 1) := dk_2 (dk_at dksX7_init_0 5 rfl rfl)
theorem dX7_init_6 : decode cX7_init 6 = .ok (.putfield 9, 3) := dk_181 0 9 (dk_at dksX7_init_0 6 rfl rfl)
theorem dX7_init_9 : decode cX7_init 9 = .ok (.return_, 1) := dk_177 (dk_at dksX7_init_0 9 rfl rfl)
abbrev cX7_day : ByteArray := prog_15_method_5_code
def yX7_day : MethodName := ⟨RX7, "day", "(I)I"⟩
def dkwX7_day_6 : List UInt8 := [172]
abbrev dktX7_day_6 : List UInt8 := dkwX7_day_6 ++ []
def dkwX7_day_5 : List UInt8 := [28, 42, 42, 180, 0, 19, 8, 108, 182, 0, 66, 96, 61, 42, 3, 181, 0, 37, 42, 3, 181, 0, 40, 28]
abbrev dktX7_day_5 : List UInt8 := dkwX7_day_5 ++ dktX7_day_6
def dkwX7_day_4 : List UInt8 := [180, 0, 19, 42, 180, 0, 16, 42, 180, 0, 19, 100, 3, 29, 184, 0, 63, 184, 0, 51, 96, 181, 0, 19]
abbrev dktX7_day_4 : List UInt8 := dkwX7_day_4 ++ dktX7_day_5
def dkwX7_day_3 : List UInt8 := [3, 42, 180, 0, 34, 7, 161, 0, 7, 4, 167, 0, 4, 3, 96, 27, 6, 108, 100, 96, 62, 42, 89]
abbrev dktX7_day_3 : List UInt8 := dkwX7_day_3 ++ dktX7_day_4
def dkwX7_day_2 : List UInt8 := [5, 108, 167, 0, 9, 42, 180, 0, 19, 7, 108, 62, 29, 42, 180, 0, 40, 158, 0, 7, 4, 167, 0, 4]
abbrev dktX7_day_2 : List UInt8 := dkwX7_day_2 ++ dktX7_day_3
def dkwX7_day_1 : List UInt8 := [154, 0, 5, 28, 172, 42, 180, 0, 16, 42, 180, 0, 22, 104, 17, 0, 200, 164, 0, 12, 42, 180, 0, 19]
abbrev dktX7_day_1 : List UInt8 := dkwX7_day_1 ++ dktX7_day_2
def dkwX7_day_0 : List UInt8 := [42, 180, 0, 28, 158, 0, 10, 42, 182, 0, 56, 167, 0, 7, 42, 182, 0, 60, 61, 42, 180, 0, 16]
abbrev dktX7_day_0 : List UInt8 := dkwX7_day_0 ++ dktX7_day_1
theorem dksX7_day_0 : cX7_day.data.toList.drop 0 = dktX7_day_0 := by decide +kernel
theorem dksX7_day_1 : cX7_day.data.toList.drop 23 = dktX7_day_1 := dk_seg dksX7_day_0 23 rfl rfl
theorem dksX7_day_2 : cX7_day.data.toList.drop 47 = dktX7_day_2 := dk_seg dksX7_day_1 24 rfl rfl
theorem dksX7_day_3 : cX7_day.data.toList.drop 71 = dktX7_day_3 := dk_seg dksX7_day_2 24 rfl rfl
theorem dksX7_day_4 : cX7_day.data.toList.drop 94 = dktX7_day_4 := dk_seg dksX7_day_3 23 rfl rfl
theorem dksX7_day_5 : cX7_day.data.toList.drop 118 = dktX7_day_5 := dk_seg dksX7_day_4 24 rfl rfl
theorem dksX7_day_6 : cX7_day.data.toList.drop 142 = dktX7_day_6 := dk_seg dksX7_day_5 24 rfl rfl
theorem dX7_day_0 : decode cX7_day 0 = .ok (.aload_n 0, 1) := dk_42 (dk_at dksX7_day_0 0 rfl rfl)
theorem dX7_day_1 : decode cX7_day 1 = .ok (.getfield 28, 3) := dk_180 0 28 (dk_at dksX7_day_0 1 rfl rfl)
theorem dX7_day_4 : decode cX7_day 4 = .ok (.ifCond .le 10, 3) := dk_158 0 10 (dk_at dksX7_day_0 4 rfl rfl)
theorem dX7_day_7 : decode cX7_day 7 = .ok (.aload_n 0, 1) := dk_42 (dk_at dksX7_day_0 7 rfl rfl)
theorem dX7_day_8 : decode cX7_day 8 = .ok (.invokevirtual 56, 3) := dk_182 0 56 (dk_at dksX7_day_0 8 rfl rfl)
theorem dX7_day_11 : decode cX7_day 11 = .ok (.goto 7, 3) := dk_167 0 7 (dk_at dksX7_day_0 11 rfl rfl)
theorem dX7_day_14 : decode cX7_day 14 = .ok (.aload_n 0, 1) := dk_42 (dk_at dksX7_day_0 14 rfl rfl)
theorem dX7_day_15 : decode cX7_day 15 = .ok (.invokevirtual 60, 3) := dk_182 0 60 (dk_at dksX7_day_0 15 rfl rfl)
theorem dX7_day_18 : decode cX7_day 18 = .ok (.istore_n 2, 1) := dk_61 (dk_at dksX7_day_0 18 rfl rfl)
theorem dX7_day_19 : decode cX7_day 19 = .ok (.aload_n 0, 1) := dk_42 (dk_at dksX7_day_0 19 rfl rfl)
theorem dX7_day_20 : decode cX7_day 20 = .ok (.getfield 16, 3) := dk_180 0 16 (dk_at dksX7_day_0 20 rfl rfl)
theorem dX7_day_23 : decode cX7_day 23 = .ok (.ifCond .ne 5, 3) := dk_154 0 5 (dk_at dksX7_day_1 0 rfl rfl)
theorem dX7_day_26 : decode cX7_day 26 = .ok (.iload_n 2, 1) := dk_28 (dk_at dksX7_day_1 3 rfl rfl)
theorem dX7_day_27 : decode cX7_day 27 = .ok (.ireturn, 1) := dk_172 (dk_at dksX7_day_1 4 rfl rfl)
theorem dX7_day_28 : decode cX7_day 28 = .ok (.aload_n 0, 1) := dk_42 (dk_at dksX7_day_1 5 rfl rfl)
theorem dX7_day_29 : decode cX7_day 29 = .ok (.getfield 16, 3) := dk_180 0 16 (dk_at dksX7_day_1 6 rfl rfl)
theorem dX7_day_32 : decode cX7_day 32 = .ok (.aload_n 0, 1) := dk_42 (dk_at dksX7_day_1 9 rfl rfl)
theorem dX7_day_33 : decode cX7_day 33 = .ok (.getfield 22, 3) := dk_180 0 22 (dk_at dksX7_day_1 10 rfl rfl)
theorem dX7_day_36 : decode cX7_day 36 = .ok (.imul, 1) := dk_104 (dk_at dksX7_day_1 13 rfl rfl)
theorem dX7_day_37 : decode cX7_day 37 = .ok (.sipush 200, 3) := dk_17 0 200 (dk_at dksX7_day_1 14 rfl rfl)
theorem dX7_day_40 : decode cX7_day 40 = .ok (.if_icmp .le 12, 3) := dk_164 0 12 (dk_at dksX7_day_1 17 rfl rfl)
theorem dX7_day_43 : decode cX7_day 43 = .ok (.aload_n 0, 1) := dk_42 (dk_at dksX7_day_1 20 rfl rfl)
theorem dX7_day_44 : decode cX7_day 44 = .ok (.getfield 19, 3) := dk_180 0 19 (dk_at dksX7_day_1 21 rfl rfl)
theorem dX7_day_47 : decode cX7_day 47 = .ok (.iconst 2, 1) := dk_5 (dk_at dksX7_day_2 0 rfl rfl)
theorem dX7_day_48 : decode cX7_day 48 = .ok (.idiv, 1) := dk_108 (dk_at dksX7_day_2 1 rfl rfl)
theorem dX7_day_49 : decode cX7_day 49 = .ok (.goto 9, 3) := dk_167 0 9 (dk_at dksX7_day_2 2 rfl rfl)
theorem dX7_day_52 : decode cX7_day 52 = .ok (.aload_n 0, 1) := dk_42 (dk_at dksX7_day_2 5 rfl rfl)
theorem dX7_day_53 : decode cX7_day 53 = .ok (.getfield 19, 3) := dk_180 0 19 (dk_at dksX7_day_2 6 rfl rfl)
theorem dX7_day_56 : decode cX7_day 56 = .ok (.iconst 4, 1) := dk_7 (dk_at dksX7_day_2 9 rfl rfl)
theorem dX7_day_57 : decode cX7_day 57 = .ok (.idiv, 1) := dk_108 (dk_at dksX7_day_2 10 rfl rfl)
theorem dX7_day_58 : decode cX7_day 58 = .ok (.istore_n 3, 1) := dk_62 (dk_at dksX7_day_2 11 rfl rfl)
theorem dX7_day_59 : decode cX7_day 59 = .ok (.iload_n 3, 1) := dk_29 (dk_at dksX7_day_2 12 rfl rfl)
theorem dX7_day_60 : decode cX7_day 60 = .ok (.aload_n 0, 1) := dk_42 (dk_at dksX7_day_2 13 rfl rfl)
theorem dX7_day_61 : decode cX7_day 61 = .ok (.getfield 40, 3) := dk_180 0 40 (dk_at dksX7_day_2 14 rfl rfl)
theorem dX7_day_64 : decode cX7_day 64 = .ok (.ifCond .le 7, 3) := dk_158 0 7 (dk_at dksX7_day_2 17 rfl rfl)
theorem dX7_day_67 : decode cX7_day 67 = .ok (.iconst 1, 1) := dk_4 (dk_at dksX7_day_2 20 rfl rfl)
theorem dX7_day_68 : decode cX7_day 68 = .ok (.goto 4, 3) := dk_167 0 4 (dk_at dksX7_day_2 21 rfl rfl)
theorem dX7_day_71 : decode cX7_day 71 = .ok (.iconst 0, 1) := dk_3 (dk_at dksX7_day_3 0 rfl rfl)
theorem dX7_day_72 : decode cX7_day 72 = .ok (.aload_n 0, 1) := dk_42 (dk_at dksX7_day_3 1 rfl rfl)
theorem dX7_day_73 : decode cX7_day 73 = .ok (.getfield 34, 3) := dk_180 0 34 (dk_at dksX7_day_3 2 rfl rfl)
theorem dX7_day_76 : decode cX7_day 76 = .ok (.iconst 4, 1) := dk_7 (dk_at dksX7_day_3 5 rfl rfl)
theorem dX7_day_77 : decode cX7_day 77 = .ok (.if_icmp .lt 7, 3) := dk_161 0 7 (dk_at dksX7_day_3 6 rfl rfl)
theorem dX7_day_80 : decode cX7_day 80 = .ok (.iconst 1, 1) := dk_4 (dk_at dksX7_day_3 9 rfl rfl)
theorem dX7_day_81 : decode cX7_day 81 = .ok (.goto 4, 3) := dk_167 0 4 (dk_at dksX7_day_3 10 rfl rfl)
theorem dX7_day_84 : decode cX7_day 84 = .ok (.iconst 0, 1) := dk_3 (dk_at dksX7_day_3 13 rfl rfl)
theorem dX7_day_85 : decode cX7_day 85 = .ok (.iadd, 1) := dk_96 (dk_at dksX7_day_3 14 rfl rfl)
theorem dX7_day_86 : decode cX7_day 86 = .ok (.iload_n 1, 1) := dk_27 (dk_at dksX7_day_3 15 rfl rfl)
theorem dX7_day_87 : decode cX7_day 87 = .ok (.iconst 3, 1) := dk_6 (dk_at dksX7_day_3 16 rfl rfl)
theorem dX7_day_88 : decode cX7_day 88 = .ok (.idiv, 1) := dk_108 (dk_at dksX7_day_3 17 rfl rfl)
theorem dX7_day_89 : decode cX7_day 89 = .ok (.isub, 1) := dk_100 (dk_at dksX7_day_3 18 rfl rfl)
theorem dX7_day_90 : decode cX7_day 90 = .ok (.iadd, 1) := dk_96 (dk_at dksX7_day_3 19 rfl rfl)
theorem dX7_day_91 : decode cX7_day 91 = .ok (.istore_n 3, 1) := dk_62 (dk_at dksX7_day_3 20 rfl rfl)
theorem dX7_day_92 : decode cX7_day 92 = .ok (.aload_n 0, 1) := dk_42 (dk_at dksX7_day_3 21 rfl rfl)
theorem dX7_day_93 : decode cX7_day 93 = .ok (.dup, 1) := dk_89 (dk_at dksX7_day_3 22 rfl rfl)
theorem dX7_day_94 : decode cX7_day 94 = .ok (.getfield 19, 3) := dk_180 0 19 (dk_at dksX7_day_4 0 rfl rfl)
theorem dX7_day_97 : decode cX7_day 97 = .ok (.aload_n 0, 1) := dk_42 (dk_at dksX7_day_4 3 rfl rfl)
theorem dX7_day_98 : decode cX7_day 98 = .ok (.getfield 16, 3) := dk_180 0 16 (dk_at dksX7_day_4 4 rfl rfl)
theorem dX7_day_101 : decode cX7_day 101 = .ok (.aload_n 0, 1) := dk_42 (dk_at dksX7_day_4 7 rfl rfl)
theorem dX7_day_102 : decode cX7_day 102 = .ok (.getfield 19, 3) := dk_180 0 19 (dk_at dksX7_day_4 8 rfl rfl)
theorem dX7_day_105 : decode cX7_day 105 = .ok (.isub, 1) := dk_100 (dk_at dksX7_day_4 11 rfl rfl)
theorem dX7_day_106 : decode cX7_day 106 = .ok (.iconst 0, 1) := dk_3 (dk_at dksX7_day_4 12 rfl rfl)
theorem dX7_day_107 : decode cX7_day 107 = .ok (.iload_n 3, 1) := dk_29 (dk_at dksX7_day_4 13 rfl rfl)
theorem dX7_day_108 : decode cX7_day 108 = .ok (.invokestatic 63, 3) := dk_184 0 63 (dk_at dksX7_day_4 14 rfl rfl)
theorem dX7_day_111 : decode cX7_day 111 = .ok (.invokestatic 51, 3) := dk_184 0 51 (dk_at dksX7_day_4 17 rfl rfl)
theorem dX7_day_114 : decode cX7_day 114 = .ok (.iadd, 1) := dk_96 (dk_at dksX7_day_4 20 rfl rfl)
theorem dX7_day_115 : decode cX7_day 115 = .ok (.putfield 19, 3) := dk_181 0 19 (dk_at dksX7_day_4 21 rfl rfl)
theorem dX7_day_118 : decode cX7_day 118 = .ok (.iload_n 2, 1) := dk_28 (dk_at dksX7_day_5 0 rfl rfl)
theorem dX7_day_119 : decode cX7_day 119 = .ok (.aload_n 0, 1) := dk_42 (dk_at dksX7_day_5 1 rfl rfl)
theorem dX7_day_120 : decode cX7_day 120 = .ok (.aload_n 0, 1) := dk_42 (dk_at dksX7_day_5 2 rfl rfl)
theorem dX7_day_121 : decode cX7_day 121 = .ok (.getfield 19, 3) := dk_180 0 19 (dk_at dksX7_day_5 3 rfl rfl)
theorem dX7_day_124 : decode cX7_day 124 = .ok (.iconst 5, 1) := dk_8 (dk_at dksX7_day_5 6 rfl rfl)
theorem dX7_day_125 : decode cX7_day 125 = .ok (.idiv, 1) := dk_108 (dk_at dksX7_day_5 7 rfl rfl)
theorem dX7_day_126 : decode cX7_day 126 = .ok (.invokevirtual 66, 3) := dk_182 0 66 (dk_at dksX7_day_5 8 rfl rfl)
theorem dX7_day_129 : decode cX7_day 129 = .ok (.iadd, 1) := dk_96 (dk_at dksX7_day_5 11 rfl rfl)
theorem dX7_day_130 : decode cX7_day 130 = .ok (.istore_n 2, 1) := dk_61 (dk_at dksX7_day_5 12 rfl rfl)
theorem dX7_day_131 : decode cX7_day 131 = .ok (.aload_n 0, 1) := dk_42 (dk_at dksX7_day_5 13 rfl rfl)
theorem dX7_day_132 : decode cX7_day 132 = .ok (.iconst 0, 1) := dk_3 (dk_at dksX7_day_5 14 rfl rfl)
theorem dX7_day_133 : decode cX7_day 133 = .ok (.putfield 37, 3) := dk_181 0 37 (dk_at dksX7_day_5 15 rfl rfl)
theorem dX7_day_136 : decode cX7_day 136 = .ok (.aload_n 0, 1) := dk_42 (dk_at dksX7_day_5 18 rfl rfl)
theorem dX7_day_137 : decode cX7_day 137 = .ok (.iconst 0, 1) := dk_3 (dk_at dksX7_day_5 19 rfl rfl)
theorem dX7_day_138 : decode cX7_day 138 = .ok (.putfield 40, 3) := dk_181 0 40 (dk_at dksX7_day_5 20 rfl rfl)
theorem dX7_day_141 : decode cX7_day 141 = .ok (.iload_n 2, 1) := dk_28 (dk_at dksX7_day_5 23 rfl rfl)
theorem dX7_day_142 : decode cX7_day 142 = .ok (.ireturn, 1) := dk_172 (dk_at dksX7_day_6 0 rfl rfl)
abbrev cX7_moulted : ByteArray := prog_15_method_6_code
def yX7_moulted : MethodName := ⟨RX7, "moulted", "()I"⟩
def dkwX7_moulted_1 : List UInt8 := [181, 0, 22, 3, 172]
abbrev dktX7_moulted_1 : List UInt8 := dkwX7_moulted_1 ++ []
def dkwX7_moulted_0 : List UInt8 := [42, 89, 180, 0, 28, 4, 100, 181, 0, 28, 42, 180, 0, 28, 154, 0, 13, 42, 89, 180, 0, 22, 4, 96]
abbrev dktX7_moulted_0 : List UInt8 := dkwX7_moulted_0 ++ dktX7_moulted_1
theorem dksX7_moulted_0 : cX7_moulted.data.toList.drop 0 = dktX7_moulted_0 := by decide +kernel
theorem dksX7_moulted_1 : cX7_moulted.data.toList.drop 24 = dktX7_moulted_1 := dk_seg dksX7_moulted_0 24 rfl rfl
theorem dX7_moulted_0 : decode cX7_moulted 0 = .ok (.aload_n 0, 1) := dk_42 (dk_at dksX7_moulted_0 0 rfl rfl)
theorem dX7_moulted_1 : decode cX7_moulted 1 = .ok (.dup, 1) := dk_89 (dk_at dksX7_moulted_0 1 rfl rfl)
theorem dX7_moulted_2 : decode cX7_moulted 2 = .ok (.getfield 28, 3) := dk_180 0 28 (dk_at dksX7_moulted_0 2 rfl rfl)
theorem dX7_moulted_5 : decode cX7_moulted 5 = .ok (.iconst 1, 1) := dk_4 (dk_at dksX7_moulted_0 5 rfl rfl)
theorem dX7_moulted_6 : decode cX7_moulted 6 = .ok (.isub, 1) := dk_100 (dk_at dksX7_moulted_0 6 rfl rfl)
theorem dX7_moulted_7 : decode cX7_moulted 7 = .ok (.putfield 28, 3) := dk_181 0 28 (dk_at dksX7_moulted_0 7 rfl rfl)
theorem dX7_moulted_10 : decode cX7_moulted 10 = .ok (.aload_n 0, 1) := dk_42 (dk_at dksX7_moulted_0 10 rfl rfl)
theorem dX7_moulted_11 : decode cX7_moulted 11 = .ok (.getfield 28, 3) := dk_180 0 28 (dk_at dksX7_moulted_0 11 rfl rfl)
theorem dX7_moulted_14 : decode cX7_moulted 14 = .ok (.ifCond .ne 13, 3) := dk_154 0 13 (dk_at dksX7_moulted_0 14 rfl rfl)
theorem dX7_moulted_17 : decode cX7_moulted 17 = .ok (.aload_n 0, 1) := dk_42 (dk_at dksX7_moulted_0 17 rfl rfl)
theorem dX7_moulted_18 : decode cX7_moulted 18 = .ok (.dup, 1) := dk_89 (dk_at dksX7_moulted_0 18 rfl rfl)
theorem dX7_moulted_19 : decode cX7_moulted 19 = .ok (.getfield 22, 3) := dk_180 0 22 (dk_at dksX7_moulted_0 19 rfl rfl)
theorem dX7_moulted_22 : decode cX7_moulted 22 = .ok (.iconst 1, 1) := dk_4 (dk_at dksX7_moulted_0 22 rfl rfl)
theorem dX7_moulted_23 : decode cX7_moulted 23 = .ok (.iadd, 1) := dk_96 (dk_at dksX7_moulted_0 23 rfl rfl)
theorem dX7_moulted_24 : decode cX7_moulted 24 = .ok (.putfield 22, 3) := dk_181 0 22 (dk_at dksX7_moulted_1 0 rfl rfl)
theorem dX7_moulted_27 : decode cX7_moulted 27 = .ok (.iconst 0, 1) := dk_3 (dk_at dksX7_moulted_1 3 rfl rfl)
theorem dX7_moulted_28 : decode cX7_moulted 28 = .ok (.ireturn, 1) := dk_172 (dk_at dksX7_moulted_1 4 rfl rfl)
abbrev cX7_ate : ByteArray := prog_15_method_7_code
def yX7_ate : MethodName := ⟨RX7, "ate", "()I"⟩
def dkwX7_ate_5 : List UInt8 := [181, 0, 28, 27, 172]
abbrev dktX7_ate_5 : List UInt8 := dkwX7_ate_5 ++ []
def dkwX7_ate_4 : List UInt8 := [3, 181, 0, 25, 42, 180, 0, 22, 8, 160, 0, 11, 42, 4, 181, 0, 43, 167, 0, 8, 42, 5]
abbrev dktX7_ate_4 : List UInt8 := dkwX7_ate_4 ++ dktX7_ate_5
def dkwX7_ate_3 : List UInt8 := [60, 42, 180, 0, 25, 42, 180, 0, 22, 8, 160, 0, 7, 8, 167, 0, 4, 6, 162, 0, 5, 27, 172, 42]
abbrev dktX7_ate_3 : List UInt8 := dkwX7_ate_3 ++ dktX7_ate_4
def dkwX7_ate_2 : List UInt8 := [181, 0, 31, 42, 180, 0, 31, 4, 164, 0, 17, 42, 42, 180, 0, 16, 16, 10, 184, 0, 47, 182, 0, 66]
abbrev dktX7_ate_2 : List UInt8 := dkwX7_ate_2 ++ dktX7_ate_3
def dkwX7_ate_1 : List UInt8 := [3, 181, 0, 31, 42, 89, 180, 0, 34, 4, 96, 181, 0, 34, 167, 0, 35, 42, 89, 180, 0, 31, 4, 96]
abbrev dktX7_ate_1 : List UInt8 := dkwX7_ate_1 ++ dktX7_ate_2
def dkwX7_ate_0 : List UInt8 := [3, 60, 42, 180, 0, 37, 42, 182, 0, 70, 161, 0, 31, 42, 89, 180, 0, 25, 4, 96, 181, 0, 25, 42]
abbrev dktX7_ate_0 : List UInt8 := dkwX7_ate_0 ++ dktX7_ate_1
theorem dksX7_ate_0 : cX7_ate.data.toList.drop 0 = dktX7_ate_0 := by decide +kernel
theorem dksX7_ate_1 : cX7_ate.data.toList.drop 24 = dktX7_ate_1 := dk_seg dksX7_ate_0 24 rfl rfl
theorem dksX7_ate_2 : cX7_ate.data.toList.drop 48 = dktX7_ate_2 := dk_seg dksX7_ate_1 24 rfl rfl
theorem dksX7_ate_3 : cX7_ate.data.toList.drop 72 = dktX7_ate_3 := dk_seg dksX7_ate_2 24 rfl rfl
theorem dksX7_ate_4 : cX7_ate.data.toList.drop 96 = dktX7_ate_4 := dk_seg dksX7_ate_3 24 rfl rfl
theorem dksX7_ate_5 : cX7_ate.data.toList.drop 118 = dktX7_ate_5 := dk_seg dksX7_ate_4 22 rfl rfl
theorem dX7_ate_0 : decode cX7_ate 0 = .ok (.iconst 0, 1) := dk_3 (dk_at dksX7_ate_0 0 rfl rfl)
theorem dX7_ate_1 : decode cX7_ate 1 = .ok (.istore_n 1, 1) := dk_60 (dk_at dksX7_ate_0 1 rfl rfl)
theorem dX7_ate_2 : decode cX7_ate 2 = .ok (.aload_n 0, 1) := dk_42 (dk_at dksX7_ate_0 2 rfl rfl)
theorem dX7_ate_3 : decode cX7_ate 3 = .ok (.getfield 37, 3) := dk_180 0 37 (dk_at dksX7_ate_0 3 rfl rfl)
theorem dX7_ate_6 : decode cX7_ate 6 = .ok (.aload_n 0, 1) := dk_42 (dk_at dksX7_ate_0 6 rfl rfl)
theorem dX7_ate_7 : decode cX7_ate 7 = .ok (.invokevirtual 70, 3) := dk_182 0 70 (dk_at dksX7_ate_0 7 rfl rfl)
theorem dX7_ate_10 : decode cX7_ate 10 = .ok (.if_icmp .lt 31, 3) := dk_161 0 31 (dk_at dksX7_ate_0 10 rfl rfl)
theorem dX7_ate_13 : decode cX7_ate 13 = .ok (.aload_n 0, 1) := dk_42 (dk_at dksX7_ate_0 13 rfl rfl)
theorem dX7_ate_14 : decode cX7_ate 14 = .ok (.dup, 1) := dk_89 (dk_at dksX7_ate_0 14 rfl rfl)
theorem dX7_ate_15 : decode cX7_ate 15 = .ok (.getfield 25, 3) := dk_180 0 25 (dk_at dksX7_ate_0 15 rfl rfl)
theorem dX7_ate_18 : decode cX7_ate 18 = .ok (.iconst 1, 1) := dk_4 (dk_at dksX7_ate_0 18 rfl rfl)
theorem dX7_ate_19 : decode cX7_ate 19 = .ok (.iadd, 1) := dk_96 (dk_at dksX7_ate_0 19 rfl rfl)
theorem dX7_ate_20 : decode cX7_ate 20 = .ok (.putfield 25, 3) := dk_181 0 25 (dk_at dksX7_ate_0 20 rfl rfl)
theorem dX7_ate_23 : decode cX7_ate 23 = .ok (.aload_n 0, 1) := dk_42 (dk_at dksX7_ate_0 23 rfl rfl)
theorem dX7_ate_24 : decode cX7_ate 24 = .ok (.iconst 0, 1) := dk_3 (dk_at dksX7_ate_1 0 rfl rfl)
theorem dX7_ate_25 : decode cX7_ate 25 = .ok (.putfield 31, 3) := dk_181 0 31 (dk_at dksX7_ate_1 1 rfl rfl)
theorem dX7_ate_28 : decode cX7_ate 28 = .ok (.aload_n 0, 1) := dk_42 (dk_at dksX7_ate_1 4 rfl rfl)
theorem dX7_ate_29 : decode cX7_ate 29 = .ok (.dup, 1) := dk_89 (dk_at dksX7_ate_1 5 rfl rfl)
theorem dX7_ate_30 : decode cX7_ate 30 = .ok (.getfield 34, 3) := dk_180 0 34 (dk_at dksX7_ate_1 6 rfl rfl)
theorem dX7_ate_33 : decode cX7_ate 33 = .ok (.iconst 1, 1) := dk_4 (dk_at dksX7_ate_1 9 rfl rfl)
theorem dX7_ate_34 : decode cX7_ate 34 = .ok (.iadd, 1) := dk_96 (dk_at dksX7_ate_1 10 rfl rfl)
theorem dX7_ate_35 : decode cX7_ate 35 = .ok (.putfield 34, 3) := dk_181 0 34 (dk_at dksX7_ate_1 11 rfl rfl)
theorem dX7_ate_38 : decode cX7_ate 38 = .ok (.goto 35, 3) := dk_167 0 35 (dk_at dksX7_ate_1 14 rfl rfl)
theorem dX7_ate_41 : decode cX7_ate 41 = .ok (.aload_n 0, 1) := dk_42 (dk_at dksX7_ate_1 17 rfl rfl)
theorem dX7_ate_42 : decode cX7_ate 42 = .ok (.dup, 1) := dk_89 (dk_at dksX7_ate_1 18 rfl rfl)
theorem dX7_ate_43 : decode cX7_ate 43 = .ok (.getfield 31, 3) := dk_180 0 31 (dk_at dksX7_ate_1 19 rfl rfl)
theorem dX7_ate_46 : decode cX7_ate 46 = .ok (.iconst 1, 1) := dk_4 (dk_at dksX7_ate_1 22 rfl rfl)
theorem dX7_ate_47 : decode cX7_ate 47 = .ok (.iadd, 1) := dk_96 (dk_at dksX7_ate_1 23 rfl rfl)
theorem dX7_ate_48 : decode cX7_ate 48 = .ok (.putfield 31, 3) := dk_181 0 31 (dk_at dksX7_ate_2 0 rfl rfl)
theorem dX7_ate_51 : decode cX7_ate 51 = .ok (.aload_n 0, 1) := dk_42 (dk_at dksX7_ate_2 3 rfl rfl)
theorem dX7_ate_52 : decode cX7_ate 52 = .ok (.getfield 31, 3) := dk_180 0 31 (dk_at dksX7_ate_2 4 rfl rfl)
theorem dX7_ate_55 : decode cX7_ate 55 = .ok (.iconst 1, 1) := dk_4 (dk_at dksX7_ate_2 7 rfl rfl)
theorem dX7_ate_56 : decode cX7_ate 56 = .ok (.if_icmp .le 17, 3) := dk_164 0 17 (dk_at dksX7_ate_2 8 rfl rfl)
theorem dX7_ate_59 : decode cX7_ate 59 = .ok (.aload_n 0, 1) := dk_42 (dk_at dksX7_ate_2 11 rfl rfl)
theorem dX7_ate_60 : decode cX7_ate 60 = .ok (.aload_n 0, 1) := dk_42 (dk_at dksX7_ate_2 12 rfl rfl)
theorem dX7_ate_61 : decode cX7_ate 61 = .ok (.getfield 16, 3) := dk_180 0 16 (dk_at dksX7_ate_2 13 rfl rfl)
theorem dX7_ate_64 : decode cX7_ate 64 = .ok (.bipush 10, 2) := dk_16 10 (dk_at dksX7_ate_2 16 rfl rfl)
theorem dX7_ate_66 : decode cX7_ate 66 = .ok (.invokestatic 47, 3) := dk_184 0 47 (dk_at dksX7_ate_2 18 rfl rfl)
theorem dX7_ate_69 : decode cX7_ate 69 = .ok (.invokevirtual 66, 3) := dk_182 0 66 (dk_at dksX7_ate_2 21 rfl rfl)
theorem dX7_ate_72 : decode cX7_ate 72 = .ok (.istore_n 1, 1) := dk_60 (dk_at dksX7_ate_3 0 rfl rfl)
theorem dX7_ate_73 : decode cX7_ate 73 = .ok (.aload_n 0, 1) := dk_42 (dk_at dksX7_ate_3 1 rfl rfl)
theorem dX7_ate_74 : decode cX7_ate 74 = .ok (.getfield 25, 3) := dk_180 0 25 (dk_at dksX7_ate_3 2 rfl rfl)
theorem dX7_ate_77 : decode cX7_ate 77 = .ok (.aload_n 0, 1) := dk_42 (dk_at dksX7_ate_3 5 rfl rfl)
theorem dX7_ate_78 : decode cX7_ate 78 = .ok (.getfield 22, 3) := dk_180 0 22 (dk_at dksX7_ate_3 6 rfl rfl)
theorem dX7_ate_81 : decode cX7_ate 81 = .ok (.iconst 5, 1) := dk_8 (dk_at dksX7_ate_3 9 rfl rfl)
theorem dX7_ate_82 : decode cX7_ate 82 = .ok (.if_icmp .ne 7, 3) := dk_160 0 7 (dk_at dksX7_ate_3 10 rfl rfl)
theorem dX7_ate_85 : decode cX7_ate 85 = .ok (.iconst 5, 1) := dk_8 (dk_at dksX7_ate_3 13 rfl rfl)
theorem dX7_ate_86 : decode cX7_ate 86 = .ok (.goto 4, 3) := dk_167 0 4 (dk_at dksX7_ate_3 14 rfl rfl)
theorem dX7_ate_89 : decode cX7_ate 89 = .ok (.iconst 3, 1) := dk_6 (dk_at dksX7_ate_3 17 rfl rfl)
theorem dX7_ate_90 : decode cX7_ate 90 = .ok (.if_icmp .ge 5, 3) := dk_162 0 5 (dk_at dksX7_ate_3 18 rfl rfl)
theorem dX7_ate_93 : decode cX7_ate 93 = .ok (.iload_n 1, 1) := dk_27 (dk_at dksX7_ate_3 21 rfl rfl)
theorem dX7_ate_94 : decode cX7_ate 94 = .ok (.ireturn, 1) := dk_172 (dk_at dksX7_ate_3 22 rfl rfl)
theorem dX7_ate_95 : decode cX7_ate 95 = .ok (.aload_n 0, 1) := dk_42 (dk_at dksX7_ate_3 23 rfl rfl)
theorem dX7_ate_96 : decode cX7_ate 96 = .ok (.iconst 0, 1) := dk_3 (dk_at dksX7_ate_4 0 rfl rfl)
theorem dX7_ate_97 : decode cX7_ate 97 = .ok (.putfield 25, 3) := dk_181 0 25 (dk_at dksX7_ate_4 1 rfl rfl)
theorem dX7_ate_100 : decode cX7_ate 100 = .ok (.aload_n 0, 1) := dk_42 (dk_at dksX7_ate_4 4 rfl rfl)
theorem dX7_ate_101 : decode cX7_ate 101 = .ok (.getfield 22, 3) := dk_180 0 22 (dk_at dksX7_ate_4 5 rfl rfl)
theorem dX7_ate_104 : decode cX7_ate 104 = .ok (.iconst 5, 1) := dk_8 (dk_at dksX7_ate_4 8 rfl rfl)
theorem dX7_ate_105 : decode cX7_ate 105 = .ok (.if_icmp .ne 11, 3) := dk_160 0 11 (dk_at dksX7_ate_4 9 rfl rfl)
theorem dX7_ate_108 : decode cX7_ate 108 = .ok (.aload_n 0, 1) := dk_42 (dk_at dksX7_ate_4 12 rfl rfl)
theorem dX7_ate_109 : decode cX7_ate 109 = .ok (.iconst 1, 1) := dk_4 (dk_at dksX7_ate_4 13 rfl rfl)
theorem dX7_ate_110 : decode cX7_ate 110 = .ok (.putfield 43, 3) := dk_181 0 43 (dk_at dksX7_ate_4 14 rfl rfl)
theorem dX7_ate_113 : decode cX7_ate 113 = .ok (.goto 8, 3) := dk_167 0 8 (dk_at dksX7_ate_4 17 rfl rfl)
theorem dX7_ate_116 : decode cX7_ate 116 = .ok (.aload_n 0, 1) := dk_42 (dk_at dksX7_ate_4 20 rfl rfl)
theorem dX7_ate_117 : decode cX7_ate 117 = .ok (.iconst 2, 1) := dk_5 (dk_at dksX7_ate_4 21 rfl rfl)
theorem dX7_ate_118 : decode cX7_ate 118 = .ok (.putfield 28, 3) := dk_181 0 28 (dk_at dksX7_ate_5 0 rfl rfl)
theorem dX7_ate_121 : decode cX7_ate 121 = .ok (.iload_n 1, 1) := dk_27 (dk_at dksX7_ate_5 3 rfl rfl)
theorem dX7_ate_122 : decode cX7_ate 122 = .ok (.ireturn, 1) := dk_172 (dk_at dksX7_ate_5 4 rfl rfl)
abbrev cX7_need : ByteArray := prog_15_method_3_code
def yX7_need : MethodName := ⟨RX7, "need", "()I"⟩
def dkwX7_need_0 : List UInt8 := [42, 180, 0, 16, 42, 180, 0, 22, 104, 7, 184, 0, 47, 172]
abbrev dktX7_need_0 : List UInt8 := dkwX7_need_0 ++ []
theorem dksX7_need_0 : cX7_need.data.toList.drop 0 = dktX7_need_0 := by decide +kernel
theorem dX7_need_0 : decode cX7_need 0 = .ok (.aload_n 0, 1) := dk_42 (dk_at dksX7_need_0 0 rfl rfl)
theorem dX7_need_1 : decode cX7_need 1 = .ok (.getfield 16, 3) := dk_180 0 16 (dk_at dksX7_need_0 1 rfl rfl)
theorem dX7_need_4 : decode cX7_need 4 = .ok (.aload_n 0, 1) := dk_42 (dk_at dksX7_need_0 4 rfl rfl)
theorem dX7_need_5 : decode cX7_need 5 = .ok (.getfield 22, 3) := dk_180 0 22 (dk_at dksX7_need_0 5 rfl rfl)
theorem dX7_need_8 : decode cX7_need 8 = .ok (.imul, 1) := dk_104 (dk_at dksX7_need_0 8 rfl rfl)
theorem dX7_need_9 : decode cX7_need 9 = .ok (.iconst 4, 1) := dk_7 (dk_at dksX7_need_0 9 rfl rfl)
theorem dX7_need_10 : decode cX7_need 10 = .ok (.invokestatic 47, 3) := dk_184 0 47 (dk_at dksX7_need_0 10 rfl rfl)
theorem dX7_need_13 : decode cX7_need 13 = .ok (.ireturn, 1) := dk_172 (dk_at dksX7_need_0 13 rfl rfl)
abbrev cX7_die : ByteArray := prog_15_method_4_code
def yX7_die : MethodName := ⟨RX7, "die", "(I)I"⟩
def dkwX7_die_1 : List UInt8 := [181, 0, 19, 42, 89, 180, 0, 16, 28, 100, 181, 0, 16, 28, 172]
abbrev dktX7_die_1 : List UInt8 := dkwX7_die_1 ++ []
def dkwX7_die_0 : List UInt8 := [27, 42, 180, 0, 16, 184, 0, 51, 61, 42, 89, 180, 0, 19, 42, 180, 0, 19, 28, 184, 0, 51, 100]
abbrev dktX7_die_0 : List UInt8 := dkwX7_die_0 ++ dktX7_die_1
theorem dksX7_die_0 : cX7_die.data.toList.drop 0 = dktX7_die_0 := by decide +kernel
theorem dksX7_die_1 : cX7_die.data.toList.drop 23 = dktX7_die_1 := dk_seg dksX7_die_0 23 rfl rfl
theorem dX7_die_0 : decode cX7_die 0 = .ok (.iload_n 1, 1) := dk_27 (dk_at dksX7_die_0 0 rfl rfl)
theorem dX7_die_1 : decode cX7_die 1 = .ok (.aload_n 0, 1) := dk_42 (dk_at dksX7_die_0 1 rfl rfl)
theorem dX7_die_2 : decode cX7_die 2 = .ok (.getfield 16, 3) := dk_180 0 16 (dk_at dksX7_die_0 2 rfl rfl)
theorem dX7_die_5 : decode cX7_die 5 = .ok (.invokestatic 51, 3) := dk_184 0 51 (dk_at dksX7_die_0 5 rfl rfl)
theorem dX7_die_8 : decode cX7_die 8 = .ok (.istore_n 2, 1) := dk_61 (dk_at dksX7_die_0 8 rfl rfl)
theorem dX7_die_9 : decode cX7_die 9 = .ok (.aload_n 0, 1) := dk_42 (dk_at dksX7_die_0 9 rfl rfl)
theorem dX7_die_10 : decode cX7_die 10 = .ok (.dup, 1) := dk_89 (dk_at dksX7_die_0 10 rfl rfl)
theorem dX7_die_11 : decode cX7_die 11 = .ok (.getfield 19, 3) := dk_180 0 19 (dk_at dksX7_die_0 11 rfl rfl)
theorem dX7_die_14 : decode cX7_die 14 = .ok (.aload_n 0, 1) := dk_42 (dk_at dksX7_die_0 14 rfl rfl)
theorem dX7_die_15 : decode cX7_die 15 = .ok (.getfield 19, 3) := dk_180 0 19 (dk_at dksX7_die_0 15 rfl rfl)
theorem dX7_die_18 : decode cX7_die 18 = .ok (.iload_n 2, 1) := dk_28 (dk_at dksX7_die_0 18 rfl rfl)
theorem dX7_die_19 : decode cX7_die 19 = .ok (.invokestatic 51, 3) := dk_184 0 51 (dk_at dksX7_die_0 19 rfl rfl)
theorem dX7_die_22 : decode cX7_die 22 = .ok (.isub, 1) := dk_100 (dk_at dksX7_die_0 22 rfl rfl)
theorem dX7_die_23 : decode cX7_die 23 = .ok (.putfield 19, 3) := dk_181 0 19 (dk_at dksX7_die_1 0 rfl rfl)
theorem dX7_die_26 : decode cX7_die 26 = .ok (.aload_n 0, 1) := dk_42 (dk_at dksX7_die_1 3 rfl rfl)
theorem dX7_die_27 : decode cX7_die 27 = .ok (.dup, 1) := dk_89 (dk_at dksX7_die_1 4 rfl rfl)
theorem dX7_die_28 : decode cX7_die 28 = .ok (.getfield 16, 3) := dk_180 0 16 (dk_at dksX7_die_1 5 rfl rfl)
theorem dX7_die_31 : decode cX7_die 31 = .ok (.iload_n 2, 1) := dk_28 (dk_at dksX7_die_1 8 rfl rfl)
theorem dX7_die_32 : decode cX7_die 32 = .ok (.isub, 1) := dk_100 (dk_at dksX7_die_1 9 rfl rfl)
theorem dX7_die_33 : decode cX7_die 33 = .ok (.putfield 16, 3) := dk_181 0 16 (dk_at dksX7_die_1 10 rfl rfl)
theorem dX7_die_36 : decode cX7_die 36 = .ok (.iload_n 2, 1) := dk_28 (dk_at dksX7_die_1 13 rfl rfl)
theorem dX7_die_37 : decode cX7_die 37 = .ok (.ireturn, 1) := dk_172 (dk_at dksX7_die_1 14 rfl rfl)
abbrev cX7_clean : ByteArray := prog_15_method_8_code
def yX7_clean : MethodName := ⟨RX7, "clean", "()I"⟩
def dkwX7_clean_1 : List UInt8 := [182, 0, 66, 167, 0, 4, 3, 172]
abbrev dktX7_clean_1 : List UInt8 := dkwX7_clean_1 ++ []
def dkwX7_clean_0 : List UInt8 := [42, 3, 181, 0, 34, 42, 180, 0, 28, 158, 0, 19, 42, 42, 180, 0, 16, 16, 10, 184, 0, 47]
abbrev dktX7_clean_0 : List UInt8 := dkwX7_clean_0 ++ dktX7_clean_1
theorem dksX7_clean_0 : cX7_clean.data.toList.drop 0 = dktX7_clean_0 := by decide +kernel
theorem dksX7_clean_1 : cX7_clean.data.toList.drop 22 = dktX7_clean_1 := dk_seg dksX7_clean_0 22 rfl rfl
theorem dX7_clean_0 : decode cX7_clean 0 = .ok (.aload_n 0, 1) := dk_42 (dk_at dksX7_clean_0 0 rfl rfl)
theorem dX7_clean_1 : decode cX7_clean 1 = .ok (.iconst 0, 1) := dk_3 (dk_at dksX7_clean_0 1 rfl rfl)
theorem dX7_clean_2 : decode cX7_clean 2 = .ok (.putfield 34, 3) := dk_181 0 34 (dk_at dksX7_clean_0 2 rfl rfl)
theorem dX7_clean_5 : decode cX7_clean 5 = .ok (.aload_n 0, 1) := dk_42 (dk_at dksX7_clean_0 5 rfl rfl)
theorem dX7_clean_6 : decode cX7_clean 6 = .ok (.getfield 28, 3) := dk_180 0 28 (dk_at dksX7_clean_0 6 rfl rfl)
theorem dX7_clean_9 : decode cX7_clean 9 = .ok (.ifCond .le 19, 3) := dk_158 0 19 (dk_at dksX7_clean_0 9 rfl rfl)
theorem dX7_clean_12 : decode cX7_clean 12 = .ok (.aload_n 0, 1) := dk_42 (dk_at dksX7_clean_0 12 rfl rfl)
theorem dX7_clean_13 : decode cX7_clean 13 = .ok (.aload_n 0, 1) := dk_42 (dk_at dksX7_clean_0 13 rfl rfl)
theorem dX7_clean_14 : decode cX7_clean 14 = .ok (.getfield 16, 3) := dk_180 0 16 (dk_at dksX7_clean_0 14 rfl rfl)
theorem dX7_clean_17 : decode cX7_clean 17 = .ok (.bipush 10, 2) := dk_16 10 (dk_at dksX7_clean_0 17 rfl rfl)
theorem dX7_clean_19 : decode cX7_clean 19 = .ok (.invokestatic 47, 3) := dk_184 0 47 (dk_at dksX7_clean_0 19 rfl rfl)
theorem dX7_clean_22 : decode cX7_clean 22 = .ok (.invokevirtual 66, 3) := dk_182 0 66 (dk_at dksX7_clean_1 0 rfl rfl)
theorem dX7_clean_25 : decode cX7_clean 25 = .ok (.goto 4, 3) := dk_167 0 4 (dk_at dksX7_clean_1 3 rfl rfl)
theorem dX7_clean_28 : decode cX7_clean 28 = .ok (.iconst 0, 1) := dk_3 (dk_at dksX7_clean_1 6 rfl rfl)
theorem dX7_clean_29 : decode cX7_clean 29 = .ok (.ireturn, 1) := dk_172 (dk_at dksX7_clean_1 7 rfl rfl)
abbrev cX7_copy : ByteArray := prog_15_method_2_code
def yX7_copy : MethodName := ⟨RX7, "copy", "()LSilkRowModel$Tray;"⟩
def dkwX7_copy_4 : List UInt8 := [43, 176]
abbrev dktX7_copy_4 : List UInt8 := dkwX7_copy_4 ++ []
def dkwX7_copy_3 : List UInt8 := [43, 42, 180, 0, 37, 181, 0, 37, 43, 42, 180, 0, 40, 181, 0, 40, 43, 42, 180, 0, 43, 181, 0, 43]
abbrev dktX7_copy_3 : List UInt8 := dkwX7_copy_3 ++ dktX7_copy_4
def dkwX7_copy_2 : List UInt8 := [43, 42, 180, 0, 28, 181, 0, 28, 43, 42, 180, 0, 31, 181, 0, 31, 43, 42, 180, 0, 34, 181, 0, 34]
abbrev dktX7_copy_2 : List UInt8 := dkwX7_copy_2 ++ dktX7_copy_3
def dkwX7_copy_1 : List UInt8 := [43, 42, 180, 0, 9, 181, 0, 9, 43, 42, 180, 0, 22, 181, 0, 22, 43, 42, 180, 0, 25, 181, 0, 25]
abbrev dktX7_copy_1 : List UInt8 := dkwX7_copy_1 ++ dktX7_copy_2
def dkwX7_copy_0 : List UInt8 := [187, 0, 10, 89, 183, 0, 15, 76, 43, 42, 180, 0, 16, 181, 0, 16, 43, 42, 180, 0, 19, 181, 0, 19]
abbrev dktX7_copy_0 : List UInt8 := dkwX7_copy_0 ++ dktX7_copy_1
theorem dksX7_copy_0 : cX7_copy.data.toList.drop 0 = dktX7_copy_0 := by decide +kernel
theorem dksX7_copy_1 : cX7_copy.data.toList.drop 24 = dktX7_copy_1 := dk_seg dksX7_copy_0 24 rfl rfl
theorem dksX7_copy_2 : cX7_copy.data.toList.drop 48 = dktX7_copy_2 := dk_seg dksX7_copy_1 24 rfl rfl
theorem dksX7_copy_3 : cX7_copy.data.toList.drop 72 = dktX7_copy_3 := dk_seg dksX7_copy_2 24 rfl rfl
theorem dksX7_copy_4 : cX7_copy.data.toList.drop 96 = dktX7_copy_4 := dk_seg dksX7_copy_3 24 rfl rfl
theorem dX7_copy_0 : decode cX7_copy 0 = .ok (.new 10, 3) := dk_187 0 10 (dk_at dksX7_copy_0 0 rfl rfl)
theorem dX7_copy_3 : decode cX7_copy 3 = .ok (.dup, 1) := dk_89 (dk_at dksX7_copy_0 3 rfl rfl)
theorem dX7_copy_4 : decode cX7_copy 4 = .ok (.invokespecial 15, 3) := dk_183 0 15 (dk_at dksX7_copy_0 4 rfl rfl)
theorem dX7_copy_7 : decode cX7_copy 7 = .ok (.astore_n 1, 1) := dk_76 (dk_at dksX7_copy_0 7 rfl rfl)
theorem dX7_copy_8 : decode cX7_copy 8 = .ok (.aload_n 1, 1) := dk_43 (dk_at dksX7_copy_0 8 rfl rfl)
theorem dX7_copy_9 : decode cX7_copy 9 = .ok (.aload_n 0, 1) := dk_42 (dk_at dksX7_copy_0 9 rfl rfl)
theorem dX7_copy_10 : decode cX7_copy 10 = .ok (.getfield 16, 3) := dk_180 0 16 (dk_at dksX7_copy_0 10 rfl rfl)
theorem dX7_copy_13 : decode cX7_copy 13 = .ok (.putfield 16, 3) := dk_181 0 16 (dk_at dksX7_copy_0 13 rfl rfl)
theorem dX7_copy_16 : decode cX7_copy 16 = .ok (.aload_n 1, 1) := dk_43 (dk_at dksX7_copy_0 16 rfl rfl)
theorem dX7_copy_17 : decode cX7_copy 17 = .ok (.aload_n 0, 1) := dk_42 (dk_at dksX7_copy_0 17 rfl rfl)
theorem dX7_copy_18 : decode cX7_copy 18 = .ok (.getfield 19, 3) := dk_180 0 19 (dk_at dksX7_copy_0 18 rfl rfl)
theorem dX7_copy_21 : decode cX7_copy 21 = .ok (.putfield 19, 3) := dk_181 0 19 (dk_at dksX7_copy_0 21 rfl rfl)
theorem dX7_copy_24 : decode cX7_copy 24 = .ok (.aload_n 1, 1) := dk_43 (dk_at dksX7_copy_1 0 rfl rfl)
theorem dX7_copy_25 : decode cX7_copy 25 = .ok (.aload_n 0, 1) := dk_42 (dk_at dksX7_copy_1 1 rfl rfl)
theorem dX7_copy_26 : decode cX7_copy 26 = .ok (.getfield 9, 3) := dk_180 0 9 (dk_at dksX7_copy_1 2 rfl rfl)
theorem dX7_copy_29 : decode cX7_copy 29 = .ok (.putfield 9, 3) := dk_181 0 9 (dk_at dksX7_copy_1 5 rfl rfl)
theorem dX7_copy_32 : decode cX7_copy 32 = .ok (.aload_n 1, 1) := dk_43 (dk_at dksX7_copy_1 8 rfl rfl)
theorem dX7_copy_33 : decode cX7_copy 33 = .ok (.aload_n 0, 1) := dk_42 (dk_at dksX7_copy_1 9 rfl rfl)
theorem dX7_copy_34 : decode cX7_copy 34 = .ok (.getfield 22, 3) := dk_180 0 22 (dk_at dksX7_copy_1 10 rfl rfl)
theorem dX7_copy_37 : decode cX7_copy 37 = .ok (.putfield 22, 3) := dk_181 0 22 (dk_at dksX7_copy_1 13 rfl rfl)
theorem dX7_copy_40 : decode cX7_copy 40 = .ok (.aload_n 1, 1) := dk_43 (dk_at dksX7_copy_1 16 rfl rfl)
theorem dX7_copy_41 : decode cX7_copy 41 = .ok (.aload_n 0, 1) := dk_42 (dk_at dksX7_copy_1 17 rfl rfl)
theorem dX7_copy_42 : decode cX7_copy 42 = .ok (.getfield 25, 3) := dk_180 0 25 (dk_at dksX7_copy_1 18 rfl rfl)
theorem dX7_copy_45 : decode cX7_copy 45 = .ok (.putfield 25, 3) := dk_181 0 25 (dk_at dksX7_copy_1 21 rfl rfl)
theorem dX7_copy_48 : decode cX7_copy 48 = .ok (.aload_n 1, 1) := dk_43 (dk_at dksX7_copy_2 0 rfl rfl)
theorem dX7_copy_49 : decode cX7_copy 49 = .ok (.aload_n 0, 1) := dk_42 (dk_at dksX7_copy_2 1 rfl rfl)
theorem dX7_copy_50 : decode cX7_copy 50 = .ok (.getfield 28, 3) := dk_180 0 28 (dk_at dksX7_copy_2 2 rfl rfl)
theorem dX7_copy_53 : decode cX7_copy 53 = .ok (.putfield 28, 3) := dk_181 0 28 (dk_at dksX7_copy_2 5 rfl rfl)
theorem dX7_copy_56 : decode cX7_copy 56 = .ok (.aload_n 1, 1) := dk_43 (dk_at dksX7_copy_2 8 rfl rfl)
theorem dX7_copy_57 : decode cX7_copy 57 = .ok (.aload_n 0, 1) := dk_42 (dk_at dksX7_copy_2 9 rfl rfl)
theorem dX7_copy_58 : decode cX7_copy 58 = .ok (.getfield 31, 3) := dk_180 0 31 (dk_at dksX7_copy_2 10 rfl rfl)
theorem dX7_copy_61 : decode cX7_copy 61 = .ok (.putfield 31, 3) := dk_181 0 31 (dk_at dksX7_copy_2 13 rfl rfl)
theorem dX7_copy_64 : decode cX7_copy 64 = .ok (.aload_n 1, 1) := dk_43 (dk_at dksX7_copy_2 16 rfl rfl)
theorem dX7_copy_65 : decode cX7_copy 65 = .ok (.aload_n 0, 1) := dk_42 (dk_at dksX7_copy_2 17 rfl rfl)
theorem dX7_copy_66 : decode cX7_copy 66 = .ok (.getfield 34, 3) := dk_180 0 34 (dk_at dksX7_copy_2 18 rfl rfl)
theorem dX7_copy_69 : decode cX7_copy 69 = .ok (.putfield 34, 3) := dk_181 0 34 (dk_at dksX7_copy_2 21 rfl rfl)
theorem dX7_copy_72 : decode cX7_copy 72 = .ok (.aload_n 1, 1) := dk_43 (dk_at dksX7_copy_3 0 rfl rfl)
theorem dX7_copy_73 : decode cX7_copy 73 = .ok (.aload_n 0, 1) := dk_42 (dk_at dksX7_copy_3 1 rfl rfl)
theorem dX7_copy_74 : decode cX7_copy 74 = .ok (.getfield 37, 3) := dk_180 0 37 (dk_at dksX7_copy_3 2 rfl rfl)
theorem dX7_copy_77 : decode cX7_copy 77 = .ok (.putfield 37, 3) := dk_181 0 37 (dk_at dksX7_copy_3 5 rfl rfl)
theorem dX7_copy_80 : decode cX7_copy 80 = .ok (.aload_n 1, 1) := dk_43 (dk_at dksX7_copy_3 8 rfl rfl)
theorem dX7_copy_81 : decode cX7_copy 81 = .ok (.aload_n 0, 1) := dk_42 (dk_at dksX7_copy_3 9 rfl rfl)
theorem dX7_copy_82 : decode cX7_copy 82 = .ok (.getfield 40, 3) := dk_180 0 40 (dk_at dksX7_copy_3 10 rfl rfl)
theorem dX7_copy_85 : decode cX7_copy 85 = .ok (.putfield 40, 3) := dk_181 0 40 (dk_at dksX7_copy_3 13 rfl rfl)
theorem dX7_copy_88 : decode cX7_copy 88 = .ok (.aload_n 1, 1) := dk_43 (dk_at dksX7_copy_3 16 rfl rfl)
theorem dX7_copy_89 : decode cX7_copy 89 = .ok (.aload_n 0, 1) := dk_42 (dk_at dksX7_copy_3 17 rfl rfl)
theorem dX7_copy_90 : decode cX7_copy 90 = .ok (.getfield 43, 3) := dk_180 0 43 (dk_at dksX7_copy_3 18 rfl rfl)
theorem dX7_copy_93 : decode cX7_copy 93 = .ok (.putfield 43, 3) := dk_181 0 43 (dk_at dksX7_copy_3 21 rfl rfl)
theorem dX7_copy_96 : decode cX7_copy 96 = .ok (.aload_n 1, 1) := dk_43 (dk_at dksX7_copy_4 0 rfl rfl)
theorem dX7_copy_97 : decode cX7_copy 97 = .ok (.areturn, 1) := dk_176 (dk_at dksX7_copy_4 1 rfl rfl)
theorem q57 : (Jvm.Cond.initialized "SilkRowModel$Tray") ∈ lw_all := lw_g (lw_at lw_m1 14 rfl) rfl
theorem q177 : (Jvm.Cond.selects "SilkRowModel$Tray" ({ cls := "java/lang/Object", name := "getClass", desc := "()Ljava/lang/Class;" } : Jvm.MethodName) ({ cls := "java/lang/Object", name := "getClass", desc := "()Ljava/lang/Class;" } : Jvm.MethodName)) ∈ lw_all := lw_g (lw_at lw_m1 134 rfl) rfl
theorem q634 : (Jvm.Cond.selects "SilkRowModel$Tray" ({ cls := "java/lang/Object", name := "equals", desc := "(Ljava/lang/Object;)Z" } : Jvm.MethodName) ({ cls := "java/lang/Object", name := "equals", desc := "(Ljava/lang/Object;)Z" } : Jvm.MethodName)) ∈ lw_all := lw_g (lw_at lw_m3 111 rfl) rfl
theorem q1130 : (Jvm.Cond.instantiable "SilkRowModel$Tray" (11 : Nat)) ∈ lw_all := lw_g (lw_at lw_m5 127 rfl) rfl
theorem q1132 : (Jvm.Cond.instanceMethod ({ cls := "SilkRowModel$Tray", name := "<init>", desc := "()V" } : Jvm.MethodName)) ∈ lw_all := lw_g (lw_at lw_m5 129 rfl) rfl
theorem q1133 : (Jvm.Cond.code ({ cls := "SilkRowModel$Tray", name := "<init>", desc := "()V" } : Jvm.MethodName) prog_15_method_1_code (1 : Nat) (Option.none : Option Jvm.ClassFile.FieldType)) ∈ lw_all := lw_g (lw_at lw_m5 130 rfl) rfl
theorem q1134 : (Jvm.Cond.methodLink "SilkRowModel$Tray" (3 : Nat) ({ cls := "java/lang/Object", name := "<init>", desc := "()V" } : Jvm.MethodName)) ∈ lw_all := lw_g (lw_at lw_m5 131 rfl) rfl
theorem q1135 : (Jvm.Cond.fieldLink "SilkRowModel$Tray" (16 : Nat) "SilkRowModel$Tray" "worms" "I") ∈ lw_all := lw_g (lw_at lw_m5 132 rfl) rfl
theorem q1137 : (Jvm.Cond.fieldLink "SilkRowModel$Tray" (19 : Nat) "SilkRowModel$Tray" "sick" "I") ∈ lw_all := lw_g (lw_at lw_m5 134 rfl) rfl
theorem q1139 : (Jvm.Cond.fieldLink "SilkRowModel$Tray" (9 : Nat) "SilkRowModel$Tray" "line" "I") ∈ lw_all := lw_g (lw_at lw_m5 136 rfl) rfl
theorem q1141 : (Jvm.Cond.fieldLink "SilkRowModel$Tray" (22 : Nat) "SilkRowModel$Tray" "instar" "I") ∈ lw_all := lw_g (lw_at lw_m5 138 rfl) rfl
theorem q1143 : (Jvm.Cond.fieldLink "SilkRowModel$Tray" (25 : Nat) "SilkRowModel$Tray" "eaten" "I") ∈ lw_all := lw_g (lw_at lw_m5 140 rfl) rfl
theorem q1145 : (Jvm.Cond.fieldLink "SilkRowModel$Tray" (28 : Nat) "SilkRowModel$Tray" "moult" "I") ∈ lw_all := lw_g (lw_at lw_m5 142 rfl) rfl
theorem q1147 : (Jvm.Cond.fieldLink "SilkRowModel$Tray" (31 : Nat) "SilkRowModel$Tray" "hunger" "I") ∈ lw_all := lw_g (lw_at lw_m5 144 rfl) rfl
theorem q1149 : (Jvm.Cond.fieldLink "SilkRowModel$Tray" (34 : Nat) "SilkRowModel$Tray" "litter" "I") ∈ lw_all := lw_g (lw_at lw_m5 146 rfl) rfl
theorem q1151 : (Jvm.Cond.fieldLink "SilkRowModel$Tray" (37 : Nat) "SilkRowModel$Tray" "given" "I") ∈ lw_all := lw_g (lw_at lw_m5 148 rfl) rfl
theorem q1153 : (Jvm.Cond.fieldLink "SilkRowModel$Tray" (40 : Nat) "SilkRowModel$Tray" "wet" "I") ∈ lw_all := lw_g (lw_at lw_m5 150 rfl) rfl
theorem q1155 : (Jvm.Cond.fieldLink "SilkRowModel$Tray" (43 : Nat) "SilkRowModel$Tray" "isRipe" "Z") ∈ lw_all := lw_g (lw_at lw_m5 152 rfl) rfl
theorem q1157 : (Jvm.Cond.lays "SilkRowModel$Tray" "SilkRowModel$Tray" "worms" "I") ∈ lw_all := lw_g (lw_at lw_m5 154 rfl) rfl
theorem q1158 : (Jvm.Cond.soleField "SilkRowModel$Tray" "worms") ∈ lw_all := lw_g (lw_at lw_m5 155 rfl) rfl
theorem q1159 : (Jvm.Cond.lays "SilkRowModel$Tray" "SilkRowModel$Tray" "sick" "I") ∈ lw_all := lw_g (lw_at lw_m5 156 rfl) rfl
theorem q1160 : (Jvm.Cond.soleField "SilkRowModel$Tray" "sick") ∈ lw_all := lw_g (lw_at lw_m5 157 rfl) rfl
theorem q1161 : (Jvm.Cond.lays "SilkRowModel$Tray" "SilkRowModel$Tray" "line" "I") ∈ lw_all := lw_g (lw_at lw_m5 158 rfl) rfl
theorem q1162 : (Jvm.Cond.soleField "SilkRowModel$Tray" "line") ∈ lw_all := lw_g (lw_at lw_m5 159 rfl) rfl
theorem q1163 : (Jvm.Cond.lays "SilkRowModel$Tray" "SilkRowModel$Tray" "instar" "I") ∈ lw_all := lw_g (lw_at lw_m5 160 rfl) rfl
theorem q1164 : (Jvm.Cond.soleField "SilkRowModel$Tray" "instar") ∈ lw_all := lw_g (lw_at lw_m5 161 rfl) rfl
theorem q1165 : (Jvm.Cond.lays "SilkRowModel$Tray" "SilkRowModel$Tray" "eaten" "I") ∈ lw_all := lw_g (lw_at lw_m5 162 rfl) rfl
theorem q1166 : (Jvm.Cond.soleField "SilkRowModel$Tray" "eaten") ∈ lw_all := lw_g (lw_at lw_m5 163 rfl) rfl
theorem q1167 : (Jvm.Cond.lays "SilkRowModel$Tray" "SilkRowModel$Tray" "moult" "I") ∈ lw_all := lw_g (lw_at lw_m5 164 rfl) rfl
theorem q1168 : (Jvm.Cond.soleField "SilkRowModel$Tray" "moult") ∈ lw_all := lw_g (lw_at lw_m5 165 rfl) rfl
theorem q1169 : (Jvm.Cond.lays "SilkRowModel$Tray" "SilkRowModel$Tray" "hunger" "I") ∈ lw_all := lw_g (lw_at lw_m5 166 rfl) rfl
theorem q1170 : (Jvm.Cond.soleField "SilkRowModel$Tray" "hunger") ∈ lw_all := lw_g (lw_at lw_m5 167 rfl) rfl
theorem q1171 : (Jvm.Cond.lays "SilkRowModel$Tray" "SilkRowModel$Tray" "litter" "I") ∈ lw_all := lw_g (lw_at lw_m5 168 rfl) rfl
theorem q1172 : (Jvm.Cond.soleField "SilkRowModel$Tray" "litter") ∈ lw_all := lw_g (lw_at lw_m5 169 rfl) rfl
theorem q1173 : (Jvm.Cond.lays "SilkRowModel$Tray" "SilkRowModel$Tray" "given" "I") ∈ lw_all := lw_g (lw_at lw_m5 170 rfl) rfl
theorem q1174 : (Jvm.Cond.soleField "SilkRowModel$Tray" "given") ∈ lw_all := lw_g (lw_at lw_m5 171 rfl) rfl
theorem q1175 : (Jvm.Cond.lays "SilkRowModel$Tray" "SilkRowModel$Tray" "wet" "I") ∈ lw_all := lw_g (lw_at lw_m5 172 rfl) rfl
theorem q1176 : (Jvm.Cond.soleField "SilkRowModel$Tray" "wet") ∈ lw_all := lw_g (lw_at lw_m5 173 rfl) rfl
theorem q1177 : (Jvm.Cond.lays "SilkRowModel$Tray" "SilkRowModel$Tray" "isRipe" "Z") ∈ lw_all := lw_g (lw_at lw_m5 174 rfl) rfl
theorem q1178 : (Jvm.Cond.soleField "SilkRowModel$Tray" "isRipe") ∈ lw_all := lw_g (lw_at lw_m5 175 rfl) rfl
theorem q1179 : (Jvm.Cond.superclass "SilkRowModel$Tray" "java/lang/Object") ∈ lw_all := lw_g (lw_at lw_m5 176 rfl) rfl
theorem q1282 : (Jvm.Cond.instanceMethod ({ cls := "SilkRowModel$Tray", name := "day", desc := "(I)I" } : Jvm.MethodName)) ∈ lw_all := lw_g (lw_at lw_m6 39 rfl) rfl
theorem q1283 : (Jvm.Cond.selects "SilkRowModel$Tray" ({ cls := "SilkRowModel$Tray", name := "day", desc := "(I)I" } : Jvm.MethodName) ({ cls := "SilkRowModel$Tray", name := "day", desc := "(I)I" } : Jvm.MethodName)) ∈ lw_all := lw_g (lw_at lw_m6 40 rfl) rfl
theorem q1284 : (Jvm.Cond.code ({ cls := "SilkRowModel$Tray", name := "day", desc := "(I)I" } : Jvm.MethodName) prog_15_method_5_code (4 : Nat) (Option.some Jvm.ClassFile.FieldType.int)) ∈ lw_all := lw_g (lw_at lw_m6 41 rfl) rfl
theorem q1285 : (Jvm.Cond.methodLink "SilkRowModel$Tray" (56 : Nat) ({ cls := "SilkRowModel$Tray", name := "moulted", desc := "()I" } : Jvm.MethodName)) ∈ lw_all := lw_g (lw_at lw_m6 42 rfl) rfl
theorem q1286 : (Jvm.Cond.privateMethod ({ cls := "SilkRowModel$Tray", name := "moulted", desc := "()I" } : Jvm.MethodName)) ∈ lw_tbl := lw_at lw_m6 43 rfl
theorem q1287 : (Jvm.Cond.instanceMethod ({ cls := "SilkRowModel$Tray", name := "moulted", desc := "()I" } : Jvm.MethodName)) ∈ lw_all := lw_g (lw_at lw_m6 44 rfl) rfl
theorem q1288 : (Jvm.Cond.code ({ cls := "SilkRowModel$Tray", name := "moulted", desc := "()I" } : Jvm.MethodName) prog_15_method_6_code (1 : Nat) (Option.some Jvm.ClassFile.FieldType.int)) ∈ lw_all := lw_g (lw_at lw_m6 45 rfl) rfl
theorem q1289 : (Jvm.Cond.methodLink "SilkRowModel$Tray" (60 : Nat) ({ cls := "SilkRowModel$Tray", name := "ate", desc := "()I" } : Jvm.MethodName)) ∈ lw_all := lw_g (lw_at lw_m6 46 rfl) rfl
theorem q1290 : (Jvm.Cond.privateMethod ({ cls := "SilkRowModel$Tray", name := "ate", desc := "()I" } : Jvm.MethodName)) ∈ lw_tbl := lw_at lw_m6 47 rfl
theorem q1291 : (Jvm.Cond.instanceMethod ({ cls := "SilkRowModel$Tray", name := "ate", desc := "()I" } : Jvm.MethodName)) ∈ lw_all := lw_g (lw_at lw_m6 48 rfl) rfl
theorem q1292 : (Jvm.Cond.code ({ cls := "SilkRowModel$Tray", name := "ate", desc := "()I" } : Jvm.MethodName) prog_15_method_7_code (2 : Nat) (Option.some Jvm.ClassFile.FieldType.int)) ∈ lw_all := lw_g (lw_at lw_m6 49 rfl) rfl
theorem q1293 : (Jvm.Cond.methodLink "SilkRowModel$Tray" (70 : Nat) ({ cls := "SilkRowModel$Tray", name := "need", desc := "()I" } : Jvm.MethodName)) ∈ lw_all := lw_g (lw_at lw_m6 50 rfl) rfl
theorem q1294 : (Jvm.Cond.instanceMethod ({ cls := "SilkRowModel$Tray", name := "need", desc := "()I" } : Jvm.MethodName)) ∈ lw_all := lw_g (lw_at lw_m6 51 rfl) rfl
theorem q1295 : (Jvm.Cond.selects "SilkRowModel$Tray" ({ cls := "SilkRowModel$Tray", name := "need", desc := "()I" } : Jvm.MethodName) ({ cls := "SilkRowModel$Tray", name := "need", desc := "()I" } : Jvm.MethodName)) ∈ lw_all := lw_g (lw_at lw_m6 52 rfl) rfl
theorem q1296 : (Jvm.Cond.code ({ cls := "SilkRowModel$Tray", name := "need", desc := "()I" } : Jvm.MethodName) prog_15_method_3_code (1 : Nat) (Option.some Jvm.ClassFile.FieldType.int)) ∈ lw_all := lw_g (lw_at lw_m6 53 rfl) rfl
theorem q1297 : (Jvm.Cond.methodLinkNest "SilkRowModel$Tray" (47 : Nat) ({ cls := "SilkRowModel", name := "up", desc := "(II)I" } : Jvm.MethodName) "SilkRowModel") ∈ lw_tbl := lw_at lw_m6 54 rfl
theorem q1300 : (Jvm.Cond.methodLink "SilkRowModel$Tray" (66 : Nat) ({ cls := "SilkRowModel$Tray", name := "die", desc := "(I)I" } : Jvm.MethodName)) ∈ lw_all := lw_g (lw_at lw_m6 57 rfl) rfl
theorem q1301 : (Jvm.Cond.instanceMethod ({ cls := "SilkRowModel$Tray", name := "die", desc := "(I)I" } : Jvm.MethodName)) ∈ lw_all := lw_g (lw_at lw_m6 58 rfl) rfl
theorem q1302 : (Jvm.Cond.selects "SilkRowModel$Tray" ({ cls := "SilkRowModel$Tray", name := "die", desc := "(I)I" } : Jvm.MethodName) ({ cls := "SilkRowModel$Tray", name := "die", desc := "(I)I" } : Jvm.MethodName)) ∈ lw_all := lw_g (lw_at lw_m6 59 rfl) rfl
theorem q1303 : (Jvm.Cond.code ({ cls := "SilkRowModel$Tray", name := "die", desc := "(I)I" } : Jvm.MethodName) prog_15_method_4_code (3 : Nat) (Option.some Jvm.ClassFile.FieldType.int)) ∈ lw_all := lw_g (lw_at lw_m6 60 rfl) rfl
theorem q1304 : (Jvm.Cond.methodLink "SilkRowModel$Tray" (51 : Nat) ({ cls := "java/lang/Math", name := "min", desc := "(II)I" } : Jvm.MethodName)) ∈ lw_all := lw_g (lw_at lw_m6 61 rfl) rfl
theorem q1305 : (Jvm.Cond.methodLink "SilkRowModel$Tray" (63 : Nat) ({ cls := "java/lang/Math", name := "max", desc := "(II)I" } : Jvm.MethodName)) ∈ lw_all := lw_g (lw_at lw_m6 62 rfl) rfl
theorem q1365 : (Jvm.Cond.instanceMethod ({ cls := "SilkRowModel$Tray", name := "clean", desc := "()I" } : Jvm.MethodName)) ∈ lw_all := lw_g (lw_at lw_m6 122 rfl) rfl
theorem q1366 : (Jvm.Cond.selects "SilkRowModel$Tray" ({ cls := "SilkRowModel$Tray", name := "clean", desc := "()I" } : Jvm.MethodName) ({ cls := "SilkRowModel$Tray", name := "clean", desc := "()I" } : Jvm.MethodName)) ∈ lw_all := lw_g (lw_at lw_m6 123 rfl) rfl
theorem q1367 : (Jvm.Cond.code ({ cls := "SilkRowModel$Tray", name := "clean", desc := "()I" } : Jvm.MethodName) prog_15_method_8_code (1 : Nat) (Option.some Jvm.ClassFile.FieldType.int)) ∈ lw_all := lw_g (lw_at lw_m6 124 rfl) rfl
theorem q1373 : (Jvm.Cond.instanceMethod ({ cls := "SilkRowModel$Tray", name := "copy", desc := "()LSilkRowModel$Tray;" } : Jvm.MethodName)) ∈ lw_all := lw_g (lw_at lw_m6 130 rfl) rfl
theorem q1374 : (Jvm.Cond.selects "SilkRowModel$Tray" ({ cls := "SilkRowModel$Tray", name := "copy", desc := "()LSilkRowModel$Tray;" } : Jvm.MethodName) ({ cls := "SilkRowModel$Tray", name := "copy", desc := "()LSilkRowModel$Tray;" } : Jvm.MethodName)) ∈ lw_all := lw_g (lw_at lw_m6 131 rfl) rfl
theorem q1375 : (Jvm.Cond.code ({ cls := "SilkRowModel$Tray", name := "copy", desc := "()LSilkRowModel$Tray;" } : Jvm.MethodName) prog_15_method_2_code (2 : Nat) (Option.some (Jvm.ClassFile.FieldType.object "SilkRowModel$Tray"))) ∈ lw_all := lw_g (lw_at lw_m6 132 rfl) rfl
theorem q1376 : (Jvm.Cond.classLink "SilkRowModel$Tray" (10 : Nat) "SilkRowModel$Tray") ∈ lw_all := lw_g (lw_at lw_m6 133 rfl) rfl
theorem q1377 : (Jvm.Cond.methodLink "SilkRowModel$Tray" (15 : Nat) ({ cls := "SilkRowModel$Tray", name := "<init>", desc := "()V" } : Jvm.MethodName)) ∈ lw_all := lw_g (lw_at lw_m6 134 rfl) rfl
theorem q1674 : (Jvm.Cond.castable "SilkRowModel$Tray" "java/lang/Object") ∈ lw_tbl := lw_at lw_m7 191 rfl
theorem in_X7 : ∀ w ∈ wsX70, w ∈ lw_all := lw_in wsX70 [1157, 1159, 1161, 1163, 1165, 1167, 1169, 1171, 1173, 1175, 1177] (by decide +kernel) (by decide +kernel)
/-! SilkRow$Plot -/
set_option maxRecDepth 100000
def RX8 : String := "SilkRow$Plot"
def TX8 : u_T := fun k => match k with
  | 0 => ("SilkRow$Plot", "area", "I", true)
  | 1 => ("SilkRow$Plot", "rest", "I", false)
  | _ => ("SilkRow$Plot", "leaf", "[I", true)
def tyX8 : Nat → FieldType := fun k => match k with
  | 0 => .int
  | 1 => .int
  | _ => .array .int
abbrev wsX80 : List Cond := u_ws RX8 TX8 3
theorem nmX8 : ∀ a, a < 3 → ∀ b, b < 3 → a ≠ b → (TX8 a).2.1 ≠ (TX8 b).2.1 := by decide +kernel
theorem tyX8_ok : ∀ k, k < 3 → parseFieldDescriptor (TX8 k).2.2.1 = some (tyX8 k) := by decide +kernel
abbrev cX8_init : ByteArray := prog_5_method_1_code
def yX8_init : MethodName := ⟨RX8, "<init>", "(I)V"⟩
def dkwX8_init_0 : List UInt8 := [42, 183, 0, 3, 42, 7, 188, 10, 181, 0, 9, 42, 27, 181, 0, 15, 177]
abbrev dktX8_init_0 : List UInt8 := dkwX8_init_0 ++ []
theorem dksX8_init_0 : cX8_init.data.toList.drop 0 = dktX8_init_0 := by decide +kernel
theorem dX8_init_0 : decode cX8_init 0 = .ok (.aload_n 0, 1) := dk_42 (dk_at dksX8_init_0 0 rfl rfl)
theorem dX8_init_1 : decode cX8_init 1 = .ok (.invokespecial 3, 3) := dk_183 0 3 (dk_at dksX8_init_0 1 rfl rfl)
theorem dX8_init_4 : decode cX8_init 4 = .ok (.aload_n 0, 1) := dk_42 (dk_at dksX8_init_0 4 rfl rfl)
theorem dX8_init_5 : decode cX8_init 5 = .ok (.iconst 4, 1) := dk_7 (dk_at dksX8_init_0 5 rfl rfl)
theorem dX8_init_6 : decode cX8_init 6 = .ok (.newarray .int, 2) := dk_188_10 (dk_at dksX8_init_0 6 rfl rfl)
theorem dX8_init_8 : decode cX8_init 8 = .ok (.putfield 9, 3) := dk_181 0 9 (dk_at dksX8_init_0 8 rfl rfl)
theorem dX8_init_11 : decode cX8_init 11 = .ok (.aload_n 0, 1) := dk_42 (dk_at dksX8_init_0 11 rfl rfl)
theorem dX8_init_12 : decode cX8_init 12 = .ok (.iload_n 1, 1) := dk_27 (dk_at dksX8_init_0 12 rfl rfl)
theorem dX8_init_13 : decode cX8_init 13 = .ok (.putfield 15, 3) := dk_181 0 15 (dk_at dksX8_init_0 13 rfl rfl)
theorem dX8_init_16 : decode cX8_init 16 = .ok (.return_, 1) := dk_177 (dk_at dksX8_init_0 16 rfl rfl)
abbrev cX8_pass : ByteArray := prog_5_method_2_code
def yX8_pass : MethodName := ⟨RX8, "pass", "(I)V"⟩
def dkwX8_pass_3 : List UInt8 := [42, 180, 0, 15, 27, 104, 79, 177]
abbrev dktX8_pass_3 : List UInt8 := dkwX8_pass_3 ++ []
def dkwX8_pass_2 : List UInt8 := [42, 180, 0, 9, 4, 46, 79, 42, 180, 0, 9, 4, 42, 180, 0, 9, 3, 46, 79, 42, 180, 0, 9, 3]
abbrev dktX8_pass_2 : List UInt8 := dkwX8_pass_2 ++ dktX8_pass_3
def dkwX8_pass_1 : List UInt8 := [16, 99, 42, 180, 0, 9, 6, 46, 42, 180, 0, 9, 5, 46, 96, 184, 0, 22, 79, 42, 180, 0, 9, 5]
abbrev dktX8_pass_1 : List UInt8 := dkwX8_pass_1 ++ dktX8_pass_2
def dkwX8_pass_0 : List UInt8 := [42, 180, 0, 19, 158, 0, 14, 42, 89, 180, 0, 19, 4, 100, 181, 0, 19, 177, 42, 180, 0, 9, 6]
abbrev dktX8_pass_0 : List UInt8 := dkwX8_pass_0 ++ dktX8_pass_1
theorem dksX8_pass_0 : cX8_pass.data.toList.drop 0 = dktX8_pass_0 := by decide +kernel
theorem dksX8_pass_1 : cX8_pass.data.toList.drop 23 = dktX8_pass_1 := dk_seg dksX8_pass_0 23 rfl rfl
theorem dksX8_pass_2 : cX8_pass.data.toList.drop 47 = dktX8_pass_2 := dk_seg dksX8_pass_1 24 rfl rfl
theorem dksX8_pass_3 : cX8_pass.data.toList.drop 71 = dktX8_pass_3 := dk_seg dksX8_pass_2 24 rfl rfl
theorem dX8_pass_0 : decode cX8_pass 0 = .ok (.aload_n 0, 1) := dk_42 (dk_at dksX8_pass_0 0 rfl rfl)
theorem dX8_pass_1 : decode cX8_pass 1 = .ok (.getfield 19, 3) := dk_180 0 19 (dk_at dksX8_pass_0 1 rfl rfl)
theorem dX8_pass_4 : decode cX8_pass 4 = .ok (.ifCond .le 14, 3) := dk_158 0 14 (dk_at dksX8_pass_0 4 rfl rfl)
theorem dX8_pass_7 : decode cX8_pass 7 = .ok (.aload_n 0, 1) := dk_42 (dk_at dksX8_pass_0 7 rfl rfl)
theorem dX8_pass_8 : decode cX8_pass 8 = .ok (.dup, 1) := dk_89 (dk_at dksX8_pass_0 8 rfl rfl)
theorem dX8_pass_9 : decode cX8_pass 9 = .ok (.getfield 19, 3) := dk_180 0 19 (dk_at dksX8_pass_0 9 rfl rfl)
theorem dX8_pass_12 : decode cX8_pass 12 = .ok (.iconst 1, 1) := dk_4 (dk_at dksX8_pass_0 12 rfl rfl)
theorem dX8_pass_13 : decode cX8_pass 13 = .ok (.isub, 1) := dk_100 (dk_at dksX8_pass_0 13 rfl rfl)
theorem dX8_pass_14 : decode cX8_pass 14 = .ok (.putfield 19, 3) := dk_181 0 19 (dk_at dksX8_pass_0 14 rfl rfl)
theorem dX8_pass_17 : decode cX8_pass 17 = .ok (.return_, 1) := dk_177 (dk_at dksX8_pass_0 17 rfl rfl)
theorem dX8_pass_18 : decode cX8_pass 18 = .ok (.aload_n 0, 1) := dk_42 (dk_at dksX8_pass_0 18 rfl rfl)
theorem dX8_pass_19 : decode cX8_pass 19 = .ok (.getfield 9, 3) := dk_180 0 9 (dk_at dksX8_pass_0 19 rfl rfl)
theorem dX8_pass_22 : decode cX8_pass 22 = .ok (.iconst 3, 1) := dk_6 (dk_at dksX8_pass_0 22 rfl rfl)
theorem dX8_pass_23 : decode cX8_pass 23 = .ok (.bipush 99, 2) := dk_16 99 (dk_at dksX8_pass_1 0 rfl rfl)
theorem dX8_pass_25 : decode cX8_pass 25 = .ok (.aload_n 0, 1) := dk_42 (dk_at dksX8_pass_1 2 rfl rfl)
theorem dX8_pass_26 : decode cX8_pass 26 = .ok (.getfield 9, 3) := dk_180 0 9 (dk_at dksX8_pass_1 3 rfl rfl)
theorem dX8_pass_29 : decode cX8_pass 29 = .ok (.iconst 3, 1) := dk_6 (dk_at dksX8_pass_1 6 rfl rfl)
theorem dX8_pass_30 : decode cX8_pass 30 = .ok (.iaload, 1) := dk_46 (dk_at dksX8_pass_1 7 rfl rfl)
theorem dX8_pass_31 : decode cX8_pass 31 = .ok (.aload_n 0, 1) := dk_42 (dk_at dksX8_pass_1 8 rfl rfl)
theorem dX8_pass_32 : decode cX8_pass 32 = .ok (.getfield 9, 3) := dk_180 0 9 (dk_at dksX8_pass_1 9 rfl rfl)
theorem dX8_pass_35 : decode cX8_pass 35 = .ok (.iconst 2, 1) := dk_5 (dk_at dksX8_pass_1 12 rfl rfl)
theorem dX8_pass_36 : decode cX8_pass 36 = .ok (.iaload, 1) := dk_46 (dk_at dksX8_pass_1 13 rfl rfl)
theorem dX8_pass_37 : decode cX8_pass 37 = .ok (.iadd, 1) := dk_96 (dk_at dksX8_pass_1 14 rfl rfl)
theorem dX8_pass_38 : decode cX8_pass 38 = .ok (.invokestatic 22, 3) := dk_184 0 22 (dk_at dksX8_pass_1 15 rfl rfl)
theorem dX8_pass_41 : decode cX8_pass 41 = .ok (.iastore, 1) := dk_79 (dk_at dksX8_pass_1 18 rfl rfl)
theorem dX8_pass_42 : decode cX8_pass 42 = .ok (.aload_n 0, 1) := dk_42 (dk_at dksX8_pass_1 19 rfl rfl)
theorem dX8_pass_43 : decode cX8_pass 43 = .ok (.getfield 9, 3) := dk_180 0 9 (dk_at dksX8_pass_1 20 rfl rfl)
theorem dX8_pass_46 : decode cX8_pass 46 = .ok (.iconst 2, 1) := dk_5 (dk_at dksX8_pass_1 23 rfl rfl)
theorem dX8_pass_47 : decode cX8_pass 47 = .ok (.aload_n 0, 1) := dk_42 (dk_at dksX8_pass_2 0 rfl rfl)
theorem dX8_pass_48 : decode cX8_pass 48 = .ok (.getfield 9, 3) := dk_180 0 9 (dk_at dksX8_pass_2 1 rfl rfl)
theorem dX8_pass_51 : decode cX8_pass 51 = .ok (.iconst 1, 1) := dk_4 (dk_at dksX8_pass_2 4 rfl rfl)
theorem dX8_pass_52 : decode cX8_pass 52 = .ok (.iaload, 1) := dk_46 (dk_at dksX8_pass_2 5 rfl rfl)
theorem dX8_pass_53 : decode cX8_pass 53 = .ok (.iastore, 1) := dk_79 (dk_at dksX8_pass_2 6 rfl rfl)
theorem dX8_pass_54 : decode cX8_pass 54 = .ok (.aload_n 0, 1) := dk_42 (dk_at dksX8_pass_2 7 rfl rfl)
theorem dX8_pass_55 : decode cX8_pass 55 = .ok (.getfield 9, 3) := dk_180 0 9 (dk_at dksX8_pass_2 8 rfl rfl)
theorem dX8_pass_58 : decode cX8_pass 58 = .ok (.iconst 1, 1) := dk_4 (dk_at dksX8_pass_2 11 rfl rfl)
theorem dX8_pass_59 : decode cX8_pass 59 = .ok (.aload_n 0, 1) := dk_42 (dk_at dksX8_pass_2 12 rfl rfl)
theorem dX8_pass_60 : decode cX8_pass 60 = .ok (.getfield 9, 3) := dk_180 0 9 (dk_at dksX8_pass_2 13 rfl rfl)
theorem dX8_pass_63 : decode cX8_pass 63 = .ok (.iconst 0, 1) := dk_3 (dk_at dksX8_pass_2 16 rfl rfl)
theorem dX8_pass_64 : decode cX8_pass 64 = .ok (.iaload, 1) := dk_46 (dk_at dksX8_pass_2 17 rfl rfl)
theorem dX8_pass_65 : decode cX8_pass 65 = .ok (.iastore, 1) := dk_79 (dk_at dksX8_pass_2 18 rfl rfl)
theorem dX8_pass_66 : decode cX8_pass 66 = .ok (.aload_n 0, 1) := dk_42 (dk_at dksX8_pass_2 19 rfl rfl)
theorem dX8_pass_67 : decode cX8_pass 67 = .ok (.getfield 9, 3) := dk_180 0 9 (dk_at dksX8_pass_2 20 rfl rfl)
theorem dX8_pass_70 : decode cX8_pass 70 = .ok (.iconst 0, 1) := dk_3 (dk_at dksX8_pass_2 23 rfl rfl)
theorem dX8_pass_71 : decode cX8_pass 71 = .ok (.aload_n 0, 1) := dk_42 (dk_at dksX8_pass_3 0 rfl rfl)
theorem dX8_pass_72 : decode cX8_pass 72 = .ok (.getfield 15, 3) := dk_180 0 15 (dk_at dksX8_pass_3 1 rfl rfl)
theorem dX8_pass_75 : decode cX8_pass 75 = .ok (.iload_n 1, 1) := dk_27 (dk_at dksX8_pass_3 4 rfl rfl)
theorem dX8_pass_76 : decode cX8_pass 76 = .ok (.imul, 1) := dk_104 (dk_at dksX8_pass_3 5 rfl rfl)
theorem dX8_pass_77 : decode cX8_pass 77 = .ok (.iastore, 1) := dk_79 (dk_at dksX8_pass_3 6 rfl rfl)
theorem dX8_pass_78 : decode cX8_pass 78 = .ok (.return_, 1) := dk_177 (dk_at dksX8_pass_3 7 rfl rfl)
abbrev cX8_pick : ByteArray := prog_5_method_3_code
def yX8_pick : MethodName := ⟨RX8, "pick", "(I)I"⟩
def dkwX8_pick_4 : List UInt8 := [160, 0, 7, 5, 167, 0, 4, 4, 104, 96, 54, 4, 132, 7, 1, 167, 255, 184, 21, 4, 172]
abbrev dktX8_pick_4 : List UInt8 := dkwX8_pick_4 ++ []
def dkwX8_pick_3 : List UInt8 := [21, 9, 100, 79, 29, 21, 9, 100, 62, 21, 4, 21, 9, 21, 8, 4, 159, 0, 9, 21, 8, 5]
abbrev dktX8_pick_3 : List UInt8 := dkwX8_pick_3 ++ dktX8_pick_4
def dkwX8_pick_2 : List UInt8 := [46, 54, 8, 29, 42, 180, 0, 9, 21, 8, 46, 184, 0, 22, 54, 9, 42, 180, 0, 9, 21, 8, 92, 46]
abbrev dktX8_pick_2 : List UInt8 := dkwX8_pick_2 ++ dktX8_pick_3
def dkwX8_pick_1 : List UInt8 := [54, 4, 44, 58, 5, 25, 5, 190, 54, 6, 3, 54, 7, 21, 7, 21, 6, 162, 0, 71, 25, 5, 21, 7]
abbrev dktX8_pick_1 : List UInt8 := dkwX8_pick_1 ++ dktX8_pick_2
def dkwX8_pick_0 : List UInt8 := [7, 188, 10, 89, 3, 5, 79, 89, 4, 4, 79, 89, 5, 6, 79, 89, 6, 3, 79, 77, 27, 62, 3]
abbrev dktX8_pick_0 : List UInt8 := dkwX8_pick_0 ++ dktX8_pick_1
theorem dksX8_pick_0 : cX8_pick.data.toList.drop 0 = dktX8_pick_0 := by decide +kernel
theorem dksX8_pick_1 : cX8_pick.data.toList.drop 23 = dktX8_pick_1 := dk_seg dksX8_pick_0 23 rfl rfl
theorem dksX8_pick_2 : cX8_pick.data.toList.drop 47 = dktX8_pick_2 := dk_seg dksX8_pick_1 24 rfl rfl
theorem dksX8_pick_3 : cX8_pick.data.toList.drop 71 = dktX8_pick_3 := dk_seg dksX8_pick_2 24 rfl rfl
theorem dksX8_pick_4 : cX8_pick.data.toList.drop 93 = dktX8_pick_4 := dk_seg dksX8_pick_3 22 rfl rfl
theorem dX8_pick_0 : decode cX8_pick 0 = .ok (.iconst 4, 1) := dk_7 (dk_at dksX8_pick_0 0 rfl rfl)
theorem dX8_pick_1 : decode cX8_pick 1 = .ok (.newarray .int, 2) := dk_188_10 (dk_at dksX8_pick_0 1 rfl rfl)
theorem dX8_pick_3 : decode cX8_pick 3 = .ok (.dup, 1) := dk_89 (dk_at dksX8_pick_0 3 rfl rfl)
theorem dX8_pick_4 : decode cX8_pick 4 = .ok (.iconst 0, 1) := dk_3 (dk_at dksX8_pick_0 4 rfl rfl)
theorem dX8_pick_5 : decode cX8_pick 5 = .ok (.iconst 2, 1) := dk_5 (dk_at dksX8_pick_0 5 rfl rfl)
theorem dX8_pick_6 : decode cX8_pick 6 = .ok (.iastore, 1) := dk_79 (dk_at dksX8_pick_0 6 rfl rfl)
theorem dX8_pick_7 : decode cX8_pick 7 = .ok (.dup, 1) := dk_89 (dk_at dksX8_pick_0 7 rfl rfl)
theorem dX8_pick_8 : decode cX8_pick 8 = .ok (.iconst 1, 1) := dk_4 (dk_at dksX8_pick_0 8 rfl rfl)
theorem dX8_pick_9 : decode cX8_pick 9 = .ok (.iconst 1, 1) := dk_4 (dk_at dksX8_pick_0 9 rfl rfl)
theorem dX8_pick_10 : decode cX8_pick 10 = .ok (.iastore, 1) := dk_79 (dk_at dksX8_pick_0 10 rfl rfl)
theorem dX8_pick_11 : decode cX8_pick 11 = .ok (.dup, 1) := dk_89 (dk_at dksX8_pick_0 11 rfl rfl)
theorem dX8_pick_12 : decode cX8_pick 12 = .ok (.iconst 2, 1) := dk_5 (dk_at dksX8_pick_0 12 rfl rfl)
theorem dX8_pick_13 : decode cX8_pick 13 = .ok (.iconst 3, 1) := dk_6 (dk_at dksX8_pick_0 13 rfl rfl)
theorem dX8_pick_14 : decode cX8_pick 14 = .ok (.iastore, 1) := dk_79 (dk_at dksX8_pick_0 14 rfl rfl)
theorem dX8_pick_15 : decode cX8_pick 15 = .ok (.dup, 1) := dk_89 (dk_at dksX8_pick_0 15 rfl rfl)
theorem dX8_pick_16 : decode cX8_pick 16 = .ok (.iconst 3, 1) := dk_6 (dk_at dksX8_pick_0 16 rfl rfl)
theorem dX8_pick_17 : decode cX8_pick 17 = .ok (.iconst 0, 1) := dk_3 (dk_at dksX8_pick_0 17 rfl rfl)
theorem dX8_pick_18 : decode cX8_pick 18 = .ok (.iastore, 1) := dk_79 (dk_at dksX8_pick_0 18 rfl rfl)
theorem dX8_pick_19 : decode cX8_pick 19 = .ok (.astore_n 2, 1) := dk_77 (dk_at dksX8_pick_0 19 rfl rfl)
theorem dX8_pick_20 : decode cX8_pick 20 = .ok (.iload_n 1, 1) := dk_27 (dk_at dksX8_pick_0 20 rfl rfl)
theorem dX8_pick_21 : decode cX8_pick 21 = .ok (.istore_n 3, 1) := dk_62 (dk_at dksX8_pick_0 21 rfl rfl)
theorem dX8_pick_22 : decode cX8_pick 22 = .ok (.iconst 0, 1) := dk_3 (dk_at dksX8_pick_0 22 rfl rfl)
theorem dX8_pick_23 : decode cX8_pick 23 = .ok (.istore 4, 2) := dk_54 4 (dk_at dksX8_pick_1 0 rfl rfl)
theorem dX8_pick_25 : decode cX8_pick 25 = .ok (.aload_n 2, 1) := dk_44 (dk_at dksX8_pick_1 2 rfl rfl)
theorem dX8_pick_26 : decode cX8_pick 26 = .ok (.astore 5, 2) := dk_58 5 (dk_at dksX8_pick_1 3 rfl rfl)
theorem dX8_pick_28 : decode cX8_pick 28 = .ok (.aload 5, 2) := dk_25 5 (dk_at dksX8_pick_1 5 rfl rfl)
theorem dX8_pick_30 : decode cX8_pick 30 = .ok (.arraylength, 1) := dk_190 (dk_at dksX8_pick_1 7 rfl rfl)
theorem dX8_pick_31 : decode cX8_pick 31 = .ok (.istore 6, 2) := dk_54 6 (dk_at dksX8_pick_1 8 rfl rfl)
theorem dX8_pick_33 : decode cX8_pick 33 = .ok (.iconst 0, 1) := dk_3 (dk_at dksX8_pick_1 10 rfl rfl)
theorem dX8_pick_34 : decode cX8_pick 34 = .ok (.istore 7, 2) := dk_54 7 (dk_at dksX8_pick_1 11 rfl rfl)
theorem dX8_pick_36 : decode cX8_pick 36 = .ok (.iload 7, 2) := dk_21 7 (dk_at dksX8_pick_1 13 rfl rfl)
theorem dX8_pick_38 : decode cX8_pick 38 = .ok (.iload 6, 2) := dk_21 6 (dk_at dksX8_pick_1 15 rfl rfl)
theorem dX8_pick_40 : decode cX8_pick 40 = .ok (.if_icmp .ge 71, 3) := dk_162 0 71 (dk_at dksX8_pick_1 17 rfl rfl)
theorem dX8_pick_43 : decode cX8_pick 43 = .ok (.aload 5, 2) := dk_25 5 (dk_at dksX8_pick_1 20 rfl rfl)
theorem dX8_pick_45 : decode cX8_pick 45 = .ok (.iload 7, 2) := dk_21 7 (dk_at dksX8_pick_1 22 rfl rfl)
theorem dX8_pick_47 : decode cX8_pick 47 = .ok (.iaload, 1) := dk_46 (dk_at dksX8_pick_2 0 rfl rfl)
theorem dX8_pick_48 : decode cX8_pick 48 = .ok (.istore 8, 2) := dk_54 8 (dk_at dksX8_pick_2 1 rfl rfl)
theorem dX8_pick_50 : decode cX8_pick 50 = .ok (.iload_n 3, 1) := dk_29 (dk_at dksX8_pick_2 3 rfl rfl)
theorem dX8_pick_51 : decode cX8_pick 51 = .ok (.aload_n 0, 1) := dk_42 (dk_at dksX8_pick_2 4 rfl rfl)
theorem dX8_pick_52 : decode cX8_pick 52 = .ok (.getfield 9, 3) := dk_180 0 9 (dk_at dksX8_pick_2 5 rfl rfl)
theorem dX8_pick_55 : decode cX8_pick 55 = .ok (.iload 8, 2) := dk_21 8 (dk_at dksX8_pick_2 8 rfl rfl)
theorem dX8_pick_57 : decode cX8_pick 57 = .ok (.iaload, 1) := dk_46 (dk_at dksX8_pick_2 10 rfl rfl)
theorem dX8_pick_58 : decode cX8_pick 58 = .ok (.invokestatic 22, 3) := dk_184 0 22 (dk_at dksX8_pick_2 11 rfl rfl)
theorem dX8_pick_61 : decode cX8_pick 61 = .ok (.istore 9, 2) := dk_54 9 (dk_at dksX8_pick_2 14 rfl rfl)
theorem dX8_pick_63 : decode cX8_pick 63 = .ok (.aload_n 0, 1) := dk_42 (dk_at dksX8_pick_2 16 rfl rfl)
theorem dX8_pick_64 : decode cX8_pick 64 = .ok (.getfield 9, 3) := dk_180 0 9 (dk_at dksX8_pick_2 17 rfl rfl)
theorem dX8_pick_67 : decode cX8_pick 67 = .ok (.iload 8, 2) := dk_21 8 (dk_at dksX8_pick_2 20 rfl rfl)
theorem dX8_pick_69 : decode cX8_pick 69 = .ok (.dup2, 1) := dk_92 (dk_at dksX8_pick_2 22 rfl rfl)
theorem dX8_pick_70 : decode cX8_pick 70 = .ok (.iaload, 1) := dk_46 (dk_at dksX8_pick_2 23 rfl rfl)
theorem dX8_pick_71 : decode cX8_pick 71 = .ok (.iload 9, 2) := dk_21 9 (dk_at dksX8_pick_3 0 rfl rfl)
theorem dX8_pick_73 : decode cX8_pick 73 = .ok (.isub, 1) := dk_100 (dk_at dksX8_pick_3 2 rfl rfl)
theorem dX8_pick_74 : decode cX8_pick 74 = .ok (.iastore, 1) := dk_79 (dk_at dksX8_pick_3 3 rfl rfl)
theorem dX8_pick_75 : decode cX8_pick 75 = .ok (.iload_n 3, 1) := dk_29 (dk_at dksX8_pick_3 4 rfl rfl)
theorem dX8_pick_76 : decode cX8_pick 76 = .ok (.iload 9, 2) := dk_21 9 (dk_at dksX8_pick_3 5 rfl rfl)
theorem dX8_pick_78 : decode cX8_pick 78 = .ok (.isub, 1) := dk_100 (dk_at dksX8_pick_3 7 rfl rfl)
theorem dX8_pick_79 : decode cX8_pick 79 = .ok (.istore_n 3, 1) := dk_62 (dk_at dksX8_pick_3 8 rfl rfl)
theorem dX8_pick_80 : decode cX8_pick 80 = .ok (.iload 4, 2) := dk_21 4 (dk_at dksX8_pick_3 9 rfl rfl)
theorem dX8_pick_82 : decode cX8_pick 82 = .ok (.iload 9, 2) := dk_21 9 (dk_at dksX8_pick_3 11 rfl rfl)
theorem dX8_pick_84 : decode cX8_pick 84 = .ok (.iload 8, 2) := dk_21 8 (dk_at dksX8_pick_3 13 rfl rfl)
theorem dX8_pick_86 : decode cX8_pick 86 = .ok (.iconst 1, 1) := dk_4 (dk_at dksX8_pick_3 15 rfl rfl)
theorem dX8_pick_87 : decode cX8_pick 87 = .ok (.if_icmp .eq 9, 3) := dk_159 0 9 (dk_at dksX8_pick_3 16 rfl rfl)
theorem dX8_pick_90 : decode cX8_pick 90 = .ok (.iload 8, 2) := dk_21 8 (dk_at dksX8_pick_3 19 rfl rfl)
theorem dX8_pick_92 : decode cX8_pick 92 = .ok (.iconst 2, 1) := dk_5 (dk_at dksX8_pick_3 21 rfl rfl)
theorem dX8_pick_93 : decode cX8_pick 93 = .ok (.if_icmp .ne 7, 3) := dk_160 0 7 (dk_at dksX8_pick_4 0 rfl rfl)
theorem dX8_pick_96 : decode cX8_pick 96 = .ok (.iconst 2, 1) := dk_5 (dk_at dksX8_pick_4 3 rfl rfl)
theorem dX8_pick_97 : decode cX8_pick 97 = .ok (.goto 4, 3) := dk_167 0 4 (dk_at dksX8_pick_4 4 rfl rfl)
theorem dX8_pick_100 : decode cX8_pick 100 = .ok (.iconst 1, 1) := dk_4 (dk_at dksX8_pick_4 7 rfl rfl)
theorem dX8_pick_101 : decode cX8_pick 101 = .ok (.imul, 1) := dk_104 (dk_at dksX8_pick_4 8 rfl rfl)
theorem dX8_pick_102 : decode cX8_pick 102 = .ok (.iadd, 1) := dk_96 (dk_at dksX8_pick_4 9 rfl rfl)
theorem dX8_pick_103 : decode cX8_pick 103 = .ok (.istore 4, 2) := dk_54 4 (dk_at dksX8_pick_4 10 rfl rfl)
theorem dX8_pick_105 : decode cX8_pick 105 = .ok (.iinc 7 1, 3) := dk_132 7 1 (dk_at dksX8_pick_4 12 rfl rfl)
theorem dX8_pick_108 : decode cX8_pick 108 = .ok (.goto (-72), 3) := dk_167 255 184 (dk_at dksX8_pick_4 15 rfl rfl)
theorem dX8_pick_111 : decode cX8_pick 111 = .ok (.iload 4, 2) := dk_21 4 (dk_at dksX8_pick_4 18 rfl rfl)
theorem dX8_pick_113 : decode cX8_pick 113 = .ok (.ireturn, 1) := dk_172 (dk_at dksX8_pick_4 20 rfl rfl)
abbrev cX8_prune : ByteArray := prog_5_method_4_code
def yX8_prune : MethodName := ⟨RX8, "prune", "()I"⟩
def dkwX8_prune_1 : List UInt8 := [79, 132, 2, 1, 167, 255, 232, 42, 7, 181, 0, 19, 27, 172]
abbrev dktX8_prune_1 : List UInt8 := dkwX8_prune_1 ++ []
def dkwX8_prune_0 : List UInt8 := [3, 60, 3, 61, 28, 7, 162, 0, 25, 27, 42, 180, 0, 9, 28, 46, 96, 60, 42, 180, 0, 9, 28, 3]
abbrev dktX8_prune_0 : List UInt8 := dkwX8_prune_0 ++ dktX8_prune_1
theorem dksX8_prune_0 : cX8_prune.data.toList.drop 0 = dktX8_prune_0 := by decide +kernel
theorem dksX8_prune_1 : cX8_prune.data.toList.drop 24 = dktX8_prune_1 := dk_seg dksX8_prune_0 24 rfl rfl
theorem dX8_prune_0 : decode cX8_prune 0 = .ok (.iconst 0, 1) := dk_3 (dk_at dksX8_prune_0 0 rfl rfl)
theorem dX8_prune_1 : decode cX8_prune 1 = .ok (.istore_n 1, 1) := dk_60 (dk_at dksX8_prune_0 1 rfl rfl)
theorem dX8_prune_2 : decode cX8_prune 2 = .ok (.iconst 0, 1) := dk_3 (dk_at dksX8_prune_0 2 rfl rfl)
theorem dX8_prune_3 : decode cX8_prune 3 = .ok (.istore_n 2, 1) := dk_61 (dk_at dksX8_prune_0 3 rfl rfl)
theorem dX8_prune_4 : decode cX8_prune 4 = .ok (.iload_n 2, 1) := dk_28 (dk_at dksX8_prune_0 4 rfl rfl)
theorem dX8_prune_5 : decode cX8_prune 5 = .ok (.iconst 4, 1) := dk_7 (dk_at dksX8_prune_0 5 rfl rfl)
theorem dX8_prune_6 : decode cX8_prune 6 = .ok (.if_icmp .ge 25, 3) := dk_162 0 25 (dk_at dksX8_prune_0 6 rfl rfl)
theorem dX8_prune_9 : decode cX8_prune 9 = .ok (.iload_n 1, 1) := dk_27 (dk_at dksX8_prune_0 9 rfl rfl)
theorem dX8_prune_10 : decode cX8_prune 10 = .ok (.aload_n 0, 1) := dk_42 (dk_at dksX8_prune_0 10 rfl rfl)
theorem dX8_prune_11 : decode cX8_prune 11 = .ok (.getfield 9, 3) := dk_180 0 9 (dk_at dksX8_prune_0 11 rfl rfl)
theorem dX8_prune_14 : decode cX8_prune 14 = .ok (.iload_n 2, 1) := dk_28 (dk_at dksX8_prune_0 14 rfl rfl)
theorem dX8_prune_15 : decode cX8_prune 15 = .ok (.iaload, 1) := dk_46 (dk_at dksX8_prune_0 15 rfl rfl)
theorem dX8_prune_16 : decode cX8_prune 16 = .ok (.iadd, 1) := dk_96 (dk_at dksX8_prune_0 16 rfl rfl)
theorem dX8_prune_17 : decode cX8_prune 17 = .ok (.istore_n 1, 1) := dk_60 (dk_at dksX8_prune_0 17 rfl rfl)
theorem dX8_prune_18 : decode cX8_prune 18 = .ok (.aload_n 0, 1) := dk_42 (dk_at dksX8_prune_0 18 rfl rfl)
theorem dX8_prune_19 : decode cX8_prune 19 = .ok (.getfield 9, 3) := dk_180 0 9 (dk_at dksX8_prune_0 19 rfl rfl)
theorem dX8_prune_22 : decode cX8_prune 22 = .ok (.iload_n 2, 1) := dk_28 (dk_at dksX8_prune_0 22 rfl rfl)
theorem dX8_prune_23 : decode cX8_prune 23 = .ok (.iconst 0, 1) := dk_3 (dk_at dksX8_prune_0 23 rfl rfl)
theorem dX8_prune_24 : decode cX8_prune 24 = .ok (.iastore, 1) := dk_79 (dk_at dksX8_prune_1 0 rfl rfl)
theorem dX8_prune_25 : decode cX8_prune 25 = .ok (.iinc 2 1, 3) := dk_132 2 1 (dk_at dksX8_prune_1 1 rfl rfl)
theorem dX8_prune_28 : decode cX8_prune 28 = .ok (.goto (-24), 3) := dk_167 255 232 (dk_at dksX8_prune_1 4 rfl rfl)
theorem dX8_prune_31 : decode cX8_prune 31 = .ok (.aload_n 0, 1) := dk_42 (dk_at dksX8_prune_1 7 rfl rfl)
theorem dX8_prune_32 : decode cX8_prune 32 = .ok (.iconst 4, 1) := dk_7 (dk_at dksX8_prune_1 8 rfl rfl)
theorem dX8_prune_33 : decode cX8_prune 33 = .ok (.putfield 19, 3) := dk_181 0 19 (dk_at dksX8_prune_1 9 rfl rfl)
theorem dX8_prune_36 : decode cX8_prune 36 = .ok (.iload_n 1, 1) := dk_27 (dk_at dksX8_prune_1 12 rfl rfl)
theorem dX8_prune_37 : decode cX8_prune 37 = .ok (.ireturn, 1) := dk_172 (dk_at dksX8_prune_1 13 rfl rfl)
theorem q63 : (Jvm.Cond.initialized "SilkRow$Plot") ∈ lw_all := lw_g (lw_at lw_m1 20 rfl) rfl
theorem q168 : (Jvm.Cond.selects "SilkRow$Plot" ({ cls := "java/lang/Object", name := "getClass", desc := "()Ljava/lang/Class;" } : Jvm.MethodName) ({ cls := "java/lang/Object", name := "getClass", desc := "()Ljava/lang/Class;" } : Jvm.MethodName)) ∈ lw_all := lw_g (lw_at lw_m1 125 rfl) rfl
theorem q625 : (Jvm.Cond.selects "SilkRow$Plot" ({ cls := "java/lang/Object", name := "equals", desc := "(Ljava/lang/Object;)Z" } : Jvm.MethodName) ({ cls := "java/lang/Object", name := "equals", desc := "(Ljava/lang/Object;)Z" } : Jvm.MethodName)) ∈ lw_all := lw_g (lw_at lw_m3 102 rfl) rfl
theorem q751 : (Jvm.Cond.instantiable "SilkRow$Plot" (3 : Nat)) ∈ lw_all := lw_g (lw_at lw_m3 228 rfl) rfl
theorem q753 : (Jvm.Cond.instanceMethod ({ cls := "SilkRow$Plot", name := "<init>", desc := "(I)V" } : Jvm.MethodName)) ∈ lw_all := lw_g (lw_at lw_m3 230 rfl) rfl
theorem q754 : (Jvm.Cond.code ({ cls := "SilkRow$Plot", name := "<init>", desc := "(I)V" } : Jvm.MethodName) prog_5_method_1_code (2 : Nat) (Option.none : Option Jvm.ClassFile.FieldType)) ∈ lw_all := lw_g (lw_at lw_m3 231 rfl) rfl
theorem q755 : (Jvm.Cond.methodLink "SilkRow$Plot" (3 : Nat) ({ cls := "java/lang/Object", name := "<init>", desc := "()V" } : Jvm.MethodName)) ∈ lw_all := lw_g (lw_at lw_m3 232 rfl) rfl
theorem q756 : (Jvm.Cond.fieldLink "SilkRow$Plot" (15 : Nat) "SilkRow$Plot" "area" "I") ∈ lw_all := lw_g (lw_at lw_m3 233 rfl) rfl
theorem q758 : (Jvm.Cond.fieldLink "SilkRow$Plot" (19 : Nat) "SilkRow$Plot" "rest" "I") ∈ lw_all := lw_g (lw_at lw_m3 235 rfl) rfl
theorem q760 : (Jvm.Cond.fieldLink "SilkRow$Plot" (9 : Nat) "SilkRow$Plot" "leaf" "[I") ∈ lw_all := lw_g (lw_at lw_m3 237 rfl) rfl
theorem q762 : (Jvm.Cond.laysFinal "SilkRow$Plot" "SilkRow$Plot" "area" "I") ∈ lw_all := lw_g (lw_at lw_m3 239 rfl) rfl
theorem q763 : (Jvm.Cond.soleField "SilkRow$Plot" "area") ∈ lw_all := lw_g (lw_at lw_m4 0 rfl) rfl
theorem q764 : (Jvm.Cond.lays "SilkRow$Plot" "SilkRow$Plot" "rest" "I") ∈ lw_all := lw_g (lw_at lw_m4 1 rfl) rfl
theorem q765 : (Jvm.Cond.soleField "SilkRow$Plot" "rest") ∈ lw_all := lw_g (lw_at lw_m4 2 rfl) rfl
theorem q766 : (Jvm.Cond.laysFinal "SilkRow$Plot" "SilkRow$Plot" "leaf" "[I") ∈ lw_all := lw_g (lw_at lw_m4 3 rfl) rfl
theorem q767 : (Jvm.Cond.soleField "SilkRow$Plot" "leaf") ∈ lw_all := lw_g (lw_at lw_m4 4 rfl) rfl
theorem q768 : (Jvm.Cond.superclass "SilkRow$Plot" "java/lang/Object") ∈ lw_all := lw_g (lw_at lw_m4 5 rfl) rfl
theorem q781 : (Jvm.Cond.instanceMethod ({ cls := "SilkRow$Plot", name := "pass", desc := "(I)V" } : Jvm.MethodName)) ∈ lw_all := lw_g (lw_at lw_m4 18 rfl) rfl
theorem q782 : (Jvm.Cond.selects "SilkRow$Plot" ({ cls := "SilkRow$Plot", name := "pass", desc := "(I)V" } : Jvm.MethodName) ({ cls := "SilkRow$Plot", name := "pass", desc := "(I)V" } : Jvm.MethodName)) ∈ lw_all := lw_g (lw_at lw_m4 19 rfl) rfl
theorem q783 : (Jvm.Cond.code ({ cls := "SilkRow$Plot", name := "pass", desc := "(I)V" } : Jvm.MethodName) prog_5_method_2_code (2 : Nat) (Option.none : Option Jvm.ClassFile.FieldType)) ∈ lw_all := lw_g (lw_at lw_m4 20 rfl) rfl
theorem q784 : (Jvm.Cond.methodLink "SilkRow$Plot" (22 : Nat) ({ cls := "java/lang/Math", name := "min", desc := "(II)I" } : Jvm.MethodName)) ∈ lw_all := lw_g (lw_at lw_m4 21 rfl) rfl
theorem q871 : (Jvm.Cond.instanceMethod ({ cls := "SilkRow$Plot", name := "pick", desc := "(I)I" } : Jvm.MethodName)) ∈ lw_all := lw_g (lw_at lw_m4 108 rfl) rfl
theorem q872 : (Jvm.Cond.selects "SilkRow$Plot" ({ cls := "SilkRow$Plot", name := "pick", desc := "(I)I" } : Jvm.MethodName) ({ cls := "SilkRow$Plot", name := "pick", desc := "(I)I" } : Jvm.MethodName)) ∈ lw_all := lw_g (lw_at lw_m4 109 rfl) rfl
theorem q873 : (Jvm.Cond.code ({ cls := "SilkRow$Plot", name := "pick", desc := "(I)I" } : Jvm.MethodName) prog_5_method_3_code (10 : Nat) (Option.some Jvm.ClassFile.FieldType.int)) ∈ lw_all := lw_g (lw_at lw_m4 110 rfl) rfl
theorem q882 : (Jvm.Cond.instanceMethod ({ cls := "SilkRow$Plot", name := "prune", desc := "()I" } : Jvm.MethodName)) ∈ lw_all := lw_g (lw_at lw_m4 119 rfl) rfl
theorem q883 : (Jvm.Cond.selects "SilkRow$Plot" ({ cls := "SilkRow$Plot", name := "prune", desc := "()I" } : Jvm.MethodName) ({ cls := "SilkRow$Plot", name := "prune", desc := "()I" } : Jvm.MethodName)) ∈ lw_all := lw_g (lw_at lw_m4 120 rfl) rfl
theorem q884 : (Jvm.Cond.code ({ cls := "SilkRow$Plot", name := "prune", desc := "()I" } : Jvm.MethodName) prog_5_method_4_code (3 : Nat) (Option.some Jvm.ClassFile.FieldType.int)) ∈ lw_all := lw_g (lw_at lw_m4 121 rfl) rfl
theorem q1683 : (Jvm.Cond.castable "SilkRow$Plot" "java/lang/Object") ∈ lw_tbl := lw_at lw_m7 200 rfl
theorem in_X8 : ∀ w ∈ wsX80, w ∈ lw_all := lw_in wsX80 [762, 764, 766] (by decide +kernel) (by decide +kernel)
/-! SilkRowModel$Plot -/
set_option maxRecDepth 100000
def RX9 : String := "SilkRowModel$Plot"
def TX9 : u_T := fun k => match k with
  | 0 => ("SilkRowModel$Plot", "area", "I", true)
  | 1 => ("SilkRowModel$Plot", "rest", "I", false)
  | _ => ("SilkRowModel$Plot", "leaf", "[I", true)
def tyX9 : Nat → FieldType := fun k => match k with
  | 0 => .int
  | 1 => .int
  | _ => .array .int
abbrev wsX90 : List Cond := u_ws RX9 TX9 3
theorem nmX9 : ∀ a, a < 3 → ∀ b, b < 3 → a ≠ b → (TX9 a).2.1 ≠ (TX9 b).2.1 := by decide +kernel
theorem tyX9_ok : ∀ k, k < 3 → parseFieldDescriptor (TX9 k).2.2.1 = some (tyX9 k) := by decide +kernel
abbrev cX9_init : ByteArray := prog_13_method_1_code
def yX9_init : MethodName := ⟨RX9, "<init>", "(I)V"⟩
def dkwX9_init_0 : List UInt8 := [42, 183, 0, 3, 42, 7, 188, 10, 181, 0, 9, 42, 27, 181, 0, 15, 177]
abbrev dktX9_init_0 : List UInt8 := dkwX9_init_0 ++ []
theorem dksX9_init_0 : cX9_init.data.toList.drop 0 = dktX9_init_0 := by decide +kernel
theorem dX9_init_0 : decode cX9_init 0 = .ok (.aload_n 0, 1) := dk_42 (dk_at dksX9_init_0 0 rfl rfl)
theorem dX9_init_1 : decode cX9_init 1 = .ok (.invokespecial 3, 3) := dk_183 0 3 (dk_at dksX9_init_0 1 rfl rfl)
theorem dX9_init_4 : decode cX9_init 4 = .ok (.aload_n 0, 1) := dk_42 (dk_at dksX9_init_0 4 rfl rfl)
theorem dX9_init_5 : decode cX9_init 5 = .ok (.iconst 4, 1) := dk_7 (dk_at dksX9_init_0 5 rfl rfl)
theorem dX9_init_6 : decode cX9_init 6 = .ok (.newarray .int, 2) := dk_188_10 (dk_at dksX9_init_0 6 rfl rfl)
theorem dX9_init_8 : decode cX9_init 8 = .ok (.putfield 9, 3) := dk_181 0 9 (dk_at dksX9_init_0 8 rfl rfl)
theorem dX9_init_11 : decode cX9_init 11 = .ok (.aload_n 0, 1) := dk_42 (dk_at dksX9_init_0 11 rfl rfl)
theorem dX9_init_12 : decode cX9_init 12 = .ok (.iload_n 1, 1) := dk_27 (dk_at dksX9_init_0 12 rfl rfl)
theorem dX9_init_13 : decode cX9_init 13 = .ok (.putfield 15, 3) := dk_181 0 15 (dk_at dksX9_init_0 13 rfl rfl)
theorem dX9_init_16 : decode cX9_init 16 = .ok (.return_, 1) := dk_177 (dk_at dksX9_init_0 16 rfl rfl)
abbrev cX9_day : ByteArray := prog_13_method_2_code
def yX9_day : MethodName := ⟨RX9, "day", "(I)V"⟩
def dkwX9_day_3 : List UInt8 := [42, 180, 0, 15, 27, 104, 79, 177]
abbrev dktX9_day_3 : List UInt8 := dkwX9_day_3 ++ []
def dkwX9_day_2 : List UInt8 := [42, 180, 0, 9, 4, 46, 79, 42, 180, 0, 9, 4, 42, 180, 0, 9, 3, 46, 79, 42, 180, 0, 9, 3]
abbrev dktX9_day_2 : List UInt8 := dkwX9_day_2 ++ dktX9_day_3
def dkwX9_day_1 : List UInt8 := [16, 99, 42, 180, 0, 9, 6, 46, 42, 180, 0, 9, 5, 46, 96, 184, 0, 22, 79, 42, 180, 0, 9, 5]
abbrev dktX9_day_1 : List UInt8 := dkwX9_day_1 ++ dktX9_day_2
def dkwX9_day_0 : List UInt8 := [42, 180, 0, 19, 158, 0, 14, 42, 89, 180, 0, 19, 4, 100, 181, 0, 19, 177, 42, 180, 0, 9, 6]
abbrev dktX9_day_0 : List UInt8 := dkwX9_day_0 ++ dktX9_day_1
theorem dksX9_day_0 : cX9_day.data.toList.drop 0 = dktX9_day_0 := by decide +kernel
theorem dksX9_day_1 : cX9_day.data.toList.drop 23 = dktX9_day_1 := dk_seg dksX9_day_0 23 rfl rfl
theorem dksX9_day_2 : cX9_day.data.toList.drop 47 = dktX9_day_2 := dk_seg dksX9_day_1 24 rfl rfl
theorem dksX9_day_3 : cX9_day.data.toList.drop 71 = dktX9_day_3 := dk_seg dksX9_day_2 24 rfl rfl
theorem dX9_day_0 : decode cX9_day 0 = .ok (.aload_n 0, 1) := dk_42 (dk_at dksX9_day_0 0 rfl rfl)
theorem dX9_day_1 : decode cX9_day 1 = .ok (.getfield 19, 3) := dk_180 0 19 (dk_at dksX9_day_0 1 rfl rfl)
theorem dX9_day_4 : decode cX9_day 4 = .ok (.ifCond .le 14, 3) := dk_158 0 14 (dk_at dksX9_day_0 4 rfl rfl)
theorem dX9_day_7 : decode cX9_day 7 = .ok (.aload_n 0, 1) := dk_42 (dk_at dksX9_day_0 7 rfl rfl)
theorem dX9_day_8 : decode cX9_day 8 = .ok (.dup, 1) := dk_89 (dk_at dksX9_day_0 8 rfl rfl)
theorem dX9_day_9 : decode cX9_day 9 = .ok (.getfield 19, 3) := dk_180 0 19 (dk_at dksX9_day_0 9 rfl rfl)
theorem dX9_day_12 : decode cX9_day 12 = .ok (.iconst 1, 1) := dk_4 (dk_at dksX9_day_0 12 rfl rfl)
theorem dX9_day_13 : decode cX9_day 13 = .ok (.isub, 1) := dk_100 (dk_at dksX9_day_0 13 rfl rfl)
theorem dX9_day_14 : decode cX9_day 14 = .ok (.putfield 19, 3) := dk_181 0 19 (dk_at dksX9_day_0 14 rfl rfl)
theorem dX9_day_17 : decode cX9_day 17 = .ok (.return_, 1) := dk_177 (dk_at dksX9_day_0 17 rfl rfl)
theorem dX9_day_18 : decode cX9_day 18 = .ok (.aload_n 0, 1) := dk_42 (dk_at dksX9_day_0 18 rfl rfl)
theorem dX9_day_19 : decode cX9_day 19 = .ok (.getfield 9, 3) := dk_180 0 9 (dk_at dksX9_day_0 19 rfl rfl)
theorem dX9_day_22 : decode cX9_day 22 = .ok (.iconst 3, 1) := dk_6 (dk_at dksX9_day_0 22 rfl rfl)
theorem dX9_day_23 : decode cX9_day 23 = .ok (.bipush 99, 2) := dk_16 99 (dk_at dksX9_day_1 0 rfl rfl)
theorem dX9_day_25 : decode cX9_day 25 = .ok (.aload_n 0, 1) := dk_42 (dk_at dksX9_day_1 2 rfl rfl)
theorem dX9_day_26 : decode cX9_day 26 = .ok (.getfield 9, 3) := dk_180 0 9 (dk_at dksX9_day_1 3 rfl rfl)
theorem dX9_day_29 : decode cX9_day 29 = .ok (.iconst 3, 1) := dk_6 (dk_at dksX9_day_1 6 rfl rfl)
theorem dX9_day_30 : decode cX9_day 30 = .ok (.iaload, 1) := dk_46 (dk_at dksX9_day_1 7 rfl rfl)
theorem dX9_day_31 : decode cX9_day 31 = .ok (.aload_n 0, 1) := dk_42 (dk_at dksX9_day_1 8 rfl rfl)
theorem dX9_day_32 : decode cX9_day 32 = .ok (.getfield 9, 3) := dk_180 0 9 (dk_at dksX9_day_1 9 rfl rfl)
theorem dX9_day_35 : decode cX9_day 35 = .ok (.iconst 2, 1) := dk_5 (dk_at dksX9_day_1 12 rfl rfl)
theorem dX9_day_36 : decode cX9_day 36 = .ok (.iaload, 1) := dk_46 (dk_at dksX9_day_1 13 rfl rfl)
theorem dX9_day_37 : decode cX9_day 37 = .ok (.iadd, 1) := dk_96 (dk_at dksX9_day_1 14 rfl rfl)
theorem dX9_day_38 : decode cX9_day 38 = .ok (.invokestatic 22, 3) := dk_184 0 22 (dk_at dksX9_day_1 15 rfl rfl)
theorem dX9_day_41 : decode cX9_day 41 = .ok (.iastore, 1) := dk_79 (dk_at dksX9_day_1 18 rfl rfl)
theorem dX9_day_42 : decode cX9_day 42 = .ok (.aload_n 0, 1) := dk_42 (dk_at dksX9_day_1 19 rfl rfl)
theorem dX9_day_43 : decode cX9_day 43 = .ok (.getfield 9, 3) := dk_180 0 9 (dk_at dksX9_day_1 20 rfl rfl)
theorem dX9_day_46 : decode cX9_day 46 = .ok (.iconst 2, 1) := dk_5 (dk_at dksX9_day_1 23 rfl rfl)
theorem dX9_day_47 : decode cX9_day 47 = .ok (.aload_n 0, 1) := dk_42 (dk_at dksX9_day_2 0 rfl rfl)
theorem dX9_day_48 : decode cX9_day 48 = .ok (.getfield 9, 3) := dk_180 0 9 (dk_at dksX9_day_2 1 rfl rfl)
theorem dX9_day_51 : decode cX9_day 51 = .ok (.iconst 1, 1) := dk_4 (dk_at dksX9_day_2 4 rfl rfl)
theorem dX9_day_52 : decode cX9_day 52 = .ok (.iaload, 1) := dk_46 (dk_at dksX9_day_2 5 rfl rfl)
theorem dX9_day_53 : decode cX9_day 53 = .ok (.iastore, 1) := dk_79 (dk_at dksX9_day_2 6 rfl rfl)
theorem dX9_day_54 : decode cX9_day 54 = .ok (.aload_n 0, 1) := dk_42 (dk_at dksX9_day_2 7 rfl rfl)
theorem dX9_day_55 : decode cX9_day 55 = .ok (.getfield 9, 3) := dk_180 0 9 (dk_at dksX9_day_2 8 rfl rfl)
theorem dX9_day_58 : decode cX9_day 58 = .ok (.iconst 1, 1) := dk_4 (dk_at dksX9_day_2 11 rfl rfl)
theorem dX9_day_59 : decode cX9_day 59 = .ok (.aload_n 0, 1) := dk_42 (dk_at dksX9_day_2 12 rfl rfl)
theorem dX9_day_60 : decode cX9_day 60 = .ok (.getfield 9, 3) := dk_180 0 9 (dk_at dksX9_day_2 13 rfl rfl)
theorem dX9_day_63 : decode cX9_day 63 = .ok (.iconst 0, 1) := dk_3 (dk_at dksX9_day_2 16 rfl rfl)
theorem dX9_day_64 : decode cX9_day 64 = .ok (.iaload, 1) := dk_46 (dk_at dksX9_day_2 17 rfl rfl)
theorem dX9_day_65 : decode cX9_day 65 = .ok (.iastore, 1) := dk_79 (dk_at dksX9_day_2 18 rfl rfl)
theorem dX9_day_66 : decode cX9_day 66 = .ok (.aload_n 0, 1) := dk_42 (dk_at dksX9_day_2 19 rfl rfl)
theorem dX9_day_67 : decode cX9_day 67 = .ok (.getfield 9, 3) := dk_180 0 9 (dk_at dksX9_day_2 20 rfl rfl)
theorem dX9_day_70 : decode cX9_day 70 = .ok (.iconst 0, 1) := dk_3 (dk_at dksX9_day_2 23 rfl rfl)
theorem dX9_day_71 : decode cX9_day 71 = .ok (.aload_n 0, 1) := dk_42 (dk_at dksX9_day_3 0 rfl rfl)
theorem dX9_day_72 : decode cX9_day 72 = .ok (.getfield 15, 3) := dk_180 0 15 (dk_at dksX9_day_3 1 rfl rfl)
theorem dX9_day_75 : decode cX9_day 75 = .ok (.iload_n 1, 1) := dk_27 (dk_at dksX9_day_3 4 rfl rfl)
theorem dX9_day_76 : decode cX9_day 76 = .ok (.imul, 1) := dk_104 (dk_at dksX9_day_3 5 rfl rfl)
theorem dX9_day_77 : decode cX9_day 77 = .ok (.iastore, 1) := dk_79 (dk_at dksX9_day_3 6 rfl rfl)
theorem dX9_day_78 : decode cX9_day 78 = .ok (.return_, 1) := dk_177 (dk_at dksX9_day_3 7 rfl rfl)
abbrev cX9_pick : ByteArray := prog_13_method_3_code
def yX9_pick : MethodName := ⟨RX9, "pick", "(I)I"⟩
def dkwX9_pick_4 : List UInt8 := [21, 9, 104, 167, 0, 5, 21, 9, 96, 54, 4, 132, 7, 1, 167, 255, 183, 21, 4, 172]
abbrev dktX9_pick_4 : List UInt8 := dkwX9_pick_4 ++ []
def dkwX9_pick_3 : List UInt8 := [21, 9, 100, 79, 29, 21, 9, 100, 62, 21, 4, 21, 8, 4, 159, 0, 9, 21, 8, 5, 160, 0, 10, 5]
abbrev dktX9_pick_3 : List UInt8 := dkwX9_pick_3 ++ dktX9_pick_4
def dkwX9_pick_2 : List UInt8 := [46, 54, 8, 29, 42, 180, 0, 9, 21, 8, 46, 184, 0, 22, 54, 9, 42, 180, 0, 9, 21, 8, 92, 46]
abbrev dktX9_pick_2 : List UInt8 := dkwX9_pick_2 ++ dktX9_pick_3
def dkwX9_pick_1 : List UInt8 := [54, 4, 44, 58, 5, 25, 5, 190, 54, 6, 3, 54, 7, 21, 7, 21, 6, 162, 0, 72, 25, 5, 21, 7]
abbrev dktX9_pick_1 : List UInt8 := dkwX9_pick_1 ++ dktX9_pick_2
def dkwX9_pick_0 : List UInt8 := [7, 188, 10, 89, 3, 5, 79, 89, 4, 4, 79, 89, 5, 6, 79, 89, 6, 3, 79, 77, 27, 62, 3]
abbrev dktX9_pick_0 : List UInt8 := dkwX9_pick_0 ++ dktX9_pick_1
theorem dksX9_pick_0 : cX9_pick.data.toList.drop 0 = dktX9_pick_0 := by decide +kernel
theorem dksX9_pick_1 : cX9_pick.data.toList.drop 23 = dktX9_pick_1 := dk_seg dksX9_pick_0 23 rfl rfl
theorem dksX9_pick_2 : cX9_pick.data.toList.drop 47 = dktX9_pick_2 := dk_seg dksX9_pick_1 24 rfl rfl
theorem dksX9_pick_3 : cX9_pick.data.toList.drop 71 = dktX9_pick_3 := dk_seg dksX9_pick_2 24 rfl rfl
theorem dksX9_pick_4 : cX9_pick.data.toList.drop 95 = dktX9_pick_4 := dk_seg dksX9_pick_3 24 rfl rfl
theorem dX9_pick_0 : decode cX9_pick 0 = .ok (.iconst 4, 1) := dk_7 (dk_at dksX9_pick_0 0 rfl rfl)
theorem dX9_pick_1 : decode cX9_pick 1 = .ok (.newarray .int, 2) := dk_188_10 (dk_at dksX9_pick_0 1 rfl rfl)
theorem dX9_pick_3 : decode cX9_pick 3 = .ok (.dup, 1) := dk_89 (dk_at dksX9_pick_0 3 rfl rfl)
theorem dX9_pick_4 : decode cX9_pick 4 = .ok (.iconst 0, 1) := dk_3 (dk_at dksX9_pick_0 4 rfl rfl)
theorem dX9_pick_5 : decode cX9_pick 5 = .ok (.iconst 2, 1) := dk_5 (dk_at dksX9_pick_0 5 rfl rfl)
theorem dX9_pick_6 : decode cX9_pick 6 = .ok (.iastore, 1) := dk_79 (dk_at dksX9_pick_0 6 rfl rfl)
theorem dX9_pick_7 : decode cX9_pick 7 = .ok (.dup, 1) := dk_89 (dk_at dksX9_pick_0 7 rfl rfl)
theorem dX9_pick_8 : decode cX9_pick 8 = .ok (.iconst 1, 1) := dk_4 (dk_at dksX9_pick_0 8 rfl rfl)
theorem dX9_pick_9 : decode cX9_pick 9 = .ok (.iconst 1, 1) := dk_4 (dk_at dksX9_pick_0 9 rfl rfl)
theorem dX9_pick_10 : decode cX9_pick 10 = .ok (.iastore, 1) := dk_79 (dk_at dksX9_pick_0 10 rfl rfl)
theorem dX9_pick_11 : decode cX9_pick 11 = .ok (.dup, 1) := dk_89 (dk_at dksX9_pick_0 11 rfl rfl)
theorem dX9_pick_12 : decode cX9_pick 12 = .ok (.iconst 2, 1) := dk_5 (dk_at dksX9_pick_0 12 rfl rfl)
theorem dX9_pick_13 : decode cX9_pick 13 = .ok (.iconst 3, 1) := dk_6 (dk_at dksX9_pick_0 13 rfl rfl)
theorem dX9_pick_14 : decode cX9_pick 14 = .ok (.iastore, 1) := dk_79 (dk_at dksX9_pick_0 14 rfl rfl)
theorem dX9_pick_15 : decode cX9_pick 15 = .ok (.dup, 1) := dk_89 (dk_at dksX9_pick_0 15 rfl rfl)
theorem dX9_pick_16 : decode cX9_pick 16 = .ok (.iconst 3, 1) := dk_6 (dk_at dksX9_pick_0 16 rfl rfl)
theorem dX9_pick_17 : decode cX9_pick 17 = .ok (.iconst 0, 1) := dk_3 (dk_at dksX9_pick_0 17 rfl rfl)
theorem dX9_pick_18 : decode cX9_pick 18 = .ok (.iastore, 1) := dk_79 (dk_at dksX9_pick_0 18 rfl rfl)
theorem dX9_pick_19 : decode cX9_pick 19 = .ok (.astore_n 2, 1) := dk_77 (dk_at dksX9_pick_0 19 rfl rfl)
theorem dX9_pick_20 : decode cX9_pick 20 = .ok (.iload_n 1, 1) := dk_27 (dk_at dksX9_pick_0 20 rfl rfl)
theorem dX9_pick_21 : decode cX9_pick 21 = .ok (.istore_n 3, 1) := dk_62 (dk_at dksX9_pick_0 21 rfl rfl)
theorem dX9_pick_22 : decode cX9_pick 22 = .ok (.iconst 0, 1) := dk_3 (dk_at dksX9_pick_0 22 rfl rfl)
theorem dX9_pick_23 : decode cX9_pick 23 = .ok (.istore 4, 2) := dk_54 4 (dk_at dksX9_pick_1 0 rfl rfl)
theorem dX9_pick_25 : decode cX9_pick 25 = .ok (.aload_n 2, 1) := dk_44 (dk_at dksX9_pick_1 2 rfl rfl)
theorem dX9_pick_26 : decode cX9_pick 26 = .ok (.astore 5, 2) := dk_58 5 (dk_at dksX9_pick_1 3 rfl rfl)
theorem dX9_pick_28 : decode cX9_pick 28 = .ok (.aload 5, 2) := dk_25 5 (dk_at dksX9_pick_1 5 rfl rfl)
theorem dX9_pick_30 : decode cX9_pick 30 = .ok (.arraylength, 1) := dk_190 (dk_at dksX9_pick_1 7 rfl rfl)
theorem dX9_pick_31 : decode cX9_pick 31 = .ok (.istore 6, 2) := dk_54 6 (dk_at dksX9_pick_1 8 rfl rfl)
theorem dX9_pick_33 : decode cX9_pick 33 = .ok (.iconst 0, 1) := dk_3 (dk_at dksX9_pick_1 10 rfl rfl)
theorem dX9_pick_34 : decode cX9_pick 34 = .ok (.istore 7, 2) := dk_54 7 (dk_at dksX9_pick_1 11 rfl rfl)
theorem dX9_pick_36 : decode cX9_pick 36 = .ok (.iload 7, 2) := dk_21 7 (dk_at dksX9_pick_1 13 rfl rfl)
theorem dX9_pick_38 : decode cX9_pick 38 = .ok (.iload 6, 2) := dk_21 6 (dk_at dksX9_pick_1 15 rfl rfl)
theorem dX9_pick_40 : decode cX9_pick 40 = .ok (.if_icmp .ge 72, 3) := dk_162 0 72 (dk_at dksX9_pick_1 17 rfl rfl)
theorem dX9_pick_43 : decode cX9_pick 43 = .ok (.aload 5, 2) := dk_25 5 (dk_at dksX9_pick_1 20 rfl rfl)
theorem dX9_pick_45 : decode cX9_pick 45 = .ok (.iload 7, 2) := dk_21 7 (dk_at dksX9_pick_1 22 rfl rfl)
theorem dX9_pick_47 : decode cX9_pick 47 = .ok (.iaload, 1) := dk_46 (dk_at dksX9_pick_2 0 rfl rfl)
theorem dX9_pick_48 : decode cX9_pick 48 = .ok (.istore 8, 2) := dk_54 8 (dk_at dksX9_pick_2 1 rfl rfl)
theorem dX9_pick_50 : decode cX9_pick 50 = .ok (.iload_n 3, 1) := dk_29 (dk_at dksX9_pick_2 3 rfl rfl)
theorem dX9_pick_51 : decode cX9_pick 51 = .ok (.aload_n 0, 1) := dk_42 (dk_at dksX9_pick_2 4 rfl rfl)
theorem dX9_pick_52 : decode cX9_pick 52 = .ok (.getfield 9, 3) := dk_180 0 9 (dk_at dksX9_pick_2 5 rfl rfl)
theorem dX9_pick_55 : decode cX9_pick 55 = .ok (.iload 8, 2) := dk_21 8 (dk_at dksX9_pick_2 8 rfl rfl)
theorem dX9_pick_57 : decode cX9_pick 57 = .ok (.iaload, 1) := dk_46 (dk_at dksX9_pick_2 10 rfl rfl)
theorem dX9_pick_58 : decode cX9_pick 58 = .ok (.invokestatic 22, 3) := dk_184 0 22 (dk_at dksX9_pick_2 11 rfl rfl)
theorem dX9_pick_61 : decode cX9_pick 61 = .ok (.istore 9, 2) := dk_54 9 (dk_at dksX9_pick_2 14 rfl rfl)
theorem dX9_pick_63 : decode cX9_pick 63 = .ok (.aload_n 0, 1) := dk_42 (dk_at dksX9_pick_2 16 rfl rfl)
theorem dX9_pick_64 : decode cX9_pick 64 = .ok (.getfield 9, 3) := dk_180 0 9 (dk_at dksX9_pick_2 17 rfl rfl)
theorem dX9_pick_67 : decode cX9_pick 67 = .ok (.iload 8, 2) := dk_21 8 (dk_at dksX9_pick_2 20 rfl rfl)
theorem dX9_pick_69 : decode cX9_pick 69 = .ok (.dup2, 1) := dk_92 (dk_at dksX9_pick_2 22 rfl rfl)
theorem dX9_pick_70 : decode cX9_pick 70 = .ok (.iaload, 1) := dk_46 (dk_at dksX9_pick_2 23 rfl rfl)
theorem dX9_pick_71 : decode cX9_pick 71 = .ok (.iload 9, 2) := dk_21 9 (dk_at dksX9_pick_3 0 rfl rfl)
theorem dX9_pick_73 : decode cX9_pick 73 = .ok (.isub, 1) := dk_100 (dk_at dksX9_pick_3 2 rfl rfl)
theorem dX9_pick_74 : decode cX9_pick 74 = .ok (.iastore, 1) := dk_79 (dk_at dksX9_pick_3 3 rfl rfl)
theorem dX9_pick_75 : decode cX9_pick 75 = .ok (.iload_n 3, 1) := dk_29 (dk_at dksX9_pick_3 4 rfl rfl)
theorem dX9_pick_76 : decode cX9_pick 76 = .ok (.iload 9, 2) := dk_21 9 (dk_at dksX9_pick_3 5 rfl rfl)
theorem dX9_pick_78 : decode cX9_pick 78 = .ok (.isub, 1) := dk_100 (dk_at dksX9_pick_3 7 rfl rfl)
theorem dX9_pick_79 : decode cX9_pick 79 = .ok (.istore_n 3, 1) := dk_62 (dk_at dksX9_pick_3 8 rfl rfl)
theorem dX9_pick_80 : decode cX9_pick 80 = .ok (.iload 4, 2) := dk_21 4 (dk_at dksX9_pick_3 9 rfl rfl)
theorem dX9_pick_82 : decode cX9_pick 82 = .ok (.iload 8, 2) := dk_21 8 (dk_at dksX9_pick_3 11 rfl rfl)
theorem dX9_pick_84 : decode cX9_pick 84 = .ok (.iconst 1, 1) := dk_4 (dk_at dksX9_pick_3 13 rfl rfl)
theorem dX9_pick_85 : decode cX9_pick 85 = .ok (.if_icmp .eq 9, 3) := dk_159 0 9 (dk_at dksX9_pick_3 14 rfl rfl)
theorem dX9_pick_88 : decode cX9_pick 88 = .ok (.iload 8, 2) := dk_21 8 (dk_at dksX9_pick_3 17 rfl rfl)
theorem dX9_pick_90 : decode cX9_pick 90 = .ok (.iconst 2, 1) := dk_5 (dk_at dksX9_pick_3 19 rfl rfl)
theorem dX9_pick_91 : decode cX9_pick 91 = .ok (.if_icmp .ne 10, 3) := dk_160 0 10 (dk_at dksX9_pick_3 20 rfl rfl)
theorem dX9_pick_94 : decode cX9_pick 94 = .ok (.iconst 2, 1) := dk_5 (dk_at dksX9_pick_3 23 rfl rfl)
theorem dX9_pick_95 : decode cX9_pick 95 = .ok (.iload 9, 2) := dk_21 9 (dk_at dksX9_pick_4 0 rfl rfl)
theorem dX9_pick_97 : decode cX9_pick 97 = .ok (.imul, 1) := dk_104 (dk_at dksX9_pick_4 2 rfl rfl)
theorem dX9_pick_98 : decode cX9_pick 98 = .ok (.goto 5, 3) := dk_167 0 5 (dk_at dksX9_pick_4 3 rfl rfl)
theorem dX9_pick_101 : decode cX9_pick 101 = .ok (.iload 9, 2) := dk_21 9 (dk_at dksX9_pick_4 6 rfl rfl)
theorem dX9_pick_103 : decode cX9_pick 103 = .ok (.iadd, 1) := dk_96 (dk_at dksX9_pick_4 8 rfl rfl)
theorem dX9_pick_104 : decode cX9_pick 104 = .ok (.istore 4, 2) := dk_54 4 (dk_at dksX9_pick_4 9 rfl rfl)
theorem dX9_pick_106 : decode cX9_pick 106 = .ok (.iinc 7 1, 3) := dk_132 7 1 (dk_at dksX9_pick_4 11 rfl rfl)
theorem dX9_pick_109 : decode cX9_pick 109 = .ok (.goto (-73), 3) := dk_167 255 183 (dk_at dksX9_pick_4 14 rfl rfl)
theorem dX9_pick_112 : decode cX9_pick 112 = .ok (.iload 4, 2) := dk_21 4 (dk_at dksX9_pick_4 17 rfl rfl)
theorem dX9_pick_114 : decode cX9_pick 114 = .ok (.ireturn, 1) := dk_172 (dk_at dksX9_pick_4 19 rfl rfl)
abbrev cX9_prune : ByteArray := prog_13_method_4_code
def yX9_prune : MethodName := ⟨RX9, "prune", "()I"⟩
def dkwX9_prune_1 : List UInt8 := [79, 132, 2, 1, 167, 255, 232, 42, 7, 181, 0, 19, 27, 172]
abbrev dktX9_prune_1 : List UInt8 := dkwX9_prune_1 ++ []
def dkwX9_prune_0 : List UInt8 := [3, 60, 3, 61, 28, 7, 162, 0, 25, 27, 42, 180, 0, 9, 28, 46, 96, 60, 42, 180, 0, 9, 28, 3]
abbrev dktX9_prune_0 : List UInt8 := dkwX9_prune_0 ++ dktX9_prune_1
theorem dksX9_prune_0 : cX9_prune.data.toList.drop 0 = dktX9_prune_0 := by decide +kernel
theorem dksX9_prune_1 : cX9_prune.data.toList.drop 24 = dktX9_prune_1 := dk_seg dksX9_prune_0 24 rfl rfl
theorem dX9_prune_0 : decode cX9_prune 0 = .ok (.iconst 0, 1) := dk_3 (dk_at dksX9_prune_0 0 rfl rfl)
theorem dX9_prune_1 : decode cX9_prune 1 = .ok (.istore_n 1, 1) := dk_60 (dk_at dksX9_prune_0 1 rfl rfl)
theorem dX9_prune_2 : decode cX9_prune 2 = .ok (.iconst 0, 1) := dk_3 (dk_at dksX9_prune_0 2 rfl rfl)
theorem dX9_prune_3 : decode cX9_prune 3 = .ok (.istore_n 2, 1) := dk_61 (dk_at dksX9_prune_0 3 rfl rfl)
theorem dX9_prune_4 : decode cX9_prune 4 = .ok (.iload_n 2, 1) := dk_28 (dk_at dksX9_prune_0 4 rfl rfl)
theorem dX9_prune_5 : decode cX9_prune 5 = .ok (.iconst 4, 1) := dk_7 (dk_at dksX9_prune_0 5 rfl rfl)
theorem dX9_prune_6 : decode cX9_prune 6 = .ok (.if_icmp .ge 25, 3) := dk_162 0 25 (dk_at dksX9_prune_0 6 rfl rfl)
theorem dX9_prune_9 : decode cX9_prune 9 = .ok (.iload_n 1, 1) := dk_27 (dk_at dksX9_prune_0 9 rfl rfl)
theorem dX9_prune_10 : decode cX9_prune 10 = .ok (.aload_n 0, 1) := dk_42 (dk_at dksX9_prune_0 10 rfl rfl)
theorem dX9_prune_11 : decode cX9_prune 11 = .ok (.getfield 9, 3) := dk_180 0 9 (dk_at dksX9_prune_0 11 rfl rfl)
theorem dX9_prune_14 : decode cX9_prune 14 = .ok (.iload_n 2, 1) := dk_28 (dk_at dksX9_prune_0 14 rfl rfl)
theorem dX9_prune_15 : decode cX9_prune 15 = .ok (.iaload, 1) := dk_46 (dk_at dksX9_prune_0 15 rfl rfl)
theorem dX9_prune_16 : decode cX9_prune 16 = .ok (.iadd, 1) := dk_96 (dk_at dksX9_prune_0 16 rfl rfl)
theorem dX9_prune_17 : decode cX9_prune 17 = .ok (.istore_n 1, 1) := dk_60 (dk_at dksX9_prune_0 17 rfl rfl)
theorem dX9_prune_18 : decode cX9_prune 18 = .ok (.aload_n 0, 1) := dk_42 (dk_at dksX9_prune_0 18 rfl rfl)
theorem dX9_prune_19 : decode cX9_prune 19 = .ok (.getfield 9, 3) := dk_180 0 9 (dk_at dksX9_prune_0 19 rfl rfl)
theorem dX9_prune_22 : decode cX9_prune 22 = .ok (.iload_n 2, 1) := dk_28 (dk_at dksX9_prune_0 22 rfl rfl)
theorem dX9_prune_23 : decode cX9_prune 23 = .ok (.iconst 0, 1) := dk_3 (dk_at dksX9_prune_0 23 rfl rfl)
theorem dX9_prune_24 : decode cX9_prune 24 = .ok (.iastore, 1) := dk_79 (dk_at dksX9_prune_1 0 rfl rfl)
theorem dX9_prune_25 : decode cX9_prune 25 = .ok (.iinc 2 1, 3) := dk_132 2 1 (dk_at dksX9_prune_1 1 rfl rfl)
theorem dX9_prune_28 : decode cX9_prune 28 = .ok (.goto (-24), 3) := dk_167 255 232 (dk_at dksX9_prune_1 4 rfl rfl)
theorem dX9_prune_31 : decode cX9_prune 31 = .ok (.aload_n 0, 1) := dk_42 (dk_at dksX9_prune_1 7 rfl rfl)
theorem dX9_prune_32 : decode cX9_prune 32 = .ok (.iconst 4, 1) := dk_7 (dk_at dksX9_prune_1 8 rfl rfl)
theorem dX9_prune_33 : decode cX9_prune 33 = .ok (.putfield 19, 3) := dk_181 0 19 (dk_at dksX9_prune_1 9 rfl rfl)
theorem dX9_prune_36 : decode cX9_prune 36 = .ok (.iload_n 1, 1) := dk_27 (dk_at dksX9_prune_1 12 rfl rfl)
theorem dX9_prune_37 : decode cX9_prune 37 = .ok (.ireturn, 1) := dk_172 (dk_at dksX9_prune_1 13 rfl rfl)
theorem q64 : (Jvm.Cond.initialized "SilkRowModel$Plot") ∈ lw_all := lw_g (lw_at lw_m1 21 rfl) rfl
theorem q175 : (Jvm.Cond.selects "SilkRowModel$Plot" ({ cls := "java/lang/Object", name := "getClass", desc := "()Ljava/lang/Class;" } : Jvm.MethodName) ({ cls := "java/lang/Object", name := "getClass", desc := "()Ljava/lang/Class;" } : Jvm.MethodName)) ∈ lw_all := lw_g (lw_at lw_m1 132 rfl) rfl
theorem q632 : (Jvm.Cond.selects "SilkRowModel$Plot" ({ cls := "java/lang/Object", name := "equals", desc := "(Ljava/lang/Object;)Z" } : Jvm.MethodName) ({ cls := "java/lang/Object", name := "equals", desc := "(Ljava/lang/Object;)Z" } : Jvm.MethodName)) ∈ lw_all := lw_g (lw_at lw_m3 109 rfl) rfl
theorem q1244 : (Jvm.Cond.instantiable "SilkRowModel$Plot" (3 : Nat)) ∈ lw_all := lw_g (lw_at lw_m6 1 rfl) rfl
theorem q1246 : (Jvm.Cond.instanceMethod ({ cls := "SilkRowModel$Plot", name := "<init>", desc := "(I)V" } : Jvm.MethodName)) ∈ lw_all := lw_g (lw_at lw_m6 3 rfl) rfl
theorem q1247 : (Jvm.Cond.code ({ cls := "SilkRowModel$Plot", name := "<init>", desc := "(I)V" } : Jvm.MethodName) prog_13_method_1_code (2 : Nat) (Option.none : Option Jvm.ClassFile.FieldType)) ∈ lw_all := lw_g (lw_at lw_m6 4 rfl) rfl
theorem q1248 : (Jvm.Cond.methodLink "SilkRowModel$Plot" (3 : Nat) ({ cls := "java/lang/Object", name := "<init>", desc := "()V" } : Jvm.MethodName)) ∈ lw_all := lw_g (lw_at lw_m6 5 rfl) rfl
theorem q1249 : (Jvm.Cond.fieldLink "SilkRowModel$Plot" (15 : Nat) "SilkRowModel$Plot" "area" "I") ∈ lw_all := lw_g (lw_at lw_m6 6 rfl) rfl
theorem q1251 : (Jvm.Cond.fieldLink "SilkRowModel$Plot" (19 : Nat) "SilkRowModel$Plot" "rest" "I") ∈ lw_all := lw_g (lw_at lw_m6 8 rfl) rfl
theorem q1253 : (Jvm.Cond.fieldLink "SilkRowModel$Plot" (9 : Nat) "SilkRowModel$Plot" "leaf" "[I") ∈ lw_all := lw_g (lw_at lw_m6 10 rfl) rfl
theorem q1255 : (Jvm.Cond.laysFinal "SilkRowModel$Plot" "SilkRowModel$Plot" "area" "I") ∈ lw_all := lw_g (lw_at lw_m6 12 rfl) rfl
theorem q1256 : (Jvm.Cond.soleField "SilkRowModel$Plot" "area") ∈ lw_all := lw_g (lw_at lw_m6 13 rfl) rfl
theorem q1257 : (Jvm.Cond.lays "SilkRowModel$Plot" "SilkRowModel$Plot" "rest" "I") ∈ lw_all := lw_g (lw_at lw_m6 14 rfl) rfl
theorem q1258 : (Jvm.Cond.soleField "SilkRowModel$Plot" "rest") ∈ lw_all := lw_g (lw_at lw_m6 15 rfl) rfl
theorem q1259 : (Jvm.Cond.laysFinal "SilkRowModel$Plot" "SilkRowModel$Plot" "leaf" "[I") ∈ lw_all := lw_g (lw_at lw_m6 16 rfl) rfl
theorem q1260 : (Jvm.Cond.soleField "SilkRowModel$Plot" "leaf") ∈ lw_all := lw_g (lw_at lw_m6 17 rfl) rfl
theorem q1261 : (Jvm.Cond.superclass "SilkRowModel$Plot" "java/lang/Object") ∈ lw_all := lw_g (lw_at lw_m6 18 rfl) rfl
theorem q1277 : (Jvm.Cond.instanceMethod ({ cls := "SilkRowModel$Plot", name := "day", desc := "(I)V" } : Jvm.MethodName)) ∈ lw_all := lw_g (lw_at lw_m6 34 rfl) rfl
theorem q1278 : (Jvm.Cond.selects "SilkRowModel$Plot" ({ cls := "SilkRowModel$Plot", name := "day", desc := "(I)V" } : Jvm.MethodName) ({ cls := "SilkRowModel$Plot", name := "day", desc := "(I)V" } : Jvm.MethodName)) ∈ lw_all := lw_g (lw_at lw_m6 35 rfl) rfl
theorem q1279 : (Jvm.Cond.code ({ cls := "SilkRowModel$Plot", name := "day", desc := "(I)V" } : Jvm.MethodName) prog_13_method_2_code (2 : Nat) (Option.none : Option Jvm.ClassFile.FieldType)) ∈ lw_all := lw_g (lw_at lw_m6 36 rfl) rfl
theorem q1280 : (Jvm.Cond.methodLink "SilkRowModel$Plot" (22 : Nat) ({ cls := "java/lang/Math", name := "min", desc := "(II)I" } : Jvm.MethodName)) ∈ lw_all := lw_g (lw_at lw_m6 37 rfl) rfl
theorem q1327 : (Jvm.Cond.instanceMethod ({ cls := "SilkRowModel$Plot", name := "pick", desc := "(I)I" } : Jvm.MethodName)) ∈ lw_all := lw_g (lw_at lw_m6 84 rfl) rfl
theorem q1328 : (Jvm.Cond.selects "SilkRowModel$Plot" ({ cls := "SilkRowModel$Plot", name := "pick", desc := "(I)I" } : Jvm.MethodName) ({ cls := "SilkRowModel$Plot", name := "pick", desc := "(I)I" } : Jvm.MethodName)) ∈ lw_all := lw_g (lw_at lw_m6 85 rfl) rfl
theorem q1329 : (Jvm.Cond.code ({ cls := "SilkRowModel$Plot", name := "pick", desc := "(I)I" } : Jvm.MethodName) prog_13_method_3_code (10 : Nat) (Option.some Jvm.ClassFile.FieldType.int)) ∈ lw_all := lw_g (lw_at lw_m6 86 rfl) rfl
theorem q1335 : (Jvm.Cond.instanceMethod ({ cls := "SilkRowModel$Plot", name := "prune", desc := "()I" } : Jvm.MethodName)) ∈ lw_all := lw_g (lw_at lw_m6 92 rfl) rfl
theorem q1336 : (Jvm.Cond.selects "SilkRowModel$Plot" ({ cls := "SilkRowModel$Plot", name := "prune", desc := "()I" } : Jvm.MethodName) ({ cls := "SilkRowModel$Plot", name := "prune", desc := "()I" } : Jvm.MethodName)) ∈ lw_all := lw_g (lw_at lw_m6 93 rfl) rfl
theorem q1337 : (Jvm.Cond.code ({ cls := "SilkRowModel$Plot", name := "prune", desc := "()I" } : Jvm.MethodName) prog_13_method_4_code (3 : Nat) (Option.some Jvm.ClassFile.FieldType.int)) ∈ lw_all := lw_g (lw_at lw_m6 94 rfl) rfl
theorem q1684 : (Jvm.Cond.castable "SilkRowModel$Plot" "java/lang/Object") ∈ lw_tbl := lw_at lw_m7 201 rfl
theorem in_X9 : ∀ w ∈ wsX90, w ∈ lw_all := lw_in wsX90 [1255, 1257, 1259] (by decide +kernel) (by decide +kernel)
/-! SilkRow$Lot -/
set_option maxRecDepth 100000
def RX10 : String := "SilkRow$Lot"
def TX10 : u_T := fun k => match k with
  | 0 => ("SilkRow$Lot", "line", "I", true)
  | 1 => ("SilkRow$Lot", "size", "I", true)
  | 2 => ("SilkRow$Lot", "hardy", "I", true)
  | 3 => ("SilkRow$Lot", "cocoons", "[I", true)
  | 4 => ("SilkRow$Lot", "left", "[I", true)
  | 5 => ("SilkRow$Lot", "state", "I", false)
  | _ => ("SilkRow$Lot", "age", "I", false)
def tyX10 : Nat → FieldType := fun k => match k with
  | 0 => .int
  | 1 => .int
  | 2 => .int
  | 3 => .array .int
  | 4 => .array .int
  | 5 => .int
  | _ => .int
abbrev wsX100 : List Cond := u_ws RX10 TX10 7
theorem nmX10 : ∀ a, a < 7 → ∀ b, b < 7 → a ≠ b → (TX10 a).2.1 ≠ (TX10 b).2.1 := by decide +kernel
theorem tyX10_ok : ∀ k, k < 7 → parseFieldDescriptor (TX10 k).2.2.1 = some (tyX10 k) := by decide +kernel
abbrev cX10_copy : ByteArray := prog_4_method_2_code
def yX10_copy : MethodName := ⟨RX10, "copy", "()LSilkRow$Lot;"⟩
def dkwX10_copy_2 : List UInt8 := [43, 42, 180, 0, 37, 181, 0, 37, 43, 176]
abbrev dktX10_copy_2 : List UInt8 := dkwX10_copy_2 ++ []
def dkwX10_copy_1 : List UInt8 := [3, 43, 180, 0, 9, 3, 6, 184, 0, 31, 42, 180, 0, 15, 3, 43, 180, 0, 15, 3, 6, 184, 0, 31]
abbrev dktX10_copy_1 : List UInt8 := dkwX10_copy_1 ++ dktX10_copy_2
def dkwX10_copy_0 : List UInt8 := [187, 0, 10, 89, 42, 180, 0, 18, 42, 180, 0, 22, 42, 180, 0, 25, 183, 0, 28, 76, 42, 180, 0, 9]
abbrev dktX10_copy_0 : List UInt8 := dkwX10_copy_0 ++ dktX10_copy_1
theorem dksX10_copy_0 : cX10_copy.data.toList.drop 0 = dktX10_copy_0 := by decide +kernel
theorem dksX10_copy_1 : cX10_copy.data.toList.drop 24 = dktX10_copy_1 := dk_seg dksX10_copy_0 24 rfl rfl
theorem dksX10_copy_2 : cX10_copy.data.toList.drop 48 = dktX10_copy_2 := dk_seg dksX10_copy_1 24 rfl rfl
theorem dX10_copy_0 : decode cX10_copy 0 = .ok (.new 10, 3) := dk_187 0 10 (dk_at dksX10_copy_0 0 rfl rfl)
theorem dX10_copy_3 : decode cX10_copy 3 = .ok (.dup, 1) := dk_89 (dk_at dksX10_copy_0 3 rfl rfl)
theorem dX10_copy_4 : decode cX10_copy 4 = .ok (.aload_n 0, 1) := dk_42 (dk_at dksX10_copy_0 4 rfl rfl)
theorem dX10_copy_5 : decode cX10_copy 5 = .ok (.getfield 18, 3) := dk_180 0 18 (dk_at dksX10_copy_0 5 rfl rfl)
theorem dX10_copy_8 : decode cX10_copy 8 = .ok (.aload_n 0, 1) := dk_42 (dk_at dksX10_copy_0 8 rfl rfl)
theorem dX10_copy_9 : decode cX10_copy 9 = .ok (.getfield 22, 3) := dk_180 0 22 (dk_at dksX10_copy_0 9 rfl rfl)
theorem dX10_copy_12 : decode cX10_copy 12 = .ok (.aload_n 0, 1) := dk_42 (dk_at dksX10_copy_0 12 rfl rfl)
theorem dX10_copy_13 : decode cX10_copy 13 = .ok (.getfield 25, 3) := dk_180 0 25 (dk_at dksX10_copy_0 13 rfl rfl)
theorem dX10_copy_16 : decode cX10_copy 16 = .ok (.invokespecial 28, 3) := dk_183 0 28 (dk_at dksX10_copy_0 16 rfl rfl)
theorem dX10_copy_19 : decode cX10_copy 19 = .ok (.astore_n 1, 1) := dk_76 (dk_at dksX10_copy_0 19 rfl rfl)
theorem dX10_copy_20 : decode cX10_copy 20 = .ok (.aload_n 0, 1) := dk_42 (dk_at dksX10_copy_0 20 rfl rfl)
theorem dX10_copy_21 : decode cX10_copy 21 = .ok (.getfield 9, 3) := dk_180 0 9 (dk_at dksX10_copy_0 21 rfl rfl)
theorem dX10_copy_24 : decode cX10_copy 24 = .ok (.iconst 0, 1) := dk_3 (dk_at dksX10_copy_1 0 rfl rfl)
theorem dX10_copy_25 : decode cX10_copy 25 = .ok (.aload_n 1, 1) := dk_43 (dk_at dksX10_copy_1 1 rfl rfl)
theorem dX10_copy_26 : decode cX10_copy 26 = .ok (.getfield 9, 3) := dk_180 0 9 (dk_at dksX10_copy_1 2 rfl rfl)
theorem dX10_copy_29 : decode cX10_copy 29 = .ok (.iconst 0, 1) := dk_3 (dk_at dksX10_copy_1 5 rfl rfl)
theorem dX10_copy_30 : decode cX10_copy 30 = .ok (.iconst 3, 1) := dk_6 (dk_at dksX10_copy_1 6 rfl rfl)
theorem dX10_copy_31 : decode cX10_copy 31 = .ok (.invokestatic 31, 3) := dk_184 0 31 (dk_at dksX10_copy_1 7 rfl rfl)
theorem dX10_copy_34 : decode cX10_copy 34 = .ok (.aload_n 0, 1) := dk_42 (dk_at dksX10_copy_1 10 rfl rfl)
theorem dX10_copy_35 : decode cX10_copy 35 = .ok (.getfield 15, 3) := dk_180 0 15 (dk_at dksX10_copy_1 11 rfl rfl)
theorem dX10_copy_38 : decode cX10_copy 38 = .ok (.iconst 0, 1) := dk_3 (dk_at dksX10_copy_1 14 rfl rfl)
theorem dX10_copy_39 : decode cX10_copy 39 = .ok (.aload_n 1, 1) := dk_43 (dk_at dksX10_copy_1 15 rfl rfl)
theorem dX10_copy_40 : decode cX10_copy 40 = .ok (.getfield 15, 3) := dk_180 0 15 (dk_at dksX10_copy_1 16 rfl rfl)
theorem dX10_copy_43 : decode cX10_copy 43 = .ok (.iconst 0, 1) := dk_3 (dk_at dksX10_copy_1 19 rfl rfl)
theorem dX10_copy_44 : decode cX10_copy 44 = .ok (.iconst 3, 1) := dk_6 (dk_at dksX10_copy_1 20 rfl rfl)
theorem dX10_copy_45 : decode cX10_copy 45 = .ok (.invokestatic 31, 3) := dk_184 0 31 (dk_at dksX10_copy_1 21 rfl rfl)
theorem dX10_copy_48 : decode cX10_copy 48 = .ok (.aload_n 1, 1) := dk_43 (dk_at dksX10_copy_2 0 rfl rfl)
theorem dX10_copy_49 : decode cX10_copy 49 = .ok (.aload_n 0, 1) := dk_42 (dk_at dksX10_copy_2 1 rfl rfl)
theorem dX10_copy_50 : decode cX10_copy 50 = .ok (.getfield 37, 3) := dk_180 0 37 (dk_at dksX10_copy_2 2 rfl rfl)
theorem dX10_copy_53 : decode cX10_copy 53 = .ok (.putfield 37, 3) := dk_181 0 37 (dk_at dksX10_copy_2 5 rfl rfl)
theorem dX10_copy_56 : decode cX10_copy 56 = .ok (.aload_n 1, 1) := dk_43 (dk_at dksX10_copy_2 8 rfl rfl)
theorem dX10_copy_57 : decode cX10_copy 57 = .ok (.areturn, 1) := dk_176 (dk_at dksX10_copy_2 9 rfl rfl)
abbrev cX10_init : ByteArray := prog_4_method_1_code
def yX10_init : MethodName := ⟨RX10, "<init>", "(III)V"⟩
def dkwX10_init_1 : List UInt8 := [28, 181, 0, 22, 42, 29, 181, 0, 25, 177]
abbrev dktX10_init_1 : List UInt8 := dkwX10_init_1 ++ []
def dkwX10_init_0 : List UInt8 := [42, 183, 0, 3, 42, 6, 188, 10, 181, 0, 9, 42, 6, 188, 10, 181, 0, 15, 42, 27, 181, 0, 18, 42]
abbrev dktX10_init_0 : List UInt8 := dkwX10_init_0 ++ dktX10_init_1
theorem dksX10_init_0 : cX10_init.data.toList.drop 0 = dktX10_init_0 := by decide +kernel
theorem dksX10_init_1 : cX10_init.data.toList.drop 24 = dktX10_init_1 := dk_seg dksX10_init_0 24 rfl rfl
theorem dX10_init_0 : decode cX10_init 0 = .ok (.aload_n 0, 1) := dk_42 (dk_at dksX10_init_0 0 rfl rfl)
theorem dX10_init_1 : decode cX10_init 1 = .ok (.invokespecial 3, 3) := dk_183 0 3 (dk_at dksX10_init_0 1 rfl rfl)
theorem dX10_init_4 : decode cX10_init 4 = .ok (.aload_n 0, 1) := dk_42 (dk_at dksX10_init_0 4 rfl rfl)
theorem dX10_init_5 : decode cX10_init 5 = .ok (.iconst 3, 1) := dk_6 (dk_at dksX10_init_0 5 rfl rfl)
theorem dX10_init_6 : decode cX10_init 6 = .ok (.newarray .int, 2) := dk_188_10 (dk_at dksX10_init_0 6 rfl rfl)
theorem dX10_init_8 : decode cX10_init 8 = .ok (.putfield 9, 3) := dk_181 0 9 (dk_at dksX10_init_0 8 rfl rfl)
theorem dX10_init_11 : decode cX10_init 11 = .ok (.aload_n 0, 1) := dk_42 (dk_at dksX10_init_0 11 rfl rfl)
theorem dX10_init_12 : decode cX10_init 12 = .ok (.iconst 3, 1) := dk_6 (dk_at dksX10_init_0 12 rfl rfl)
theorem dX10_init_13 : decode cX10_init 13 = .ok (.newarray .int, 2) := dk_188_10 (dk_at dksX10_init_0 13 rfl rfl)
theorem dX10_init_15 : decode cX10_init 15 = .ok (.putfield 15, 3) := dk_181 0 15 (dk_at dksX10_init_0 15 rfl rfl)
theorem dX10_init_18 : decode cX10_init 18 = .ok (.aload_n 0, 1) := dk_42 (dk_at dksX10_init_0 18 rfl rfl)
theorem dX10_init_19 : decode cX10_init 19 = .ok (.iload_n 1, 1) := dk_27 (dk_at dksX10_init_0 19 rfl rfl)
theorem dX10_init_20 : decode cX10_init 20 = .ok (.putfield 18, 3) := dk_181 0 18 (dk_at dksX10_init_0 20 rfl rfl)
theorem dX10_init_23 : decode cX10_init 23 = .ok (.aload_n 0, 1) := dk_42 (dk_at dksX10_init_0 23 rfl rfl)
theorem dX10_init_24 : decode cX10_init 24 = .ok (.iload_n 2, 1) := dk_28 (dk_at dksX10_init_1 0 rfl rfl)
theorem dX10_init_25 : decode cX10_init 25 = .ok (.putfield 22, 3) := dk_181 0 22 (dk_at dksX10_init_1 1 rfl rfl)
theorem dX10_init_28 : decode cX10_init 28 = .ok (.aload_n 0, 1) := dk_42 (dk_at dksX10_init_1 4 rfl rfl)
theorem dX10_init_29 : decode cX10_init 29 = .ok (.iload_n 3, 1) := dk_29 (dk_at dksX10_init_1 5 rfl rfl)
theorem dX10_init_30 : decode cX10_init 30 = .ok (.putfield 25, 3) := dk_181 0 25 (dk_at dksX10_init_1 6 rfl rfl)
theorem dX10_init_33 : decode cX10_init 33 = .ok (.return_, 1) := dk_177 (dk_at dksX10_init_1 9 rfl rfl)
abbrev cX10_join : ByteArray := prog_4_method_6_code
def yX10_join : MethodName := ⟨RX10, "join", "()LSilkRow$Filament;"⟩
def dkwX10_join_2 : List UInt8 := [167, 255, 212, 1, 176]
abbrev dktX10_join_2 : List UInt8 := dkwX10_join_2 ++ []
def dkwX10_join_1 : List UInt8 := [100, 79, 187, 0, 43, 89, 42, 180, 0, 18, 42, 27, 182, 0, 45, 183, 0, 49, 176, 132, 1, 1]
abbrev dktX10_join_1 : List UInt8 := dkwX10_join_1 ++ dktX10_join_2
def dkwX10_join_0 : List UInt8 := [3, 60, 27, 6, 162, 0, 45, 42, 180, 0, 15, 27, 46, 158, 0, 30, 42, 180, 0, 15, 27, 92, 46, 4]
abbrev dktX10_join_0 : List UInt8 := dkwX10_join_0 ++ dktX10_join_1
theorem dksX10_join_0 : cX10_join.data.toList.drop 0 = dktX10_join_0 := by decide +kernel
theorem dksX10_join_1 : cX10_join.data.toList.drop 24 = dktX10_join_1 := dk_seg dksX10_join_0 24 rfl rfl
theorem dksX10_join_2 : cX10_join.data.toList.drop 46 = dktX10_join_2 := dk_seg dksX10_join_1 22 rfl rfl
theorem dX10_join_0 : decode cX10_join 0 = .ok (.iconst 0, 1) := dk_3 (dk_at dksX10_join_0 0 rfl rfl)
theorem dX10_join_1 : decode cX10_join 1 = .ok (.istore_n 1, 1) := dk_60 (dk_at dksX10_join_0 1 rfl rfl)
theorem dX10_join_2 : decode cX10_join 2 = .ok (.iload_n 1, 1) := dk_27 (dk_at dksX10_join_0 2 rfl rfl)
theorem dX10_join_3 : decode cX10_join 3 = .ok (.iconst 3, 1) := dk_6 (dk_at dksX10_join_0 3 rfl rfl)
theorem dX10_join_4 : decode cX10_join 4 = .ok (.if_icmp .ge 45, 3) := dk_162 0 45 (dk_at dksX10_join_0 4 rfl rfl)
theorem dX10_join_7 : decode cX10_join 7 = .ok (.aload_n 0, 1) := dk_42 (dk_at dksX10_join_0 7 rfl rfl)
theorem dX10_join_8 : decode cX10_join 8 = .ok (.getfield 15, 3) := dk_180 0 15 (dk_at dksX10_join_0 8 rfl rfl)
theorem dX10_join_11 : decode cX10_join 11 = .ok (.iload_n 1, 1) := dk_27 (dk_at dksX10_join_0 11 rfl rfl)
theorem dX10_join_12 : decode cX10_join 12 = .ok (.iaload, 1) := dk_46 (dk_at dksX10_join_0 12 rfl rfl)
theorem dX10_join_13 : decode cX10_join 13 = .ok (.ifCond .le 30, 3) := dk_158 0 30 (dk_at dksX10_join_0 13 rfl rfl)
theorem dX10_join_16 : decode cX10_join 16 = .ok (.aload_n 0, 1) := dk_42 (dk_at dksX10_join_0 16 rfl rfl)
theorem dX10_join_17 : decode cX10_join 17 = .ok (.getfield 15, 3) := dk_180 0 15 (dk_at dksX10_join_0 17 rfl rfl)
theorem dX10_join_20 : decode cX10_join 20 = .ok (.iload_n 1, 1) := dk_27 (dk_at dksX10_join_0 20 rfl rfl)
theorem dX10_join_21 : decode cX10_join 21 = .ok (.dup2, 1) := dk_92 (dk_at dksX10_join_0 21 rfl rfl)
theorem dX10_join_22 : decode cX10_join 22 = .ok (.iaload, 1) := dk_46 (dk_at dksX10_join_0 22 rfl rfl)
theorem dX10_join_23 : decode cX10_join 23 = .ok (.iconst 1, 1) := dk_4 (dk_at dksX10_join_0 23 rfl rfl)
theorem dX10_join_24 : decode cX10_join 24 = .ok (.isub, 1) := dk_100 (dk_at dksX10_join_1 0 rfl rfl)
theorem dX10_join_25 : decode cX10_join 25 = .ok (.iastore, 1) := dk_79 (dk_at dksX10_join_1 1 rfl rfl)
theorem dX10_join_26 : decode cX10_join 26 = .ok (.new 43, 3) := dk_187 0 43 (dk_at dksX10_join_1 2 rfl rfl)
theorem dX10_join_29 : decode cX10_join 29 = .ok (.dup, 1) := dk_89 (dk_at dksX10_join_1 5 rfl rfl)
theorem dX10_join_30 : decode cX10_join 30 = .ok (.aload_n 0, 1) := dk_42 (dk_at dksX10_join_1 6 rfl rfl)
theorem dX10_join_31 : decode cX10_join 31 = .ok (.getfield 18, 3) := dk_180 0 18 (dk_at dksX10_join_1 7 rfl rfl)
theorem dX10_join_34 : decode cX10_join 34 = .ok (.aload_n 0, 1) := dk_42 (dk_at dksX10_join_1 10 rfl rfl)
theorem dX10_join_35 : decode cX10_join 35 = .ok (.iload_n 1, 1) := dk_27 (dk_at dksX10_join_1 11 rfl rfl)
theorem dX10_join_36 : decode cX10_join 36 = .ok (.invokevirtual 45, 3) := dk_182 0 45 (dk_at dksX10_join_1 12 rfl rfl)
theorem dX10_join_39 : decode cX10_join 39 = .ok (.invokespecial 49, 3) := dk_183 0 49 (dk_at dksX10_join_1 15 rfl rfl)
theorem dX10_join_42 : decode cX10_join 42 = .ok (.areturn, 1) := dk_176 (dk_at dksX10_join_1 18 rfl rfl)
theorem dX10_join_43 : decode cX10_join 43 = .ok (.iinc 1 1, 3) := dk_132 1 1 (dk_at dksX10_join_1 19 rfl rfl)
theorem dX10_join_46 : decode cX10_join 46 = .ok (.goto (-44), 3) := dk_167 255 212 (dk_at dksX10_join_2 0 rfl rfl)
theorem dX10_join_49 : decode cX10_join 49 = .ok (.aconst_null, 1) := dk_1 (dk_at dksX10_join_2 3 rfl rfl)
theorem dX10_join_50 : decode cX10_join 50 = .ok (.areturn, 1) := dk_176 (dk_at dksX10_join_2 4 rfl rfl)
abbrev cX10_pieces : ByteArray := prog_4_method_7_code
def yX10_pieces : MethodName := ⟨RX10, "pieces", "(I)[I"⟩
def dkwX10_pieces_5 : List UInt8 := [167, 0, 5, 25, 4, 176]
abbrev dktX10_pieces_5 : List UInt8 := dkwX10_pieces_5 ++ []
def dkwX10_pieces_4 : List UInt8 := [4, 79, 89, 5, 4, 79, 58, 4, 27, 154, 0, 7, 44, 167, 0, 14, 27, 4, 160, 0, 7, 45]
abbrev dktX10_pieces_4 : List UInt8 := dkwX10_pieces_4 ++ dktX10_pieces_5
def dkwX10_pieces_3 : List UInt8 := [89, 5, 42, 180, 0, 22, 79, 89, 6, 42, 180, 0, 22, 79, 78, 6, 188, 10, 89, 3, 4, 79, 89, 4]
abbrev dktX10_pieces_3 : List UInt8 := dkwX10_pieces_3 ++ dktX10_pieces_4
def dkwX10_pieces_2 : List UInt8 := [5, 100, 184, 0, 52, 79, 77, 7, 188, 10, 89, 3, 42, 180, 0, 22, 79, 89, 4, 42, 180, 0, 22, 79]
abbrev dktX10_pieces_2 : List UInt8 := dkwX10_pieces_2 ++ dktX10_pieces_3
def dkwX10_pieces_1 : List UInt8 := [180, 0, 22, 79, 89, 6, 4, 42, 180, 0, 22, 4, 100, 184, 0, 52, 79, 89, 7, 4, 42, 180, 0, 22]
abbrev dktX10_pieces_1 : List UInt8 := dkwX10_pieces_1 ++ dktX10_pieces_2
def dkwX10_pieces_0 : List UInt8 := [8, 188, 10, 89, 3, 42, 180, 0, 22, 4, 96, 79, 89, 4, 42, 180, 0, 22, 79, 89, 5, 42]
abbrev dktX10_pieces_0 : List UInt8 := dkwX10_pieces_0 ++ dktX10_pieces_1
theorem dksX10_pieces_0 : cX10_pieces.data.toList.drop 0 = dktX10_pieces_0 := by decide +kernel
theorem dksX10_pieces_1 : cX10_pieces.data.toList.drop 22 = dktX10_pieces_1 := dk_seg dksX10_pieces_0 22 rfl rfl
theorem dksX10_pieces_2 : cX10_pieces.data.toList.drop 46 = dktX10_pieces_2 := dk_seg dksX10_pieces_1 24 rfl rfl
theorem dksX10_pieces_3 : cX10_pieces.data.toList.drop 70 = dktX10_pieces_3 := dk_seg dksX10_pieces_2 24 rfl rfl
theorem dksX10_pieces_4 : cX10_pieces.data.toList.drop 94 = dktX10_pieces_4 := dk_seg dksX10_pieces_3 24 rfl rfl
theorem dksX10_pieces_5 : cX10_pieces.data.toList.drop 116 = dktX10_pieces_5 := dk_seg dksX10_pieces_4 22 rfl rfl
theorem dX10_pieces_0 : decode cX10_pieces 0 = .ok (.iconst 5, 1) := dk_8 (dk_at dksX10_pieces_0 0 rfl rfl)
theorem dX10_pieces_1 : decode cX10_pieces 1 = .ok (.newarray .int, 2) := dk_188_10 (dk_at dksX10_pieces_0 1 rfl rfl)
theorem dX10_pieces_3 : decode cX10_pieces 3 = .ok (.dup, 1) := dk_89 (dk_at dksX10_pieces_0 3 rfl rfl)
theorem dX10_pieces_4 : decode cX10_pieces 4 = .ok (.iconst 0, 1) := dk_3 (dk_at dksX10_pieces_0 4 rfl rfl)
theorem dX10_pieces_5 : decode cX10_pieces 5 = .ok (.aload_n 0, 1) := dk_42 (dk_at dksX10_pieces_0 5 rfl rfl)
theorem dX10_pieces_6 : decode cX10_pieces 6 = .ok (.getfield 22, 3) := dk_180 0 22 (dk_at dksX10_pieces_0 6 rfl rfl)
theorem dX10_pieces_9 : decode cX10_pieces 9 = .ok (.iconst 1, 1) := dk_4 (dk_at dksX10_pieces_0 9 rfl rfl)
theorem dX10_pieces_10 : decode cX10_pieces 10 = .ok (.iadd, 1) := dk_96 (dk_at dksX10_pieces_0 10 rfl rfl)
theorem dX10_pieces_11 : decode cX10_pieces 11 = .ok (.iastore, 1) := dk_79 (dk_at dksX10_pieces_0 11 rfl rfl)
theorem dX10_pieces_12 : decode cX10_pieces 12 = .ok (.dup, 1) := dk_89 (dk_at dksX10_pieces_0 12 rfl rfl)
theorem dX10_pieces_13 : decode cX10_pieces 13 = .ok (.iconst 1, 1) := dk_4 (dk_at dksX10_pieces_0 13 rfl rfl)
theorem dX10_pieces_14 : decode cX10_pieces 14 = .ok (.aload_n 0, 1) := dk_42 (dk_at dksX10_pieces_0 14 rfl rfl)
theorem dX10_pieces_15 : decode cX10_pieces 15 = .ok (.getfield 22, 3) := dk_180 0 22 (dk_at dksX10_pieces_0 15 rfl rfl)
theorem dX10_pieces_18 : decode cX10_pieces 18 = .ok (.iastore, 1) := dk_79 (dk_at dksX10_pieces_0 18 rfl rfl)
theorem dX10_pieces_19 : decode cX10_pieces 19 = .ok (.dup, 1) := dk_89 (dk_at dksX10_pieces_0 19 rfl rfl)
theorem dX10_pieces_20 : decode cX10_pieces 20 = .ok (.iconst 2, 1) := dk_5 (dk_at dksX10_pieces_0 20 rfl rfl)
theorem dX10_pieces_21 : decode cX10_pieces 21 = .ok (.aload_n 0, 1) := dk_42 (dk_at dksX10_pieces_0 21 rfl rfl)
theorem dX10_pieces_22 : decode cX10_pieces 22 = .ok (.getfield 22, 3) := dk_180 0 22 (dk_at dksX10_pieces_1 0 rfl rfl)
theorem dX10_pieces_25 : decode cX10_pieces 25 = .ok (.iastore, 1) := dk_79 (dk_at dksX10_pieces_1 3 rfl rfl)
theorem dX10_pieces_26 : decode cX10_pieces 26 = .ok (.dup, 1) := dk_89 (dk_at dksX10_pieces_1 4 rfl rfl)
theorem dX10_pieces_27 : decode cX10_pieces 27 = .ok (.iconst 3, 1) := dk_6 (dk_at dksX10_pieces_1 5 rfl rfl)
theorem dX10_pieces_28 : decode cX10_pieces 28 = .ok (.iconst 1, 1) := dk_4 (dk_at dksX10_pieces_1 6 rfl rfl)
theorem dX10_pieces_29 : decode cX10_pieces 29 = .ok (.aload_n 0, 1) := dk_42 (dk_at dksX10_pieces_1 7 rfl rfl)
theorem dX10_pieces_30 : decode cX10_pieces 30 = .ok (.getfield 22, 3) := dk_180 0 22 (dk_at dksX10_pieces_1 8 rfl rfl)
theorem dX10_pieces_33 : decode cX10_pieces 33 = .ok (.iconst 1, 1) := dk_4 (dk_at dksX10_pieces_1 11 rfl rfl)
theorem dX10_pieces_34 : decode cX10_pieces 34 = .ok (.isub, 1) := dk_100 (dk_at dksX10_pieces_1 12 rfl rfl)
theorem dX10_pieces_35 : decode cX10_pieces 35 = .ok (.invokestatic 52, 3) := dk_184 0 52 (dk_at dksX10_pieces_1 13 rfl rfl)
theorem dX10_pieces_38 : decode cX10_pieces 38 = .ok (.iastore, 1) := dk_79 (dk_at dksX10_pieces_1 16 rfl rfl)
theorem dX10_pieces_39 : decode cX10_pieces 39 = .ok (.dup, 1) := dk_89 (dk_at dksX10_pieces_1 17 rfl rfl)
theorem dX10_pieces_40 : decode cX10_pieces 40 = .ok (.iconst 4, 1) := dk_7 (dk_at dksX10_pieces_1 18 rfl rfl)
theorem dX10_pieces_41 : decode cX10_pieces 41 = .ok (.iconst 1, 1) := dk_4 (dk_at dksX10_pieces_1 19 rfl rfl)
theorem dX10_pieces_42 : decode cX10_pieces 42 = .ok (.aload_n 0, 1) := dk_42 (dk_at dksX10_pieces_1 20 rfl rfl)
theorem dX10_pieces_43 : decode cX10_pieces 43 = .ok (.getfield 22, 3) := dk_180 0 22 (dk_at dksX10_pieces_1 21 rfl rfl)
theorem dX10_pieces_46 : decode cX10_pieces 46 = .ok (.iconst 2, 1) := dk_5 (dk_at dksX10_pieces_2 0 rfl rfl)
theorem dX10_pieces_47 : decode cX10_pieces 47 = .ok (.isub, 1) := dk_100 (dk_at dksX10_pieces_2 1 rfl rfl)
theorem dX10_pieces_48 : decode cX10_pieces 48 = .ok (.invokestatic 52, 3) := dk_184 0 52 (dk_at dksX10_pieces_2 2 rfl rfl)
theorem dX10_pieces_51 : decode cX10_pieces 51 = .ok (.iastore, 1) := dk_79 (dk_at dksX10_pieces_2 5 rfl rfl)
theorem dX10_pieces_52 : decode cX10_pieces 52 = .ok (.astore_n 2, 1) := dk_77 (dk_at dksX10_pieces_2 6 rfl rfl)
theorem dX10_pieces_53 : decode cX10_pieces 53 = .ok (.iconst 4, 1) := dk_7 (dk_at dksX10_pieces_2 7 rfl rfl)
theorem dX10_pieces_54 : decode cX10_pieces 54 = .ok (.newarray .int, 2) := dk_188_10 (dk_at dksX10_pieces_2 8 rfl rfl)
theorem dX10_pieces_56 : decode cX10_pieces 56 = .ok (.dup, 1) := dk_89 (dk_at dksX10_pieces_2 10 rfl rfl)
theorem dX10_pieces_57 : decode cX10_pieces 57 = .ok (.iconst 0, 1) := dk_3 (dk_at dksX10_pieces_2 11 rfl rfl)
theorem dX10_pieces_58 : decode cX10_pieces 58 = .ok (.aload_n 0, 1) := dk_42 (dk_at dksX10_pieces_2 12 rfl rfl)
theorem dX10_pieces_59 : decode cX10_pieces 59 = .ok (.getfield 22, 3) := dk_180 0 22 (dk_at dksX10_pieces_2 13 rfl rfl)
theorem dX10_pieces_62 : decode cX10_pieces 62 = .ok (.iastore, 1) := dk_79 (dk_at dksX10_pieces_2 16 rfl rfl)
theorem dX10_pieces_63 : decode cX10_pieces 63 = .ok (.dup, 1) := dk_89 (dk_at dksX10_pieces_2 17 rfl rfl)
theorem dX10_pieces_64 : decode cX10_pieces 64 = .ok (.iconst 1, 1) := dk_4 (dk_at dksX10_pieces_2 18 rfl rfl)
theorem dX10_pieces_65 : decode cX10_pieces 65 = .ok (.aload_n 0, 1) := dk_42 (dk_at dksX10_pieces_2 19 rfl rfl)
theorem dX10_pieces_66 : decode cX10_pieces 66 = .ok (.getfield 22, 3) := dk_180 0 22 (dk_at dksX10_pieces_2 20 rfl rfl)
theorem dX10_pieces_69 : decode cX10_pieces 69 = .ok (.iastore, 1) := dk_79 (dk_at dksX10_pieces_2 23 rfl rfl)
theorem dX10_pieces_70 : decode cX10_pieces 70 = .ok (.dup, 1) := dk_89 (dk_at dksX10_pieces_3 0 rfl rfl)
theorem dX10_pieces_71 : decode cX10_pieces 71 = .ok (.iconst 2, 1) := dk_5 (dk_at dksX10_pieces_3 1 rfl rfl)
theorem dX10_pieces_72 : decode cX10_pieces 72 = .ok (.aload_n 0, 1) := dk_42 (dk_at dksX10_pieces_3 2 rfl rfl)
theorem dX10_pieces_73 : decode cX10_pieces 73 = .ok (.getfield 22, 3) := dk_180 0 22 (dk_at dksX10_pieces_3 3 rfl rfl)
theorem dX10_pieces_76 : decode cX10_pieces 76 = .ok (.iastore, 1) := dk_79 (dk_at dksX10_pieces_3 6 rfl rfl)
theorem dX10_pieces_77 : decode cX10_pieces 77 = .ok (.dup, 1) := dk_89 (dk_at dksX10_pieces_3 7 rfl rfl)
theorem dX10_pieces_78 : decode cX10_pieces 78 = .ok (.iconst 3, 1) := dk_6 (dk_at dksX10_pieces_3 8 rfl rfl)
theorem dX10_pieces_79 : decode cX10_pieces 79 = .ok (.aload_n 0, 1) := dk_42 (dk_at dksX10_pieces_3 9 rfl rfl)
theorem dX10_pieces_80 : decode cX10_pieces 80 = .ok (.getfield 22, 3) := dk_180 0 22 (dk_at dksX10_pieces_3 10 rfl rfl)
theorem dX10_pieces_83 : decode cX10_pieces 83 = .ok (.iastore, 1) := dk_79 (dk_at dksX10_pieces_3 13 rfl rfl)
theorem dX10_pieces_84 : decode cX10_pieces 84 = .ok (.astore_n 3, 1) := dk_78 (dk_at dksX10_pieces_3 14 rfl rfl)
theorem dX10_pieces_85 : decode cX10_pieces 85 = .ok (.iconst 3, 1) := dk_6 (dk_at dksX10_pieces_3 15 rfl rfl)
theorem dX10_pieces_86 : decode cX10_pieces 86 = .ok (.newarray .int, 2) := dk_188_10 (dk_at dksX10_pieces_3 16 rfl rfl)
theorem dX10_pieces_88 : decode cX10_pieces 88 = .ok (.dup, 1) := dk_89 (dk_at dksX10_pieces_3 18 rfl rfl)
theorem dX10_pieces_89 : decode cX10_pieces 89 = .ok (.iconst 0, 1) := dk_3 (dk_at dksX10_pieces_3 19 rfl rfl)
theorem dX10_pieces_90 : decode cX10_pieces 90 = .ok (.iconst 1, 1) := dk_4 (dk_at dksX10_pieces_3 20 rfl rfl)
theorem dX10_pieces_91 : decode cX10_pieces 91 = .ok (.iastore, 1) := dk_79 (dk_at dksX10_pieces_3 21 rfl rfl)
theorem dX10_pieces_92 : decode cX10_pieces 92 = .ok (.dup, 1) := dk_89 (dk_at dksX10_pieces_3 22 rfl rfl)
theorem dX10_pieces_93 : decode cX10_pieces 93 = .ok (.iconst 1, 1) := dk_4 (dk_at dksX10_pieces_3 23 rfl rfl)
theorem dX10_pieces_94 : decode cX10_pieces 94 = .ok (.iconst 1, 1) := dk_4 (dk_at dksX10_pieces_4 0 rfl rfl)
theorem dX10_pieces_95 : decode cX10_pieces 95 = .ok (.iastore, 1) := dk_79 (dk_at dksX10_pieces_4 1 rfl rfl)
theorem dX10_pieces_96 : decode cX10_pieces 96 = .ok (.dup, 1) := dk_89 (dk_at dksX10_pieces_4 2 rfl rfl)
theorem dX10_pieces_97 : decode cX10_pieces 97 = .ok (.iconst 2, 1) := dk_5 (dk_at dksX10_pieces_4 3 rfl rfl)
theorem dX10_pieces_98 : decode cX10_pieces 98 = .ok (.iconst 1, 1) := dk_4 (dk_at dksX10_pieces_4 4 rfl rfl)
theorem dX10_pieces_99 : decode cX10_pieces 99 = .ok (.iastore, 1) := dk_79 (dk_at dksX10_pieces_4 5 rfl rfl)
theorem dX10_pieces_100 : decode cX10_pieces 100 = .ok (.astore 4, 2) := dk_58 4 (dk_at dksX10_pieces_4 6 rfl rfl)
theorem dX10_pieces_102 : decode cX10_pieces 102 = .ok (.iload_n 1, 1) := dk_27 (dk_at dksX10_pieces_4 8 rfl rfl)
theorem dX10_pieces_103 : decode cX10_pieces 103 = .ok (.ifCond .ne 7, 3) := dk_154 0 7 (dk_at dksX10_pieces_4 9 rfl rfl)
theorem dX10_pieces_106 : decode cX10_pieces 106 = .ok (.aload_n 2, 1) := dk_44 (dk_at dksX10_pieces_4 12 rfl rfl)
theorem dX10_pieces_107 : decode cX10_pieces 107 = .ok (.goto 14, 3) := dk_167 0 14 (dk_at dksX10_pieces_4 13 rfl rfl)
theorem dX10_pieces_110 : decode cX10_pieces 110 = .ok (.iload_n 1, 1) := dk_27 (dk_at dksX10_pieces_4 16 rfl rfl)
theorem dX10_pieces_111 : decode cX10_pieces 111 = .ok (.iconst 1, 1) := dk_4 (dk_at dksX10_pieces_4 17 rfl rfl)
theorem dX10_pieces_112 : decode cX10_pieces 112 = .ok (.if_icmp .ne 7, 3) := dk_160 0 7 (dk_at dksX10_pieces_4 18 rfl rfl)
theorem dX10_pieces_115 : decode cX10_pieces 115 = .ok (.aload_n 3, 1) := dk_45 (dk_at dksX10_pieces_4 21 rfl rfl)
theorem dX10_pieces_116 : decode cX10_pieces 116 = .ok (.goto 5, 3) := dk_167 0 5 (dk_at dksX10_pieces_5 0 rfl rfl)
theorem dX10_pieces_119 : decode cX10_pieces 119 = .ok (.aload 4, 2) := dk_25 4 (dk_at dksX10_pieces_5 3 rfl rfl)
theorem dX10_pieces_121 : decode cX10_pieces 121 = .ok (.areturn, 1) := dk_176 (dk_at dksX10_pieces_5 5 rfl rfl)
abbrev cX10_pass : ByteArray := prog_4_method_5_code
def yX10_pass : MethodName := ⟨RX10, "pass", "()V"⟩
def dkwX10_pass_2 : List UInt8 := [132, 1, 1, 167, 255, 241, 177]
abbrev dktX10_pass_2 : List UInt8 := dkwX10_pass_2 ++ []
def dkwX10_pass_1 : List UInt8 := [162, 0, 4, 177, 42, 5, 181, 0, 37, 3, 60, 27, 6, 162, 0, 16, 42, 180, 0, 15, 27, 3, 79]
abbrev dktX10_pass_1 : List UInt8 := dkwX10_pass_1 ++ dktX10_pass_2
def dkwX10_pass_0 : List UInt8 := [42, 180, 0, 37, 153, 0, 4, 177, 42, 89, 180, 0, 40, 4, 96, 181, 0, 40, 42, 180, 0, 40, 8]
abbrev dktX10_pass_0 : List UInt8 := dkwX10_pass_0 ++ dktX10_pass_1
theorem dksX10_pass_0 : cX10_pass.data.toList.drop 0 = dktX10_pass_0 := by decide +kernel
theorem dksX10_pass_1 : cX10_pass.data.toList.drop 23 = dktX10_pass_1 := dk_seg dksX10_pass_0 23 rfl rfl
theorem dksX10_pass_2 : cX10_pass.data.toList.drop 46 = dktX10_pass_2 := dk_seg dksX10_pass_1 23 rfl rfl
theorem dX10_pass_0 : decode cX10_pass 0 = .ok (.aload_n 0, 1) := dk_42 (dk_at dksX10_pass_0 0 rfl rfl)
theorem dX10_pass_1 : decode cX10_pass 1 = .ok (.getfield 37, 3) := dk_180 0 37 (dk_at dksX10_pass_0 1 rfl rfl)
theorem dX10_pass_4 : decode cX10_pass 4 = .ok (.ifCond .eq 4, 3) := dk_153 0 4 (dk_at dksX10_pass_0 4 rfl rfl)
theorem dX10_pass_7 : decode cX10_pass 7 = .ok (.return_, 1) := dk_177 (dk_at dksX10_pass_0 7 rfl rfl)
theorem dX10_pass_8 : decode cX10_pass 8 = .ok (.aload_n 0, 1) := dk_42 (dk_at dksX10_pass_0 8 rfl rfl)
theorem dX10_pass_9 : decode cX10_pass 9 = .ok (.dup, 1) := dk_89 (dk_at dksX10_pass_0 9 rfl rfl)
theorem dX10_pass_10 : decode cX10_pass 10 = .ok (.getfield 40, 3) := dk_180 0 40 (dk_at dksX10_pass_0 10 rfl rfl)
theorem dX10_pass_13 : decode cX10_pass 13 = .ok (.iconst 1, 1) := dk_4 (dk_at dksX10_pass_0 13 rfl rfl)
theorem dX10_pass_14 : decode cX10_pass 14 = .ok (.iadd, 1) := dk_96 (dk_at dksX10_pass_0 14 rfl rfl)
theorem dX10_pass_15 : decode cX10_pass 15 = .ok (.putfield 40, 3) := dk_181 0 40 (dk_at dksX10_pass_0 15 rfl rfl)
theorem dX10_pass_18 : decode cX10_pass 18 = .ok (.aload_n 0, 1) := dk_42 (dk_at dksX10_pass_0 18 rfl rfl)
theorem dX10_pass_19 : decode cX10_pass 19 = .ok (.getfield 40, 3) := dk_180 0 40 (dk_at dksX10_pass_0 19 rfl rfl)
theorem dX10_pass_22 : decode cX10_pass 22 = .ok (.iconst 5, 1) := dk_8 (dk_at dksX10_pass_0 22 rfl rfl)
theorem dX10_pass_23 : decode cX10_pass 23 = .ok (.if_icmp .ge 4, 3) := dk_162 0 4 (dk_at dksX10_pass_1 0 rfl rfl)
theorem dX10_pass_26 : decode cX10_pass 26 = .ok (.return_, 1) := dk_177 (dk_at dksX10_pass_1 3 rfl rfl)
theorem dX10_pass_27 : decode cX10_pass 27 = .ok (.aload_n 0, 1) := dk_42 (dk_at dksX10_pass_1 4 rfl rfl)
theorem dX10_pass_28 : decode cX10_pass 28 = .ok (.iconst 2, 1) := dk_5 (dk_at dksX10_pass_1 5 rfl rfl)
theorem dX10_pass_29 : decode cX10_pass 29 = .ok (.putfield 37, 3) := dk_181 0 37 (dk_at dksX10_pass_1 6 rfl rfl)
theorem dX10_pass_32 : decode cX10_pass 32 = .ok (.iconst 0, 1) := dk_3 (dk_at dksX10_pass_1 9 rfl rfl)
theorem dX10_pass_33 : decode cX10_pass 33 = .ok (.istore_n 1, 1) := dk_60 (dk_at dksX10_pass_1 10 rfl rfl)
theorem dX10_pass_34 : decode cX10_pass 34 = .ok (.iload_n 1, 1) := dk_27 (dk_at dksX10_pass_1 11 rfl rfl)
theorem dX10_pass_35 : decode cX10_pass 35 = .ok (.iconst 3, 1) := dk_6 (dk_at dksX10_pass_1 12 rfl rfl)
theorem dX10_pass_36 : decode cX10_pass 36 = .ok (.if_icmp .ge 16, 3) := dk_162 0 16 (dk_at dksX10_pass_1 13 rfl rfl)
theorem dX10_pass_39 : decode cX10_pass 39 = .ok (.aload_n 0, 1) := dk_42 (dk_at dksX10_pass_1 16 rfl rfl)
theorem dX10_pass_40 : decode cX10_pass 40 = .ok (.getfield 15, 3) := dk_180 0 15 (dk_at dksX10_pass_1 17 rfl rfl)
theorem dX10_pass_43 : decode cX10_pass 43 = .ok (.iload_n 1, 1) := dk_27 (dk_at dksX10_pass_1 20 rfl rfl)
theorem dX10_pass_44 : decode cX10_pass 44 = .ok (.iconst 0, 1) := dk_3 (dk_at dksX10_pass_1 21 rfl rfl)
theorem dX10_pass_45 : decode cX10_pass 45 = .ok (.iastore, 1) := dk_79 (dk_at dksX10_pass_1 22 rfl rfl)
theorem dX10_pass_46 : decode cX10_pass 46 = .ok (.iinc 1 1, 3) := dk_132 1 1 (dk_at dksX10_pass_2 0 rfl rfl)
theorem dX10_pass_49 : decode cX10_pass 49 = .ok (.goto (-15), 3) := dk_167 255 241 (dk_at dksX10_pass_2 3 rfl rfl)
theorem dX10_pass_52 : decode cX10_pass 52 = .ok (.return_, 1) := dk_177 (dk_at dksX10_pass_2 6 rfl rfl)
abbrev cX10_fill : ByteArray := prog_4_method_3_code
def yX10_fill : MethodName := ⟨RX10, "fill", "(II)V"⟩
def dkwX10_fill_2 : List UInt8 := [180, 0, 15, 3, 6, 184, 0, 31, 177]
abbrev dktX10_fill_2 : List UInt8 := dkwX10_fill_2 ++ []
def dkwX10_fill_1 : List UInt8 := [180, 0, 9, 4, 46, 104, 100, 79, 42, 180, 0, 9, 5, 28, 5, 108, 79, 42, 180, 0, 9, 3, 42]
abbrev dktX10_fill_1 : List UInt8 := dkwX10_fill_1 ++ dktX10_fill_2
def dkwX10_fill_0 : List UInt8 := [27, 28, 100, 62, 42, 180, 0, 9, 4, 29, 16, 10, 108, 5, 108, 79, 42, 180, 0, 9, 3, 29, 5, 42]
abbrev dktX10_fill_0 : List UInt8 := dkwX10_fill_0 ++ dktX10_fill_1
theorem dksX10_fill_0 : cX10_fill.data.toList.drop 0 = dktX10_fill_0 := by decide +kernel
theorem dksX10_fill_1 : cX10_fill.data.toList.drop 24 = dktX10_fill_1 := dk_seg dksX10_fill_0 24 rfl rfl
theorem dksX10_fill_2 : cX10_fill.data.toList.drop 47 = dktX10_fill_2 := dk_seg dksX10_fill_1 23 rfl rfl
theorem dX10_fill_0 : decode cX10_fill 0 = .ok (.iload_n 1, 1) := dk_27 (dk_at dksX10_fill_0 0 rfl rfl)
theorem dX10_fill_1 : decode cX10_fill 1 = .ok (.iload_n 2, 1) := dk_28 (dk_at dksX10_fill_0 1 rfl rfl)
theorem dX10_fill_2 : decode cX10_fill 2 = .ok (.isub, 1) := dk_100 (dk_at dksX10_fill_0 2 rfl rfl)
theorem dX10_fill_3 : decode cX10_fill 3 = .ok (.istore_n 3, 1) := dk_62 (dk_at dksX10_fill_0 3 rfl rfl)
theorem dX10_fill_4 : decode cX10_fill 4 = .ok (.aload_n 0, 1) := dk_42 (dk_at dksX10_fill_0 4 rfl rfl)
theorem dX10_fill_5 : decode cX10_fill 5 = .ok (.getfield 9, 3) := dk_180 0 9 (dk_at dksX10_fill_0 5 rfl rfl)
theorem dX10_fill_8 : decode cX10_fill 8 = .ok (.iconst 1, 1) := dk_4 (dk_at dksX10_fill_0 8 rfl rfl)
theorem dX10_fill_9 : decode cX10_fill 9 = .ok (.iload_n 3, 1) := dk_29 (dk_at dksX10_fill_0 9 rfl rfl)
theorem dX10_fill_10 : decode cX10_fill 10 = .ok (.bipush 10, 2) := dk_16 10 (dk_at dksX10_fill_0 10 rfl rfl)
theorem dX10_fill_12 : decode cX10_fill 12 = .ok (.idiv, 1) := dk_108 (dk_at dksX10_fill_0 12 rfl rfl)
theorem dX10_fill_13 : decode cX10_fill 13 = .ok (.iconst 2, 1) := dk_5 (dk_at dksX10_fill_0 13 rfl rfl)
theorem dX10_fill_14 : decode cX10_fill 14 = .ok (.idiv, 1) := dk_108 (dk_at dksX10_fill_0 14 rfl rfl)
theorem dX10_fill_15 : decode cX10_fill 15 = .ok (.iastore, 1) := dk_79 (dk_at dksX10_fill_0 15 rfl rfl)
theorem dX10_fill_16 : decode cX10_fill 16 = .ok (.aload_n 0, 1) := dk_42 (dk_at dksX10_fill_0 16 rfl rfl)
theorem dX10_fill_17 : decode cX10_fill 17 = .ok (.getfield 9, 3) := dk_180 0 9 (dk_at dksX10_fill_0 17 rfl rfl)
theorem dX10_fill_20 : decode cX10_fill 20 = .ok (.iconst 0, 1) := dk_3 (dk_at dksX10_fill_0 20 rfl rfl)
theorem dX10_fill_21 : decode cX10_fill 21 = .ok (.iload_n 3, 1) := dk_29 (dk_at dksX10_fill_0 21 rfl rfl)
theorem dX10_fill_22 : decode cX10_fill 22 = .ok (.iconst 2, 1) := dk_5 (dk_at dksX10_fill_0 22 rfl rfl)
theorem dX10_fill_23 : decode cX10_fill 23 = .ok (.aload_n 0, 1) := dk_42 (dk_at dksX10_fill_0 23 rfl rfl)
theorem dX10_fill_24 : decode cX10_fill 24 = .ok (.getfield 9, 3) := dk_180 0 9 (dk_at dksX10_fill_1 0 rfl rfl)
theorem dX10_fill_27 : decode cX10_fill 27 = .ok (.iconst 1, 1) := dk_4 (dk_at dksX10_fill_1 3 rfl rfl)
theorem dX10_fill_28 : decode cX10_fill 28 = .ok (.iaload, 1) := dk_46 (dk_at dksX10_fill_1 4 rfl rfl)
theorem dX10_fill_29 : decode cX10_fill 29 = .ok (.imul, 1) := dk_104 (dk_at dksX10_fill_1 5 rfl rfl)
theorem dX10_fill_30 : decode cX10_fill 30 = .ok (.isub, 1) := dk_100 (dk_at dksX10_fill_1 6 rfl rfl)
theorem dX10_fill_31 : decode cX10_fill 31 = .ok (.iastore, 1) := dk_79 (dk_at dksX10_fill_1 7 rfl rfl)
theorem dX10_fill_32 : decode cX10_fill 32 = .ok (.aload_n 0, 1) := dk_42 (dk_at dksX10_fill_1 8 rfl rfl)
theorem dX10_fill_33 : decode cX10_fill 33 = .ok (.getfield 9, 3) := dk_180 0 9 (dk_at dksX10_fill_1 9 rfl rfl)
theorem dX10_fill_36 : decode cX10_fill 36 = .ok (.iconst 2, 1) := dk_5 (dk_at dksX10_fill_1 12 rfl rfl)
theorem dX10_fill_37 : decode cX10_fill 37 = .ok (.iload_n 2, 1) := dk_28 (dk_at dksX10_fill_1 13 rfl rfl)
theorem dX10_fill_38 : decode cX10_fill 38 = .ok (.iconst 2, 1) := dk_5 (dk_at dksX10_fill_1 14 rfl rfl)
theorem dX10_fill_39 : decode cX10_fill 39 = .ok (.idiv, 1) := dk_108 (dk_at dksX10_fill_1 15 rfl rfl)
theorem dX10_fill_40 : decode cX10_fill 40 = .ok (.iastore, 1) := dk_79 (dk_at dksX10_fill_1 16 rfl rfl)
theorem dX10_fill_41 : decode cX10_fill 41 = .ok (.aload_n 0, 1) := dk_42 (dk_at dksX10_fill_1 17 rfl rfl)
theorem dX10_fill_42 : decode cX10_fill 42 = .ok (.getfield 9, 3) := dk_180 0 9 (dk_at dksX10_fill_1 18 rfl rfl)
theorem dX10_fill_45 : decode cX10_fill 45 = .ok (.iconst 0, 1) := dk_3 (dk_at dksX10_fill_1 21 rfl rfl)
theorem dX10_fill_46 : decode cX10_fill 46 = .ok (.aload_n 0, 1) := dk_42 (dk_at dksX10_fill_1 22 rfl rfl)
theorem dX10_fill_47 : decode cX10_fill 47 = .ok (.getfield 15, 3) := dk_180 0 15 (dk_at dksX10_fill_2 0 rfl rfl)
theorem dX10_fill_50 : decode cX10_fill 50 = .ok (.iconst 0, 1) := dk_3 (dk_at dksX10_fill_2 3 rfl rfl)
theorem dX10_fill_51 : decode cX10_fill 51 = .ok (.iconst 3, 1) := dk_6 (dk_at dksX10_fill_2 4 rfl rfl)
theorem dX10_fill_52 : decode cX10_fill 52 = .ok (.invokestatic 31, 3) := dk_184 0 31 (dk_at dksX10_fill_2 5 rfl rfl)
theorem dX10_fill_55 : decode cX10_fill 55 = .ok (.return_, 1) := dk_177 (dk_at dksX10_fill_2 8 rfl rfl)
abbrev cX10_all : ByteArray := prog_4_method_4_code
def yX10_all : MethodName := ⟨RX10, "all", "()I"⟩
def dkwX10_all_0 : List UInt8 := [42, 180, 0, 9, 3, 46, 42, 180, 0, 9, 4, 46, 96, 42, 180, 0, 9, 5, 46, 96, 172]
abbrev dktX10_all_0 : List UInt8 := dkwX10_all_0 ++ []
theorem dksX10_all_0 : cX10_all.data.toList.drop 0 = dktX10_all_0 := by decide +kernel
theorem dX10_all_0 : decode cX10_all 0 = .ok (.aload_n 0, 1) := dk_42 (dk_at dksX10_all_0 0 rfl rfl)
theorem dX10_all_1 : decode cX10_all 1 = .ok (.getfield 9, 3) := dk_180 0 9 (dk_at dksX10_all_0 1 rfl rfl)
theorem dX10_all_4 : decode cX10_all 4 = .ok (.iconst 0, 1) := dk_3 (dk_at dksX10_all_0 4 rfl rfl)
theorem dX10_all_5 : decode cX10_all 5 = .ok (.iaload, 1) := dk_46 (dk_at dksX10_all_0 5 rfl rfl)
theorem dX10_all_6 : decode cX10_all 6 = .ok (.aload_n 0, 1) := dk_42 (dk_at dksX10_all_0 6 rfl rfl)
theorem dX10_all_7 : decode cX10_all 7 = .ok (.getfield 9, 3) := dk_180 0 9 (dk_at dksX10_all_0 7 rfl rfl)
theorem dX10_all_10 : decode cX10_all 10 = .ok (.iconst 1, 1) := dk_4 (dk_at dksX10_all_0 10 rfl rfl)
theorem dX10_all_11 : decode cX10_all 11 = .ok (.iaload, 1) := dk_46 (dk_at dksX10_all_0 11 rfl rfl)
theorem dX10_all_12 : decode cX10_all 12 = .ok (.iadd, 1) := dk_96 (dk_at dksX10_all_0 12 rfl rfl)
theorem dX10_all_13 : decode cX10_all 13 = .ok (.aload_n 0, 1) := dk_42 (dk_at dksX10_all_0 13 rfl rfl)
theorem dX10_all_14 : decode cX10_all 14 = .ok (.getfield 9, 3) := dk_180 0 9 (dk_at dksX10_all_0 14 rfl rfl)
theorem dX10_all_17 : decode cX10_all 17 = .ok (.iconst 2, 1) := dk_5 (dk_at dksX10_all_0 17 rfl rfl)
theorem dX10_all_18 : decode cX10_all 18 = .ok (.iaload, 1) := dk_46 (dk_at dksX10_all_0 18 rfl rfl)
theorem dX10_all_19 : decode cX10_all 19 = .ok (.iadd, 1) := dk_96 (dk_at dksX10_all_0 19 rfl rfl)
theorem dX10_all_20 : decode cX10_all 20 = .ok (.ireturn, 1) := dk_172 (dk_at dksX10_all_0 20 rfl rfl)
theorem q71 : (Jvm.Cond.initialized "SilkRow$Lot") ∈ lw_all := lw_g (lw_at lw_m1 28 rfl) rfl
theorem q167 : (Jvm.Cond.selects "SilkRow$Lot" ({ cls := "java/lang/Object", name := "getClass", desc := "()Ljava/lang/Class;" } : Jvm.MethodName) ({ cls := "java/lang/Object", name := "getClass", desc := "()Ljava/lang/Class;" } : Jvm.MethodName)) ∈ lw_all := lw_g (lw_at lw_m1 124 rfl) rfl
theorem q465 : (Jvm.Cond.instanceMethod ({ cls := "SilkRow$Lot", name := "copy", desc := "()LSilkRow$Lot;" } : Jvm.MethodName)) ∈ lw_all := lw_g (lw_at lw_m2 182 rfl) rfl
theorem q466 : (Jvm.Cond.selects "SilkRow$Lot" ({ cls := "SilkRow$Lot", name := "copy", desc := "()LSilkRow$Lot;" } : Jvm.MethodName) ({ cls := "SilkRow$Lot", name := "copy", desc := "()LSilkRow$Lot;" } : Jvm.MethodName)) ∈ lw_all := lw_g (lw_at lw_m2 183 rfl) rfl
theorem q467 : (Jvm.Cond.code ({ cls := "SilkRow$Lot", name := "copy", desc := "()LSilkRow$Lot;" } : Jvm.MethodName) prog_4_method_2_code (2 : Nat) (Option.some (Jvm.ClassFile.FieldType.object "SilkRow$Lot"))) ∈ lw_all := lw_g (lw_at lw_m2 184 rfl) rfl
theorem q468 : (Jvm.Cond.classLink "SilkRow$Lot" (10 : Nat) "SilkRow$Lot") ∈ lw_all := lw_g (lw_at lw_m2 185 rfl) rfl
theorem q469 : (Jvm.Cond.instantiable "SilkRow$Lot" (7 : Nat)) ∈ lw_all := lw_g (lw_at lw_m2 186 rfl) rfl
theorem q470 : (Jvm.Cond.methodLink "SilkRow$Lot" (28 : Nat) ({ cls := "SilkRow$Lot", name := "<init>", desc := "(III)V" } : Jvm.MethodName)) ∈ lw_all := lw_g (lw_at lw_m2 187 rfl) rfl
theorem q471 : (Jvm.Cond.instanceMethod ({ cls := "SilkRow$Lot", name := "<init>", desc := "(III)V" } : Jvm.MethodName)) ∈ lw_all := lw_g (lw_at lw_m2 188 rfl) rfl
theorem q472 : (Jvm.Cond.code ({ cls := "SilkRow$Lot", name := "<init>", desc := "(III)V" } : Jvm.MethodName) prog_4_method_1_code (4 : Nat) (Option.none : Option Jvm.ClassFile.FieldType)) ∈ lw_all := lw_g (lw_at lw_m2 189 rfl) rfl
theorem q473 : (Jvm.Cond.methodLink "SilkRow$Lot" (3 : Nat) ({ cls := "java/lang/Object", name := "<init>", desc := "()V" } : Jvm.MethodName)) ∈ lw_all := lw_g (lw_at lw_m2 190 rfl) rfl
theorem q474 : (Jvm.Cond.fieldLink "SilkRow$Lot" (18 : Nat) "SilkRow$Lot" "line" "I") ∈ lw_all := lw_g (lw_at lw_m2 191 rfl) rfl
theorem q476 : (Jvm.Cond.fieldLink "SilkRow$Lot" (22 : Nat) "SilkRow$Lot" "size" "I") ∈ lw_all := lw_g (lw_at lw_m2 193 rfl) rfl
theorem q478 : (Jvm.Cond.fieldLink "SilkRow$Lot" (25 : Nat) "SilkRow$Lot" "hardy" "I") ∈ lw_all := lw_g (lw_at lw_m2 195 rfl) rfl
theorem q480 : (Jvm.Cond.fieldLink "SilkRow$Lot" (9 : Nat) "SilkRow$Lot" "cocoons" "[I") ∈ lw_all := lw_g (lw_at lw_m2 197 rfl) rfl
theorem q482 : (Jvm.Cond.fieldLink "SilkRow$Lot" (15 : Nat) "SilkRow$Lot" "left" "[I") ∈ lw_all := lw_g (lw_at lw_m2 199 rfl) rfl
theorem q484 : (Jvm.Cond.fieldLink "SilkRow$Lot" (37 : Nat) "SilkRow$Lot" "state" "I") ∈ lw_all := lw_g (lw_at lw_m2 201 rfl) rfl
theorem q486 : (Jvm.Cond.fieldLink "SilkRow$Lot" (40 : Nat) "SilkRow$Lot" "age" "I") ∈ lw_all := lw_g (lw_at lw_m2 203 rfl) rfl
theorem q488 : (Jvm.Cond.laysFinal "SilkRow$Lot" "SilkRow$Lot" "line" "I") ∈ lw_all := lw_g (lw_at lw_m2 205 rfl) rfl
theorem q489 : (Jvm.Cond.soleField "SilkRow$Lot" "line") ∈ lw_all := lw_g (lw_at lw_m2 206 rfl) rfl
theorem q490 : (Jvm.Cond.laysFinal "SilkRow$Lot" "SilkRow$Lot" "size" "I") ∈ lw_all := lw_g (lw_at lw_m2 207 rfl) rfl
theorem q491 : (Jvm.Cond.soleField "SilkRow$Lot" "size") ∈ lw_all := lw_g (lw_at lw_m2 208 rfl) rfl
theorem q492 : (Jvm.Cond.laysFinal "SilkRow$Lot" "SilkRow$Lot" "hardy" "I") ∈ lw_all := lw_g (lw_at lw_m2 209 rfl) rfl
theorem q493 : (Jvm.Cond.soleField "SilkRow$Lot" "hardy") ∈ lw_all := lw_g (lw_at lw_m2 210 rfl) rfl
theorem q494 : (Jvm.Cond.laysFinal "SilkRow$Lot" "SilkRow$Lot" "cocoons" "[I") ∈ lw_all := lw_g (lw_at lw_m2 211 rfl) rfl
theorem q495 : (Jvm.Cond.soleField "SilkRow$Lot" "cocoons") ∈ lw_all := lw_g (lw_at lw_m2 212 rfl) rfl
theorem q496 : (Jvm.Cond.laysFinal "SilkRow$Lot" "SilkRow$Lot" "left" "[I") ∈ lw_all := lw_g (lw_at lw_m2 213 rfl) rfl
theorem q497 : (Jvm.Cond.soleField "SilkRow$Lot" "left") ∈ lw_all := lw_g (lw_at lw_m2 214 rfl) rfl
theorem q498 : (Jvm.Cond.lays "SilkRow$Lot" "SilkRow$Lot" "state" "I") ∈ lw_all := lw_g (lw_at lw_m2 215 rfl) rfl
theorem q499 : (Jvm.Cond.soleField "SilkRow$Lot" "state") ∈ lw_all := lw_g (lw_at lw_m2 216 rfl) rfl
theorem q500 : (Jvm.Cond.lays "SilkRow$Lot" "SilkRow$Lot" "age" "I") ∈ lw_all := lw_g (lw_at lw_m2 217 rfl) rfl
theorem q501 : (Jvm.Cond.soleField "SilkRow$Lot" "age") ∈ lw_all := lw_g (lw_at lw_m2 218 rfl) rfl
theorem q502 : (Jvm.Cond.superclass "SilkRow$Lot" "java/lang/Object") ∈ lw_all := lw_g (lw_at lw_m2 219 rfl) rfl
theorem q503 : (Jvm.Cond.methodLink "SilkRow$Lot" (31 : Nat) ({ cls := "java/lang/System", name := "arraycopy", desc := "(Ljava/lang/Object;ILjava/lang/Object;II)V" } : Jvm.MethodName)) ∈ lw_all := lw_g (lw_at lw_m2 220 rfl) rfl
theorem q552 : (Jvm.Cond.instanceMethod ({ cls := "SilkRow$Lot", name := "join", desc := "()LSilkRow$Filament;" } : Jvm.MethodName)) ∈ lw_all := lw_g (lw_at lw_m3 29 rfl) rfl
theorem q553 : (Jvm.Cond.selects "SilkRow$Lot" ({ cls := "SilkRow$Lot", name := "join", desc := "()LSilkRow$Filament;" } : Jvm.MethodName) ({ cls := "SilkRow$Lot", name := "join", desc := "()LSilkRow$Filament;" } : Jvm.MethodName)) ∈ lw_all := lw_g (lw_at lw_m3 30 rfl) rfl
theorem q554 : (Jvm.Cond.code ({ cls := "SilkRow$Lot", name := "join", desc := "()LSilkRow$Filament;" } : Jvm.MethodName) prog_4_method_6_code (2 : Nat) (Option.some (Jvm.ClassFile.FieldType.object "SilkRow$Filament"))) ∈ lw_all := lw_g (lw_at lw_m3 31 rfl) rfl
theorem q555 : (Jvm.Cond.classLink "SilkRow$Lot" (43 : Nat) "SilkRow$Filament") ∈ lw_all := lw_g (lw_at lw_m3 32 rfl) rfl
theorem q556 : (Jvm.Cond.methodLink "SilkRow$Lot" (45 : Nat) ({ cls := "SilkRow$Lot", name := "pieces", desc := "(I)[I" } : Jvm.MethodName)) ∈ lw_all := lw_g (lw_at lw_m3 33 rfl) rfl
theorem q557 : (Jvm.Cond.privateMethod ({ cls := "SilkRow$Lot", name := "pieces", desc := "(I)[I" } : Jvm.MethodName)) ∈ lw_tbl := lw_at lw_m3 34 rfl
theorem q558 : (Jvm.Cond.instanceMethod ({ cls := "SilkRow$Lot", name := "pieces", desc := "(I)[I" } : Jvm.MethodName)) ∈ lw_all := lw_g (lw_at lw_m3 35 rfl) rfl
theorem q559 : (Jvm.Cond.code ({ cls := "SilkRow$Lot", name := "pieces", desc := "(I)[I" } : Jvm.MethodName) prog_4_method_7_code (5 : Nat) (Option.some (Jvm.ClassFile.FieldType.array Jvm.ClassFile.FieldType.int))) ∈ lw_all := lw_g (lw_at lw_m3 36 rfl) rfl
theorem q560 : (Jvm.Cond.methodLink "SilkRow$Lot" (52 : Nat) ({ cls := "java/lang/Math", name := "max", desc := "(II)I" } : Jvm.MethodName)) ∈ lw_all := lw_g (lw_at lw_m3 37 rfl) rfl
theorem q561 : (Jvm.Cond.methodLink "SilkRow$Lot" (49 : Nat) ({ cls := "SilkRow$Filament", name := "<init>", desc := "(I[I)V" } : Jvm.MethodName)) ∈ lw_all := lw_g (lw_at lw_m3 38 rfl) rfl
theorem q624 : (Jvm.Cond.selects "SilkRow$Lot" ({ cls := "java/lang/Object", name := "equals", desc := "(Ljava/lang/Object;)Z" } : Jvm.MethodName) ({ cls := "java/lang/Object", name := "equals", desc := "(Ljava/lang/Object;)Z" } : Jvm.MethodName)) ∈ lw_all := lw_g (lw_at lw_m3 101 rfl) rfl
theorem q786 : (Jvm.Cond.instanceMethod ({ cls := "SilkRow$Lot", name := "pass", desc := "()V" } : Jvm.MethodName)) ∈ lw_all := lw_g (lw_at lw_m4 23 rfl) rfl
theorem q787 : (Jvm.Cond.selects "SilkRow$Lot" ({ cls := "SilkRow$Lot", name := "pass", desc := "()V" } : Jvm.MethodName) ({ cls := "SilkRow$Lot", name := "pass", desc := "()V" } : Jvm.MethodName)) ∈ lw_all := lw_g (lw_at lw_m4 24 rfl) rfl
theorem q788 : (Jvm.Cond.code ({ cls := "SilkRow$Lot", name := "pass", desc := "()V" } : Jvm.MethodName) prog_4_method_5_code (2 : Nat) (Option.none : Option Jvm.ClassFile.FieldType)) ∈ lw_all := lw_g (lw_at lw_m4 25 rfl) rfl
theorem q957 : (Jvm.Cond.instanceMethod ({ cls := "SilkRow$Lot", name := "fill", desc := "(II)V" } : Jvm.MethodName)) ∈ lw_all := lw_g (lw_at lw_m4 194 rfl) rfl
theorem q958 : (Jvm.Cond.selects "SilkRow$Lot" ({ cls := "SilkRow$Lot", name := "fill", desc := "(II)V" } : Jvm.MethodName) ({ cls := "SilkRow$Lot", name := "fill", desc := "(II)V" } : Jvm.MethodName)) ∈ lw_all := lw_g (lw_at lw_m4 195 rfl) rfl
theorem q959 : (Jvm.Cond.code ({ cls := "SilkRow$Lot", name := "fill", desc := "(II)V" } : Jvm.MethodName) prog_4_method_3_code (4 : Nat) (Option.none : Option Jvm.ClassFile.FieldType)) ∈ lw_all := lw_g (lw_at lw_m4 196 rfl) rfl
theorem q977 : (Jvm.Cond.instanceMethod ({ cls := "SilkRow$Lot", name := "all", desc := "()I" } : Jvm.MethodName)) ∈ lw_all := lw_g (lw_at lw_m4 214 rfl) rfl
theorem q978 : (Jvm.Cond.selects "SilkRow$Lot" ({ cls := "SilkRow$Lot", name := "all", desc := "()I" } : Jvm.MethodName) ({ cls := "SilkRow$Lot", name := "all", desc := "()I" } : Jvm.MethodName)) ∈ lw_all := lw_g (lw_at lw_m4 215 rfl) rfl
theorem q979 : (Jvm.Cond.code ({ cls := "SilkRow$Lot", name := "all", desc := "()I" } : Jvm.MethodName) prog_4_method_4_code (1 : Nat) (Option.some Jvm.ClassFile.FieldType.int)) ∈ lw_all := lw_g (lw_at lw_m4 216 rfl) rfl
theorem q1688 : (Jvm.Cond.castable "SilkRow$Lot" "java/lang/Object") ∈ lw_tbl := lw_at lw_m7 205 rfl
theorem in_X10 : ∀ w ∈ wsX100, w ∈ lw_all := lw_in wsX100 [488, 490, 492, 494, 496, 498, 500] (by decide +kernel) (by decide +kernel)
/-! SilkRowModel$Lot -/
set_option maxRecDepth 100000
def RX11 : String := "SilkRowModel$Lot"
def TX11 : u_T := fun k => match k with
  | 0 => ("SilkRowModel$Lot", "line", "I", true)
  | 1 => ("SilkRowModel$Lot", "size", "I", true)
  | 2 => ("SilkRowModel$Lot", "hardy", "I", true)
  | 3 => ("SilkRowModel$Lot", "made", "[I", true)
  | 4 => ("SilkRowModel$Lot", "left", "[I", true)
  | 5 => ("SilkRowModel$Lot", "state", "I", false)
  | _ => ("SilkRowModel$Lot", "age", "I", false)
def tyX11 : Nat → FieldType := fun k => match k with
  | 0 => .int
  | 1 => .int
  | 2 => .int
  | 3 => .array .int
  | 4 => .array .int
  | 5 => .int
  | _ => .int
abbrev wsX110 : List Cond := u_ws RX11 TX11 7
theorem nmX11 : ∀ a, a < 7 → ∀ b, b < 7 → a ≠ b → (TX11 a).2.1 ≠ (TX11 b).2.1 := by decide +kernel
theorem tyX11_ok : ∀ k, k < 7 → parseFieldDescriptor (TX11 k).2.2.1 = some (tyX11 k) := by decide +kernel
abbrev cX11_day : ByteArray := prog_12_method_3_code
def yX11_day : MethodName := ⟨RX11, "day", "()V"⟩
def dkwX11_day_2 : List UInt8 := [132, 1, 1, 167, 255, 241, 177]
abbrev dktX11_day_2 : List UInt8 := dkwX11_day_2 ++ []
def dkwX11_day_1 : List UInt8 := [162, 0, 4, 177, 42, 5, 181, 0, 18, 3, 60, 27, 6, 162, 0, 16, 42, 180, 0, 15, 27, 3, 79]
abbrev dktX11_day_1 : List UInt8 := dkwX11_day_1 ++ dktX11_day_2
def dkwX11_day_0 : List UInt8 := [42, 180, 0, 18, 153, 0, 4, 177, 42, 89, 180, 0, 31, 4, 96, 181, 0, 31, 42, 180, 0, 31, 8]
abbrev dktX11_day_0 : List UInt8 := dkwX11_day_0 ++ dktX11_day_1
theorem dksX11_day_0 : cX11_day.data.toList.drop 0 = dktX11_day_0 := by decide +kernel
theorem dksX11_day_1 : cX11_day.data.toList.drop 23 = dktX11_day_1 := dk_seg dksX11_day_0 23 rfl rfl
theorem dksX11_day_2 : cX11_day.data.toList.drop 46 = dktX11_day_2 := dk_seg dksX11_day_1 23 rfl rfl
theorem dX11_day_0 : decode cX11_day 0 = .ok (.aload_n 0, 1) := dk_42 (dk_at dksX11_day_0 0 rfl rfl)
theorem dX11_day_1 : decode cX11_day 1 = .ok (.getfield 18, 3) := dk_180 0 18 (dk_at dksX11_day_0 1 rfl rfl)
theorem dX11_day_4 : decode cX11_day 4 = .ok (.ifCond .eq 4, 3) := dk_153 0 4 (dk_at dksX11_day_0 4 rfl rfl)
theorem dX11_day_7 : decode cX11_day 7 = .ok (.return_, 1) := dk_177 (dk_at dksX11_day_0 7 rfl rfl)
theorem dX11_day_8 : decode cX11_day 8 = .ok (.aload_n 0, 1) := dk_42 (dk_at dksX11_day_0 8 rfl rfl)
theorem dX11_day_9 : decode cX11_day 9 = .ok (.dup, 1) := dk_89 (dk_at dksX11_day_0 9 rfl rfl)
theorem dX11_day_10 : decode cX11_day 10 = .ok (.getfield 31, 3) := dk_180 0 31 (dk_at dksX11_day_0 10 rfl rfl)
theorem dX11_day_13 : decode cX11_day 13 = .ok (.iconst 1, 1) := dk_4 (dk_at dksX11_day_0 13 rfl rfl)
theorem dX11_day_14 : decode cX11_day 14 = .ok (.iadd, 1) := dk_96 (dk_at dksX11_day_0 14 rfl rfl)
theorem dX11_day_15 : decode cX11_day 15 = .ok (.putfield 31, 3) := dk_181 0 31 (dk_at dksX11_day_0 15 rfl rfl)
theorem dX11_day_18 : decode cX11_day 18 = .ok (.aload_n 0, 1) := dk_42 (dk_at dksX11_day_0 18 rfl rfl)
theorem dX11_day_19 : decode cX11_day 19 = .ok (.getfield 31, 3) := dk_180 0 31 (dk_at dksX11_day_0 19 rfl rfl)
theorem dX11_day_22 : decode cX11_day 22 = .ok (.iconst 5, 1) := dk_8 (dk_at dksX11_day_0 22 rfl rfl)
theorem dX11_day_23 : decode cX11_day 23 = .ok (.if_icmp .ge 4, 3) := dk_162 0 4 (dk_at dksX11_day_1 0 rfl rfl)
theorem dX11_day_26 : decode cX11_day 26 = .ok (.return_, 1) := dk_177 (dk_at dksX11_day_1 3 rfl rfl)
theorem dX11_day_27 : decode cX11_day 27 = .ok (.aload_n 0, 1) := dk_42 (dk_at dksX11_day_1 4 rfl rfl)
theorem dX11_day_28 : decode cX11_day 28 = .ok (.iconst 2, 1) := dk_5 (dk_at dksX11_day_1 5 rfl rfl)
theorem dX11_day_29 : decode cX11_day 29 = .ok (.putfield 18, 3) := dk_181 0 18 (dk_at dksX11_day_1 6 rfl rfl)
theorem dX11_day_32 : decode cX11_day 32 = .ok (.iconst 0, 1) := dk_3 (dk_at dksX11_day_1 9 rfl rfl)
theorem dX11_day_33 : decode cX11_day 33 = .ok (.istore_n 1, 1) := dk_60 (dk_at dksX11_day_1 10 rfl rfl)
theorem dX11_day_34 : decode cX11_day 34 = .ok (.iload_n 1, 1) := dk_27 (dk_at dksX11_day_1 11 rfl rfl)
theorem dX11_day_35 : decode cX11_day 35 = .ok (.iconst 3, 1) := dk_6 (dk_at dksX11_day_1 12 rfl rfl)
theorem dX11_day_36 : decode cX11_day 36 = .ok (.if_icmp .ge 16, 3) := dk_162 0 16 (dk_at dksX11_day_1 13 rfl rfl)
theorem dX11_day_39 : decode cX11_day 39 = .ok (.aload_n 0, 1) := dk_42 (dk_at dksX11_day_1 16 rfl rfl)
theorem dX11_day_40 : decode cX11_day 40 = .ok (.getfield 15, 3) := dk_180 0 15 (dk_at dksX11_day_1 17 rfl rfl)
theorem dX11_day_43 : decode cX11_day 43 = .ok (.iload_n 1, 1) := dk_27 (dk_at dksX11_day_1 20 rfl rfl)
theorem dX11_day_44 : decode cX11_day 44 = .ok (.iconst 0, 1) := dk_3 (dk_at dksX11_day_1 21 rfl rfl)
theorem dX11_day_45 : decode cX11_day 45 = .ok (.iastore, 1) := dk_79 (dk_at dksX11_day_1 22 rfl rfl)
theorem dX11_day_46 : decode cX11_day 46 = .ok (.iinc 1 1, 3) := dk_132 1 1 (dk_at dksX11_day_2 0 rfl rfl)
theorem dX11_day_49 : decode cX11_day 49 = .ok (.goto (-15), 3) := dk_167 255 241 (dk_at dksX11_day_2 3 rfl rfl)
theorem dX11_day_52 : decode cX11_day 52 = .ok (.return_, 1) := dk_177 (dk_at dksX11_day_2 6 rfl rfl)
abbrev cX11_init : ByteArray := prog_12_method_1_code
def yX11_init : MethodName := ⟨RX11, "<init>", "(III)V"⟩
def dkwX11_init_1 : List UInt8 := [27, 181, 0, 22, 42, 28, 181, 0, 25, 42, 29, 181, 0, 28, 177]
abbrev dktX11_init_1 : List UInt8 := dkwX11_init_1 ++ []
def dkwX11_init_0 : List UInt8 := [42, 183, 0, 3, 42, 6, 188, 10, 181, 0, 9, 42, 6, 188, 10, 181, 0, 15, 42, 3, 181, 0, 18, 42]
abbrev dktX11_init_0 : List UInt8 := dkwX11_init_0 ++ dktX11_init_1
theorem dksX11_init_0 : cX11_init.data.toList.drop 0 = dktX11_init_0 := by decide +kernel
theorem dksX11_init_1 : cX11_init.data.toList.drop 24 = dktX11_init_1 := dk_seg dksX11_init_0 24 rfl rfl
theorem dX11_init_0 : decode cX11_init 0 = .ok (.aload_n 0, 1) := dk_42 (dk_at dksX11_init_0 0 rfl rfl)
theorem dX11_init_1 : decode cX11_init 1 = .ok (.invokespecial 3, 3) := dk_183 0 3 (dk_at dksX11_init_0 1 rfl rfl)
theorem dX11_init_4 : decode cX11_init 4 = .ok (.aload_n 0, 1) := dk_42 (dk_at dksX11_init_0 4 rfl rfl)
theorem dX11_init_5 : decode cX11_init 5 = .ok (.iconst 3, 1) := dk_6 (dk_at dksX11_init_0 5 rfl rfl)
theorem dX11_init_6 : decode cX11_init 6 = .ok (.newarray .int, 2) := dk_188_10 (dk_at dksX11_init_0 6 rfl rfl)
theorem dX11_init_8 : decode cX11_init 8 = .ok (.putfield 9, 3) := dk_181 0 9 (dk_at dksX11_init_0 8 rfl rfl)
theorem dX11_init_11 : decode cX11_init 11 = .ok (.aload_n 0, 1) := dk_42 (dk_at dksX11_init_0 11 rfl rfl)
theorem dX11_init_12 : decode cX11_init 12 = .ok (.iconst 3, 1) := dk_6 (dk_at dksX11_init_0 12 rfl rfl)
theorem dX11_init_13 : decode cX11_init 13 = .ok (.newarray .int, 2) := dk_188_10 (dk_at dksX11_init_0 13 rfl rfl)
theorem dX11_init_15 : decode cX11_init 15 = .ok (.putfield 15, 3) := dk_181 0 15 (dk_at dksX11_init_0 15 rfl rfl)
theorem dX11_init_18 : decode cX11_init 18 = .ok (.aload_n 0, 1) := dk_42 (dk_at dksX11_init_0 18 rfl rfl)
theorem dX11_init_19 : decode cX11_init 19 = .ok (.iconst 0, 1) := dk_3 (dk_at dksX11_init_0 19 rfl rfl)
theorem dX11_init_20 : decode cX11_init 20 = .ok (.putfield 18, 3) := dk_181 0 18 (dk_at dksX11_init_0 20 rfl rfl)
theorem dX11_init_23 : decode cX11_init 23 = .ok (.aload_n 0, 1) := dk_42 (dk_at dksX11_init_0 23 rfl rfl)
theorem dX11_init_24 : decode cX11_init 24 = .ok (.iload_n 1, 1) := dk_27 (dk_at dksX11_init_1 0 rfl rfl)
theorem dX11_init_25 : decode cX11_init 25 = .ok (.putfield 22, 3) := dk_181 0 22 (dk_at dksX11_init_1 1 rfl rfl)
theorem dX11_init_28 : decode cX11_init 28 = .ok (.aload_n 0, 1) := dk_42 (dk_at dksX11_init_1 4 rfl rfl)
theorem dX11_init_29 : decode cX11_init 29 = .ok (.iload_n 2, 1) := dk_28 (dk_at dksX11_init_1 5 rfl rfl)
theorem dX11_init_30 : decode cX11_init 30 = .ok (.putfield 25, 3) := dk_181 0 25 (dk_at dksX11_init_1 6 rfl rfl)
theorem dX11_init_33 : decode cX11_init 33 = .ok (.aload_n 0, 1) := dk_42 (dk_at dksX11_init_1 9 rfl rfl)
theorem dX11_init_34 : decode cX11_init 34 = .ok (.iload_n 3, 1) := dk_29 (dk_at dksX11_init_1 10 rfl rfl)
theorem dX11_init_35 : decode cX11_init 35 = .ok (.putfield 28, 3) := dk_181 0 28 (dk_at dksX11_init_1 11 rfl rfl)
theorem dX11_init_38 : decode cX11_init 38 = .ok (.return_, 1) := dk_177 (dk_at dksX11_init_1 14 rfl rfl)
abbrev cX11_cocoons : ByteArray := prog_12_method_2_code
def yX11_cocoons : MethodName := ⟨RX11, "cocoons", "()I"⟩
def dkwX11_cocoons_0 : List UInt8 := [42, 180, 0, 9, 3, 46, 42, 180, 0, 9, 4, 46, 96, 42, 180, 0, 9, 5, 46, 96, 172]
abbrev dktX11_cocoons_0 : List UInt8 := dkwX11_cocoons_0 ++ []
theorem dksX11_cocoons_0 : cX11_cocoons.data.toList.drop 0 = dktX11_cocoons_0 := by decide +kernel
theorem dX11_cocoons_0 : decode cX11_cocoons 0 = .ok (.aload_n 0, 1) := dk_42 (dk_at dksX11_cocoons_0 0 rfl rfl)
theorem dX11_cocoons_1 : decode cX11_cocoons 1 = .ok (.getfield 9, 3) := dk_180 0 9 (dk_at dksX11_cocoons_0 1 rfl rfl)
theorem dX11_cocoons_4 : decode cX11_cocoons 4 = .ok (.iconst 0, 1) := dk_3 (dk_at dksX11_cocoons_0 4 rfl rfl)
theorem dX11_cocoons_5 : decode cX11_cocoons 5 = .ok (.iaload, 1) := dk_46 (dk_at dksX11_cocoons_0 5 rfl rfl)
theorem dX11_cocoons_6 : decode cX11_cocoons 6 = .ok (.aload_n 0, 1) := dk_42 (dk_at dksX11_cocoons_0 6 rfl rfl)
theorem dX11_cocoons_7 : decode cX11_cocoons 7 = .ok (.getfield 9, 3) := dk_180 0 9 (dk_at dksX11_cocoons_0 7 rfl rfl)
theorem dX11_cocoons_10 : decode cX11_cocoons 10 = .ok (.iconst 1, 1) := dk_4 (dk_at dksX11_cocoons_0 10 rfl rfl)
theorem dX11_cocoons_11 : decode cX11_cocoons 11 = .ok (.iaload, 1) := dk_46 (dk_at dksX11_cocoons_0 11 rfl rfl)
theorem dX11_cocoons_12 : decode cX11_cocoons 12 = .ok (.iadd, 1) := dk_96 (dk_at dksX11_cocoons_0 12 rfl rfl)
theorem dX11_cocoons_13 : decode cX11_cocoons 13 = .ok (.aload_n 0, 1) := dk_42 (dk_at dksX11_cocoons_0 13 rfl rfl)
theorem dX11_cocoons_14 : decode cX11_cocoons 14 = .ok (.getfield 9, 3) := dk_180 0 9 (dk_at dksX11_cocoons_0 14 rfl rfl)
theorem dX11_cocoons_17 : decode cX11_cocoons 17 = .ok (.iconst 2, 1) := dk_5 (dk_at dksX11_cocoons_0 17 rfl rfl)
theorem dX11_cocoons_18 : decode cX11_cocoons 18 = .ok (.iaload, 1) := dk_46 (dk_at dksX11_cocoons_0 18 rfl rfl)
theorem dX11_cocoons_19 : decode cX11_cocoons 19 = .ok (.iadd, 1) := dk_96 (dk_at dksX11_cocoons_0 19 rfl rfl)
theorem dX11_cocoons_20 : decode cX11_cocoons 20 = .ok (.ireturn, 1) := dk_172 (dk_at dksX11_cocoons_0 20 rfl rfl)
theorem q72 : (Jvm.Cond.initialized "SilkRowModel$Lot") ∈ lw_all := lw_g (lw_at lw_m1 29 rfl) rfl
theorem q174 : (Jvm.Cond.selects "SilkRowModel$Lot" ({ cls := "java/lang/Object", name := "getClass", desc := "()Ljava/lang/Class;" } : Jvm.MethodName) ({ cls := "java/lang/Object", name := "getClass", desc := "()Ljava/lang/Class;" } : Jvm.MethodName)) ∈ lw_all := lw_g (lw_at lw_m1 131 rfl) rfl
theorem q631 : (Jvm.Cond.selects "SilkRowModel$Lot" ({ cls := "java/lang/Object", name := "equals", desc := "(Ljava/lang/Object;)Z" } : Jvm.MethodName) ({ cls := "java/lang/Object", name := "equals", desc := "(Ljava/lang/Object;)Z" } : Jvm.MethodName)) ∈ lw_all := lw_g (lw_at lw_m3 108 rfl) rfl
theorem q1312 : (Jvm.Cond.instanceMethod ({ cls := "SilkRowModel$Lot", name := "day", desc := "()V" } : Jvm.MethodName)) ∈ lw_all := lw_g (lw_at lw_m6 69 rfl) rfl
theorem q1313 : (Jvm.Cond.selects "SilkRowModel$Lot" ({ cls := "SilkRowModel$Lot", name := "day", desc := "()V" } : Jvm.MethodName) ({ cls := "SilkRowModel$Lot", name := "day", desc := "()V" } : Jvm.MethodName)) ∈ lw_all := lw_g (lw_at lw_m6 70 rfl) rfl
theorem q1314 : (Jvm.Cond.code ({ cls := "SilkRowModel$Lot", name := "day", desc := "()V" } : Jvm.MethodName) prog_12_method_3_code (2 : Nat) (Option.none : Option Jvm.ClassFile.FieldType)) ∈ lw_all := lw_g (lw_at lw_m6 71 rfl) rfl
theorem q1383 : (Jvm.Cond.instantiable "SilkRowModel$Lot" (7 : Nat)) ∈ lw_all := lw_g (lw_at lw_m6 140 rfl) rfl
theorem q1385 : (Jvm.Cond.instanceMethod ({ cls := "SilkRowModel$Lot", name := "<init>", desc := "(III)V" } : Jvm.MethodName)) ∈ lw_all := lw_g (lw_at lw_m6 142 rfl) rfl
theorem q1386 : (Jvm.Cond.code ({ cls := "SilkRowModel$Lot", name := "<init>", desc := "(III)V" } : Jvm.MethodName) prog_12_method_1_code (4 : Nat) (Option.none : Option Jvm.ClassFile.FieldType)) ∈ lw_all := lw_g (lw_at lw_m6 143 rfl) rfl
theorem q1387 : (Jvm.Cond.methodLink "SilkRowModel$Lot" (3 : Nat) ({ cls := "java/lang/Object", name := "<init>", desc := "()V" } : Jvm.MethodName)) ∈ lw_all := lw_g (lw_at lw_m6 144 rfl) rfl
theorem q1388 : (Jvm.Cond.fieldLink "SilkRowModel$Lot" (22 : Nat) "SilkRowModel$Lot" "line" "I") ∈ lw_all := lw_g (lw_at lw_m6 145 rfl) rfl
theorem q1391 : (Jvm.Cond.fieldLink "SilkRowModel$Lot" (25 : Nat) "SilkRowModel$Lot" "size" "I") ∈ lw_all := lw_g (lw_at lw_m6 148 rfl) rfl
theorem q1395 : (Jvm.Cond.fieldLink "SilkRowModel$Lot" (28 : Nat) "SilkRowModel$Lot" "hardy" "I") ∈ lw_all := lw_g (lw_at lw_m6 152 rfl) rfl
theorem q1397 : (Jvm.Cond.fieldLink "SilkRowModel$Lot" (9 : Nat) "SilkRowModel$Lot" "made" "[I") ∈ lw_all := lw_g (lw_at lw_m6 154 rfl) rfl
theorem q1399 : (Jvm.Cond.fieldLink "SilkRowModel$Lot" (15 : Nat) "SilkRowModel$Lot" "left" "[I") ∈ lw_all := lw_g (lw_at lw_m6 156 rfl) rfl
theorem q1402 : (Jvm.Cond.fieldLink "SilkRowModel$Lot" (18 : Nat) "SilkRowModel$Lot" "state" "I") ∈ lw_all := lw_g (lw_at lw_m6 159 rfl) rfl
theorem q1404 : (Jvm.Cond.fieldLink "SilkRowModel$Lot" (31 : Nat) "SilkRowModel$Lot" "age" "I") ∈ lw_all := lw_g (lw_at lw_m6 161 rfl) rfl
theorem q1406 : (Jvm.Cond.laysFinal "SilkRowModel$Lot" "SilkRowModel$Lot" "line" "I") ∈ lw_all := lw_g (lw_at lw_m6 163 rfl) rfl
theorem q1407 : (Jvm.Cond.soleField "SilkRowModel$Lot" "line") ∈ lw_all := lw_g (lw_at lw_m6 164 rfl) rfl
theorem q1408 : (Jvm.Cond.laysFinal "SilkRowModel$Lot" "SilkRowModel$Lot" "size" "I") ∈ lw_all := lw_g (lw_at lw_m6 165 rfl) rfl
theorem q1409 : (Jvm.Cond.soleField "SilkRowModel$Lot" "size") ∈ lw_all := lw_g (lw_at lw_m6 166 rfl) rfl
theorem q1410 : (Jvm.Cond.laysFinal "SilkRowModel$Lot" "SilkRowModel$Lot" "hardy" "I") ∈ lw_all := lw_g (lw_at lw_m6 167 rfl) rfl
theorem q1411 : (Jvm.Cond.soleField "SilkRowModel$Lot" "hardy") ∈ lw_all := lw_g (lw_at lw_m6 168 rfl) rfl
theorem q1412 : (Jvm.Cond.laysFinal "SilkRowModel$Lot" "SilkRowModel$Lot" "made" "[I") ∈ lw_all := lw_g (lw_at lw_m6 169 rfl) rfl
theorem q1413 : (Jvm.Cond.soleField "SilkRowModel$Lot" "made") ∈ lw_all := lw_g (lw_at lw_m6 170 rfl) rfl
theorem q1414 : (Jvm.Cond.laysFinal "SilkRowModel$Lot" "SilkRowModel$Lot" "left" "[I") ∈ lw_all := lw_g (lw_at lw_m6 171 rfl) rfl
theorem q1415 : (Jvm.Cond.soleField "SilkRowModel$Lot" "left") ∈ lw_all := lw_g (lw_at lw_m6 172 rfl) rfl
theorem q1416 : (Jvm.Cond.lays "SilkRowModel$Lot" "SilkRowModel$Lot" "state" "I") ∈ lw_all := lw_g (lw_at lw_m6 173 rfl) rfl
theorem q1417 : (Jvm.Cond.soleField "SilkRowModel$Lot" "state") ∈ lw_all := lw_g (lw_at lw_m6 174 rfl) rfl
theorem q1418 : (Jvm.Cond.lays "SilkRowModel$Lot" "SilkRowModel$Lot" "age" "I") ∈ lw_all := lw_g (lw_at lw_m6 175 rfl) rfl
theorem q1419 : (Jvm.Cond.soleField "SilkRowModel$Lot" "age") ∈ lw_all := lw_g (lw_at lw_m6 176 rfl) rfl
theorem q1420 : (Jvm.Cond.superclass "SilkRowModel$Lot" "java/lang/Object") ∈ lw_all := lw_g (lw_at lw_m6 177 rfl) rfl
theorem q1431 : (Jvm.Cond.instanceMethod ({ cls := "SilkRowModel$Lot", name := "cocoons", desc := "()I" } : Jvm.MethodName)) ∈ lw_all := lw_g (lw_at lw_m6 188 rfl) rfl
theorem q1432 : (Jvm.Cond.selects "SilkRowModel$Lot" ({ cls := "SilkRowModel$Lot", name := "cocoons", desc := "()I" } : Jvm.MethodName) ({ cls := "SilkRowModel$Lot", name := "cocoons", desc := "()I" } : Jvm.MethodName)) ∈ lw_all := lw_g (lw_at lw_m6 189 rfl) rfl
theorem q1433 : (Jvm.Cond.code ({ cls := "SilkRowModel$Lot", name := "cocoons", desc := "()I" } : Jvm.MethodName) prog_12_method_2_code (1 : Nat) (Option.some Jvm.ClassFile.FieldType.int)) ∈ lw_all := lw_g (lw_at lw_m6 190 rfl) rfl
theorem q1689 : (Jvm.Cond.castable "SilkRowModel$Lot" "java/lang/Object") ∈ lw_tbl := lw_at lw_m7 206 rfl
theorem in_X11 : ∀ w ∈ wsX110, w ∈ lw_all := lw_in wsX110 [1406, 1408, 1410, 1412, 1414, 1416, 1418] (by decide +kernel) (by decide +kernel)
/-! SilkRow$Skein -/
set_option maxRecDepth 100000
def RX12 : String := "SilkRow$Skein"
def TX12 : u_T := fun k => match k with
  | 0 => ("SilkRow$Skein", "length", "I", false)
  | 1 => ("SilkRow$Skein", "least", "I", false)
  | 2 => ("SilkRow$Skein", "greatest", "I", false)
  | 3 => ("SilkRow$Skein", "sum", "I", false)
  | 4 => ("SilkRow$Skein", "isSold", "Z", false)
  | _ => ("SilkRow$Skein", "pieces", "[I", true)
def tyX12 : Nat → FieldType := fun k => match k with
  | 0 => .int
  | 1 => .int
  | 2 => .int
  | 3 => .int
  | 4 => .boolean
  | _ => .array .int
abbrev wsX120 : List Cond := u_ws RX12 TX12 6
theorem nmX12 : ∀ a, a < 6 → ∀ b, b < 6 → a ≠ b → (TX12 a).2.1 ≠ (TX12 b).2.1 := by decide +kernel
theorem tyX12_ok : ∀ k, k < 6 → parseFieldDescriptor (TX12 k).2.2.1 = some (tyX12 k) := by decide +kernel
abbrev cX12_grade : ByteArray := prog_6_method_3_code
def yX12_grade : MethodName := ⟨RX12, "grade", "()I"⟩
def dkwX12_grade_1 : List UInt8 := [4, 167, 0, 14, 27, 16, 8, 162, 0, 7, 5, 167, 0, 4, 6, 172]
abbrev dktX12_grade_1 : List UInt8 := dkwX12_grade_1 ++ []
def dkwX12_grade_0 : List UInt8 := [42, 180, 0, 28, 42, 180, 0, 19, 100, 60, 27, 5, 162, 0, 7, 3, 167, 0, 23, 27, 7, 162, 0, 7]
abbrev dktX12_grade_0 : List UInt8 := dkwX12_grade_0 ++ dktX12_grade_1
theorem dksX12_grade_0 : cX12_grade.data.toList.drop 0 = dktX12_grade_0 := by decide +kernel
theorem dksX12_grade_1 : cX12_grade.data.toList.drop 24 = dktX12_grade_1 := dk_seg dksX12_grade_0 24 rfl rfl
theorem dX12_grade_0 : decode cX12_grade 0 = .ok (.aload_n 0, 1) := dk_42 (dk_at dksX12_grade_0 0 rfl rfl)
theorem dX12_grade_1 : decode cX12_grade 1 = .ok (.getfield 28, 3) := dk_180 0 28 (dk_at dksX12_grade_0 1 rfl rfl)
theorem dX12_grade_4 : decode cX12_grade 4 = .ok (.aload_n 0, 1) := dk_42 (dk_at dksX12_grade_0 4 rfl rfl)
theorem dX12_grade_5 : decode cX12_grade 5 = .ok (.getfield 19, 3) := dk_180 0 19 (dk_at dksX12_grade_0 5 rfl rfl)
theorem dX12_grade_8 : decode cX12_grade 8 = .ok (.isub, 1) := dk_100 (dk_at dksX12_grade_0 8 rfl rfl)
theorem dX12_grade_9 : decode cX12_grade 9 = .ok (.istore_n 1, 1) := dk_60 (dk_at dksX12_grade_0 9 rfl rfl)
theorem dX12_grade_10 : decode cX12_grade 10 = .ok (.iload_n 1, 1) := dk_27 (dk_at dksX12_grade_0 10 rfl rfl)
theorem dX12_grade_11 : decode cX12_grade 11 = .ok (.iconst 2, 1) := dk_5 (dk_at dksX12_grade_0 11 rfl rfl)
theorem dX12_grade_12 : decode cX12_grade 12 = .ok (.if_icmp .ge 7, 3) := dk_162 0 7 (dk_at dksX12_grade_0 12 rfl rfl)
theorem dX12_grade_15 : decode cX12_grade 15 = .ok (.iconst 0, 1) := dk_3 (dk_at dksX12_grade_0 15 rfl rfl)
theorem dX12_grade_16 : decode cX12_grade 16 = .ok (.goto 23, 3) := dk_167 0 23 (dk_at dksX12_grade_0 16 rfl rfl)
theorem dX12_grade_19 : decode cX12_grade 19 = .ok (.iload_n 1, 1) := dk_27 (dk_at dksX12_grade_0 19 rfl rfl)
theorem dX12_grade_20 : decode cX12_grade 20 = .ok (.iconst 4, 1) := dk_7 (dk_at dksX12_grade_0 20 rfl rfl)
theorem dX12_grade_21 : decode cX12_grade 21 = .ok (.if_icmp .ge 7, 3) := dk_162 0 7 (dk_at dksX12_grade_0 21 rfl rfl)
theorem dX12_grade_24 : decode cX12_grade 24 = .ok (.iconst 1, 1) := dk_4 (dk_at dksX12_grade_1 0 rfl rfl)
theorem dX12_grade_25 : decode cX12_grade 25 = .ok (.goto 14, 3) := dk_167 0 14 (dk_at dksX12_grade_1 1 rfl rfl)
theorem dX12_grade_28 : decode cX12_grade 28 = .ok (.iload_n 1, 1) := dk_27 (dk_at dksX12_grade_1 4 rfl rfl)
theorem dX12_grade_29 : decode cX12_grade 29 = .ok (.bipush 8, 2) := dk_16 8 (dk_at dksX12_grade_1 5 rfl rfl)
theorem dX12_grade_31 : decode cX12_grade 31 = .ok (.if_icmp .ge 7, 3) := dk_162 0 7 (dk_at dksX12_grade_1 7 rfl rfl)
theorem dX12_grade_34 : decode cX12_grade 34 = .ok (.iconst 2, 1) := dk_5 (dk_at dksX12_grade_1 10 rfl rfl)
theorem dX12_grade_35 : decode cX12_grade 35 = .ok (.goto 4, 3) := dk_167 0 4 (dk_at dksX12_grade_1 11 rfl rfl)
theorem dX12_grade_38 : decode cX12_grade 38 = .ok (.iconst 3, 1) := dk_6 (dk_at dksX12_grade_1 14 rfl rfl)
theorem dX12_grade_39 : decode cX12_grade 39 = .ok (.ireturn, 1) := dk_172 (dk_at dksX12_grade_1 15 rfl rfl)
abbrev cX12_init : ByteArray := prog_6_method_1_code
def yX12_init : MethodName := ⟨RX12, "<init>", "()V"⟩
def dkwX12_init_0 : List UInt8 := [42, 183, 0, 3, 42, 7, 188, 10, 181, 0, 9, 177]
abbrev dktX12_init_0 : List UInt8 := dkwX12_init_0 ++ []
theorem dksX12_init_0 : cX12_init.data.toList.drop 0 = dktX12_init_0 := by decide +kernel
theorem dX12_init_0 : decode cX12_init 0 = .ok (.aload_n 0, 1) := dk_42 (dk_at dksX12_init_0 0 rfl rfl)
theorem dX12_init_1 : decode cX12_init 1 = .ok (.invokespecial 3, 3) := dk_183 0 3 (dk_at dksX12_init_0 1 rfl rfl)
theorem dX12_init_4 : decode cX12_init 4 = .ok (.aload_n 0, 1) := dk_42 (dk_at dksX12_init_0 4 rfl rfl)
theorem dX12_init_5 : decode cX12_init 5 = .ok (.iconst 4, 1) := dk_7 (dk_at dksX12_init_0 5 rfl rfl)
theorem dX12_init_6 : decode cX12_init 6 = .ok (.newarray .int, 2) := dk_188_10 (dk_at dksX12_init_0 6 rfl rfl)
theorem dX12_init_8 : decode cX12_init 8 = .ok (.putfield 9, 3) := dk_181 0 9 (dk_at dksX12_init_0 8 rfl rfl)
theorem dX12_init_11 : decode cX12_init 11 = .ok (.return_, 1) := dk_177 (dk_at dksX12_init_0 11 rfl rfl)
abbrev cX12_add : ByteArray := prog_6_method_2_code
def yX12_add : MethodName := ⟨RX12, "add", "(I)V"⟩
def dkwX12_add_2 : List UInt8 := [180, 0, 15, 4, 96, 181, 0, 15, 177]
abbrev dktX12_add_2 : List UInt8 := dkwX12_add_2 ++ []
def dkwX12_add_1 : List UInt8 := [42, 180, 0, 28, 27, 184, 0, 31, 181, 0, 28, 42, 89, 180, 0, 34, 27, 96, 181, 0, 34, 42, 89]
abbrev dktX12_add_1 : List UInt8 := dkwX12_add_1 ++ dktX12_add_2
def dkwX12_add_0 : List UInt8 := [42, 42, 180, 0, 15, 154, 0, 7, 27, 167, 0, 11, 42, 180, 0, 19, 27, 184, 0, 22, 181, 0, 19, 42]
abbrev dktX12_add_0 : List UInt8 := dkwX12_add_0 ++ dktX12_add_1
theorem dksX12_add_0 : cX12_add.data.toList.drop 0 = dktX12_add_0 := by decide +kernel
theorem dksX12_add_1 : cX12_add.data.toList.drop 24 = dktX12_add_1 := dk_seg dksX12_add_0 24 rfl rfl
theorem dksX12_add_2 : cX12_add.data.toList.drop 47 = dktX12_add_2 := dk_seg dksX12_add_1 23 rfl rfl
theorem dX12_add_0 : decode cX12_add 0 = .ok (.aload_n 0, 1) := dk_42 (dk_at dksX12_add_0 0 rfl rfl)
theorem dX12_add_1 : decode cX12_add 1 = .ok (.aload_n 0, 1) := dk_42 (dk_at dksX12_add_0 1 rfl rfl)
theorem dX12_add_2 : decode cX12_add 2 = .ok (.getfield 15, 3) := dk_180 0 15 (dk_at dksX12_add_0 2 rfl rfl)
theorem dX12_add_5 : decode cX12_add 5 = .ok (.ifCond .ne 7, 3) := dk_154 0 7 (dk_at dksX12_add_0 5 rfl rfl)
theorem dX12_add_8 : decode cX12_add 8 = .ok (.iload_n 1, 1) := dk_27 (dk_at dksX12_add_0 8 rfl rfl)
theorem dX12_add_9 : decode cX12_add 9 = .ok (.goto 11, 3) := dk_167 0 11 (dk_at dksX12_add_0 9 rfl rfl)
theorem dX12_add_12 : decode cX12_add 12 = .ok (.aload_n 0, 1) := dk_42 (dk_at dksX12_add_0 12 rfl rfl)
theorem dX12_add_13 : decode cX12_add 13 = .ok (.getfield 19, 3) := dk_180 0 19 (dk_at dksX12_add_0 13 rfl rfl)
theorem dX12_add_16 : decode cX12_add 16 = .ok (.iload_n 1, 1) := dk_27 (dk_at dksX12_add_0 16 rfl rfl)
theorem dX12_add_17 : decode cX12_add 17 = .ok (.invokestatic 22, 3) := dk_184 0 22 (dk_at dksX12_add_0 17 rfl rfl)
theorem dX12_add_20 : decode cX12_add 20 = .ok (.putfield 19, 3) := dk_181 0 19 (dk_at dksX12_add_0 20 rfl rfl)
theorem dX12_add_23 : decode cX12_add 23 = .ok (.aload_n 0, 1) := dk_42 (dk_at dksX12_add_0 23 rfl rfl)
theorem dX12_add_24 : decode cX12_add 24 = .ok (.aload_n 0, 1) := dk_42 (dk_at dksX12_add_1 0 rfl rfl)
theorem dX12_add_25 : decode cX12_add 25 = .ok (.getfield 28, 3) := dk_180 0 28 (dk_at dksX12_add_1 1 rfl rfl)
theorem dX12_add_28 : decode cX12_add 28 = .ok (.iload_n 1, 1) := dk_27 (dk_at dksX12_add_1 4 rfl rfl)
theorem dX12_add_29 : decode cX12_add 29 = .ok (.invokestatic 31, 3) := dk_184 0 31 (dk_at dksX12_add_1 5 rfl rfl)
theorem dX12_add_32 : decode cX12_add 32 = .ok (.putfield 28, 3) := dk_181 0 28 (dk_at dksX12_add_1 8 rfl rfl)
theorem dX12_add_35 : decode cX12_add 35 = .ok (.aload_n 0, 1) := dk_42 (dk_at dksX12_add_1 11 rfl rfl)
theorem dX12_add_36 : decode cX12_add 36 = .ok (.dup, 1) := dk_89 (dk_at dksX12_add_1 12 rfl rfl)
theorem dX12_add_37 : decode cX12_add 37 = .ok (.getfield 34, 3) := dk_180 0 34 (dk_at dksX12_add_1 13 rfl rfl)
theorem dX12_add_40 : decode cX12_add 40 = .ok (.iload_n 1, 1) := dk_27 (dk_at dksX12_add_1 16 rfl rfl)
theorem dX12_add_41 : decode cX12_add 41 = .ok (.iadd, 1) := dk_96 (dk_at dksX12_add_1 17 rfl rfl)
theorem dX12_add_42 : decode cX12_add 42 = .ok (.putfield 34, 3) := dk_181 0 34 (dk_at dksX12_add_1 18 rfl rfl)
theorem dX12_add_45 : decode cX12_add 45 = .ok (.aload_n 0, 1) := dk_42 (dk_at dksX12_add_1 21 rfl rfl)
theorem dX12_add_46 : decode cX12_add 46 = .ok (.dup, 1) := dk_89 (dk_at dksX12_add_1 22 rfl rfl)
theorem dX12_add_47 : decode cX12_add 47 = .ok (.getfield 15, 3) := dk_180 0 15 (dk_at dksX12_add_2 0 rfl rfl)
theorem dX12_add_50 : decode cX12_add 50 = .ok (.iconst 1, 1) := dk_4 (dk_at dksX12_add_2 3 rfl rfl)
theorem dX12_add_51 : decode cX12_add 51 = .ok (.iadd, 1) := dk_96 (dk_at dksX12_add_2 4 rfl rfl)
theorem dX12_add_52 : decode cX12_add 52 = .ok (.putfield 15, 3) := dk_181 0 15 (dk_at dksX12_add_2 5 rfl rfl)
theorem dX12_add_55 : decode cX12_add 55 = .ok (.return_, 1) := dk_177 (dk_at dksX12_add_2 8 rfl rfl)
theorem q73 : (Jvm.Cond.initialized "SilkRow$Skein") ∈ lw_all := lw_g (lw_at lw_m1 30 rfl) rfl
theorem q169 : (Jvm.Cond.selects "SilkRow$Skein" ({ cls := "java/lang/Object", name := "getClass", desc := "()Ljava/lang/Class;" } : Jvm.MethodName) ({ cls := "java/lang/Object", name := "getClass", desc := "()Ljava/lang/Class;" } : Jvm.MethodName)) ∈ lw_all := lw_g (lw_at lw_m1 126 rfl) rfl
theorem q343 : (Jvm.Cond.instanceMethod ({ cls := "SilkRow$Skein", name := "grade", desc := "()I" } : Jvm.MethodName)) ∈ lw_all := lw_g (lw_at lw_m2 60 rfl) rfl
theorem q344 : (Jvm.Cond.selects "SilkRow$Skein" ({ cls := "SilkRow$Skein", name := "grade", desc := "()I" } : Jvm.MethodName) ({ cls := "SilkRow$Skein", name := "grade", desc := "()I" } : Jvm.MethodName)) ∈ lw_all := lw_g (lw_at lw_m2 61 rfl) rfl
theorem q345 : (Jvm.Cond.code ({ cls := "SilkRow$Skein", name := "grade", desc := "()I" } : Jvm.MethodName) prog_6_method_3_code (2 : Nat) (Option.some Jvm.ClassFile.FieldType.int)) ∈ lw_all := lw_g (lw_at lw_m2 62 rfl) rfl
theorem q507 : (Jvm.Cond.instantiable "SilkRow$Skein" (6 : Nat)) ∈ lw_all := lw_g (lw_at lw_m2 224 rfl) rfl
theorem q509 : (Jvm.Cond.instanceMethod ({ cls := "SilkRow$Skein", name := "<init>", desc := "()V" } : Jvm.MethodName)) ∈ lw_all := lw_g (lw_at lw_m2 226 rfl) rfl
theorem q510 : (Jvm.Cond.code ({ cls := "SilkRow$Skein", name := "<init>", desc := "()V" } : Jvm.MethodName) prog_6_method_1_code (1 : Nat) (Option.none : Option Jvm.ClassFile.FieldType)) ∈ lw_all := lw_g (lw_at lw_m2 227 rfl) rfl
theorem q511 : (Jvm.Cond.methodLink "SilkRow$Skein" (3 : Nat) ({ cls := "java/lang/Object", name := "<init>", desc := "()V" } : Jvm.MethodName)) ∈ lw_all := lw_g (lw_at lw_m2 228 rfl) rfl
theorem q512 : (Jvm.Cond.fieldLink "SilkRow$Skein" (15 : Nat) "SilkRow$Skein" "length" "I") ∈ lw_all := lw_g (lw_at lw_m2 229 rfl) rfl
theorem q514 : (Jvm.Cond.fieldLink "SilkRow$Skein" (19 : Nat) "SilkRow$Skein" "least" "I") ∈ lw_all := lw_g (lw_at lw_m2 231 rfl) rfl
theorem q516 : (Jvm.Cond.fieldLink "SilkRow$Skein" (28 : Nat) "SilkRow$Skein" "greatest" "I") ∈ lw_all := lw_g (lw_at lw_m2 233 rfl) rfl
theorem q518 : (Jvm.Cond.fieldLink "SilkRow$Skein" (34 : Nat) "SilkRow$Skein" "sum" "I") ∈ lw_all := lw_g (lw_at lw_m2 235 rfl) rfl
theorem q521 : (Jvm.Cond.fieldLink "SilkRow$Skein" (9 : Nat) "SilkRow$Skein" "pieces" "[I") ∈ lw_all := lw_g (lw_at lw_m2 238 rfl) rfl
theorem q523 : (Jvm.Cond.lays "SilkRow$Skein" "SilkRow$Skein" "length" "I") ∈ lw_all := lw_g (lw_at lw_m3 0 rfl) rfl
theorem q524 : (Jvm.Cond.soleField "SilkRow$Skein" "length") ∈ lw_all := lw_g (lw_at lw_m3 1 rfl) rfl
theorem q525 : (Jvm.Cond.lays "SilkRow$Skein" "SilkRow$Skein" "least" "I") ∈ lw_all := lw_g (lw_at lw_m3 2 rfl) rfl
theorem q526 : (Jvm.Cond.soleField "SilkRow$Skein" "least") ∈ lw_all := lw_g (lw_at lw_m3 3 rfl) rfl
theorem q527 : (Jvm.Cond.lays "SilkRow$Skein" "SilkRow$Skein" "greatest" "I") ∈ lw_all := lw_g (lw_at lw_m3 4 rfl) rfl
theorem q528 : (Jvm.Cond.soleField "SilkRow$Skein" "greatest") ∈ lw_all := lw_g (lw_at lw_m3 5 rfl) rfl
theorem q529 : (Jvm.Cond.lays "SilkRow$Skein" "SilkRow$Skein" "sum" "I") ∈ lw_all := lw_g (lw_at lw_m3 6 rfl) rfl
theorem q530 : (Jvm.Cond.soleField "SilkRow$Skein" "sum") ∈ lw_all := lw_g (lw_at lw_m3 7 rfl) rfl
theorem q531 : (Jvm.Cond.lays "SilkRow$Skein" "SilkRow$Skein" "isSold" "Z") ∈ lw_all := lw_g (lw_at lw_m3 8 rfl) rfl
theorem q532 : (Jvm.Cond.soleField "SilkRow$Skein" "isSold") ∈ lw_all := lw_g (lw_at lw_m3 9 rfl) rfl
theorem q533 : (Jvm.Cond.laysFinal "SilkRow$Skein" "SilkRow$Skein" "pieces" "[I") ∈ lw_all := lw_g (lw_at lw_m3 10 rfl) rfl
theorem q534 : (Jvm.Cond.soleField "SilkRow$Skein" "pieces") ∈ lw_all := lw_g (lw_at lw_m3 11 rfl) rfl
theorem q535 : (Jvm.Cond.superclass "SilkRow$Skein" "java/lang/Object") ∈ lw_all := lw_g (lw_at lw_m3 12 rfl) rfl
theorem q579 : (Jvm.Cond.instanceMethod ({ cls := "SilkRow$Skein", name := "add", desc := "(I)V" } : Jvm.MethodName)) ∈ lw_all := lw_g (lw_at lw_m3 56 rfl) rfl
theorem q580 : (Jvm.Cond.selects "SilkRow$Skein" ({ cls := "SilkRow$Skein", name := "add", desc := "(I)V" } : Jvm.MethodName) ({ cls := "SilkRow$Skein", name := "add", desc := "(I)V" } : Jvm.MethodName)) ∈ lw_all := lw_g (lw_at lw_m3 57 rfl) rfl
theorem q581 : (Jvm.Cond.code ({ cls := "SilkRow$Skein", name := "add", desc := "(I)V" } : Jvm.MethodName) prog_6_method_2_code (2 : Nat) (Option.none : Option Jvm.ClassFile.FieldType)) ∈ lw_all := lw_g (lw_at lw_m3 58 rfl) rfl
theorem q582 : (Jvm.Cond.methodLink "SilkRow$Skein" (22 : Nat) ({ cls := "java/lang/Math", name := "min", desc := "(II)I" } : Jvm.MethodName)) ∈ lw_all := lw_g (lw_at lw_m3 59 rfl) rfl
theorem q583 : (Jvm.Cond.methodLink "SilkRow$Skein" (31 : Nat) ({ cls := "java/lang/Math", name := "max", desc := "(II)I" } : Jvm.MethodName)) ∈ lw_all := lw_g (lw_at lw_m3 60 rfl) rfl
theorem q626 : (Jvm.Cond.selects "SilkRow$Skein" ({ cls := "java/lang/Object", name := "equals", desc := "(Ljava/lang/Object;)Z" } : Jvm.MethodName) ({ cls := "java/lang/Object", name := "equals", desc := "(Ljava/lang/Object;)Z" } : Jvm.MethodName)) ∈ lw_all := lw_g (lw_at lw_m3 103 rfl) rfl
theorem q1690 : (Jvm.Cond.castable "SilkRow$Skein" "java/lang/Object") ∈ lw_tbl := lw_at lw_m7 207 rfl
theorem in_X12 : ∀ w ∈ wsX120, w ∈ lw_all := lw_in wsX120 [523, 525, 527, 529, 531, 533] (by decide +kernel) (by decide +kernel)
/-! SilkRow$Filament -/
set_option maxRecDepth 100000
def RX13 : String := "SilkRow$Filament"
def TX13 : u_T := fun k => match k with
  | 0 => ("SilkRow$Filament", "line", "I", true)
  | 1 => ("SilkRow$Filament", "pieces", "[I", true)
  | _ => ("SilkRow$Filament", "next", "I", false)
def tyX13 : Nat → FieldType := fun k => match k with
  | 0 => .int
  | 1 => .array .int
  | _ => .int
abbrev wsX130 : List Cond := u_ws RX13 TX13 3
theorem nmX13 : ∀ a, a < 3 → ∀ b, b < 3 → a ≠ b → (TX13 a).2.1 ≠ (TX13 b).2.1 := by decide +kernel
theorem tyX13_ok : ∀ k, k < 3 → parseFieldDescriptor (TX13 k).2.2.1 = some (tyX13 k) := by decide +kernel
abbrev cX13_copy : ByteArray := prog_2_method_2_code
def yX13_copy : MethodName := ⟨RX13, "copy", "()LSilkRow$Filament;"⟩
def dkwX13_copy_1 : List UInt8 := [43, 176]
abbrev dktX13_copy_1 : List UInt8 := dkwX13_copy_1 ++ []
def dkwX13_copy_0 : List UInt8 := [187, 0, 8, 89, 42, 180, 0, 7, 42, 180, 0, 13, 183, 0, 17, 76, 43, 42, 180, 0, 20, 181, 0, 20]
abbrev dktX13_copy_0 : List UInt8 := dkwX13_copy_0 ++ dktX13_copy_1
theorem dksX13_copy_0 : cX13_copy.data.toList.drop 0 = dktX13_copy_0 := by decide +kernel
theorem dksX13_copy_1 : cX13_copy.data.toList.drop 24 = dktX13_copy_1 := dk_seg dksX13_copy_0 24 rfl rfl
theorem dX13_copy_0 : decode cX13_copy 0 = .ok (.new 8, 3) := dk_187 0 8 (dk_at dksX13_copy_0 0 rfl rfl)
theorem dX13_copy_3 : decode cX13_copy 3 = .ok (.dup, 1) := dk_89 (dk_at dksX13_copy_0 3 rfl rfl)
theorem dX13_copy_4 : decode cX13_copy 4 = .ok (.aload_n 0, 1) := dk_42 (dk_at dksX13_copy_0 4 rfl rfl)
theorem dX13_copy_5 : decode cX13_copy 5 = .ok (.getfield 7, 3) := dk_180 0 7 (dk_at dksX13_copy_0 5 rfl rfl)
theorem dX13_copy_8 : decode cX13_copy 8 = .ok (.aload_n 0, 1) := dk_42 (dk_at dksX13_copy_0 8 rfl rfl)
theorem dX13_copy_9 : decode cX13_copy 9 = .ok (.getfield 13, 3) := dk_180 0 13 (dk_at dksX13_copy_0 9 rfl rfl)
theorem dX13_copy_12 : decode cX13_copy 12 = .ok (.invokespecial 17, 3) := dk_183 0 17 (dk_at dksX13_copy_0 12 rfl rfl)
theorem dX13_copy_15 : decode cX13_copy 15 = .ok (.astore_n 1, 1) := dk_76 (dk_at dksX13_copy_0 15 rfl rfl)
theorem dX13_copy_16 : decode cX13_copy 16 = .ok (.aload_n 1, 1) := dk_43 (dk_at dksX13_copy_0 16 rfl rfl)
theorem dX13_copy_17 : decode cX13_copy 17 = .ok (.aload_n 0, 1) := dk_42 (dk_at dksX13_copy_0 17 rfl rfl)
theorem dX13_copy_18 : decode cX13_copy 18 = .ok (.getfield 20, 3) := dk_180 0 20 (dk_at dksX13_copy_0 18 rfl rfl)
theorem dX13_copy_21 : decode cX13_copy 21 = .ok (.putfield 20, 3) := dk_181 0 20 (dk_at dksX13_copy_0 21 rfl rfl)
theorem dX13_copy_24 : decode cX13_copy 24 = .ok (.aload_n 1, 1) := dk_43 (dk_at dksX13_copy_1 0 rfl rfl)
theorem dX13_copy_25 : decode cX13_copy 25 = .ok (.areturn, 1) := dk_176 (dk_at dksX13_copy_1 1 rfl rfl)
abbrev cX13_init : ByteArray := prog_2_method_1_code
def yX13_init : MethodName := ⟨RX13, "<init>", "(I[I)V"⟩
def dkwX13_init_0 : List UInt8 := [42, 183, 0, 1, 42, 27, 181, 0, 7, 42, 44, 181, 0, 13, 177]
abbrev dktX13_init_0 : List UInt8 := dkwX13_init_0 ++ []
theorem dksX13_init_0 : cX13_init.data.toList.drop 0 = dktX13_init_0 := by decide +kernel
theorem dX13_init_0 : decode cX13_init 0 = .ok (.aload_n 0, 1) := dk_42 (dk_at dksX13_init_0 0 rfl rfl)
theorem dX13_init_1 : decode cX13_init 1 = .ok (.invokespecial 1, 3) := dk_183 0 1 (dk_at dksX13_init_0 1 rfl rfl)
theorem dX13_init_4 : decode cX13_init 4 = .ok (.aload_n 0, 1) := dk_42 (dk_at dksX13_init_0 4 rfl rfl)
theorem dX13_init_5 : decode cX13_init 5 = .ok (.iload_n 1, 1) := dk_27 (dk_at dksX13_init_0 5 rfl rfl)
theorem dX13_init_6 : decode cX13_init 6 = .ok (.putfield 7, 3) := dk_181 0 7 (dk_at dksX13_init_0 6 rfl rfl)
theorem dX13_init_9 : decode cX13_init 9 = .ok (.aload_n 0, 1) := dk_42 (dk_at dksX13_init_0 9 rfl rfl)
theorem dX13_init_10 : decode cX13_init 10 = .ok (.aload_n 2, 1) := dk_44 (dk_at dksX13_init_0 10 rfl rfl)
theorem dX13_init_11 : decode cX13_init 11 = .ok (.putfield 13, 3) := dk_181 0 13 (dk_at dksX13_init_0 11 rfl rfl)
theorem dX13_init_14 : decode cX13_init 14 = .ok (.return_, 1) := dk_177 (dk_at dksX13_init_0 14 rfl rfl)
abbrev cX13_piece : ByteArray := prog_2_method_3_code
def yX13_piece : MethodName := ⟨RX13, "piece", "()I"⟩
def dkwX13_piece_0 : List UInt8 := [42, 180, 0, 13, 42, 180, 0, 20, 46, 172]
abbrev dktX13_piece_0 : List UInt8 := dkwX13_piece_0 ++ []
theorem dksX13_piece_0 : cX13_piece.data.toList.drop 0 = dktX13_piece_0 := by decide +kernel
theorem dX13_piece_0 : decode cX13_piece 0 = .ok (.aload_n 0, 1) := dk_42 (dk_at dksX13_piece_0 0 rfl rfl)
theorem dX13_piece_1 : decode cX13_piece 1 = .ok (.getfield 13, 3) := dk_180 0 13 (dk_at dksX13_piece_0 1 rfl rfl)
theorem dX13_piece_4 : decode cX13_piece 4 = .ok (.aload_n 0, 1) := dk_42 (dk_at dksX13_piece_0 4 rfl rfl)
theorem dX13_piece_5 : decode cX13_piece 5 = .ok (.getfield 20, 3) := dk_180 0 20 (dk_at dksX13_piece_0 5 rfl rfl)
theorem dX13_piece_8 : decode cX13_piece 8 = .ok (.iaload, 1) := dk_46 (dk_at dksX13_piece_0 8 rfl rfl)
theorem dX13_piece_9 : decode cX13_piece 9 = .ok (.ireturn, 1) := dk_172 (dk_at dksX13_piece_0 9 rfl rfl)
theorem q74 : (Jvm.Cond.initialized "SilkRow$Filament") ∈ lw_all := lw_g (lw_at lw_m1 31 rfl) rfl
theorem q165 : (Jvm.Cond.selects "SilkRow$Filament" ({ cls := "java/lang/Object", name := "getClass", desc := "()Ljava/lang/Class;" } : Jvm.MethodName) ({ cls := "java/lang/Object", name := "getClass", desc := "()Ljava/lang/Class;" } : Jvm.MethodName)) ∈ lw_all := lw_g (lw_at lw_m1 122 rfl) rfl
theorem q441 : (Jvm.Cond.instanceMethod ({ cls := "SilkRow$Filament", name := "copy", desc := "()LSilkRow$Filament;" } : Jvm.MethodName)) ∈ lw_all := lw_g (lw_at lw_m2 158 rfl) rfl
theorem q442 : (Jvm.Cond.selects "SilkRow$Filament" ({ cls := "SilkRow$Filament", name := "copy", desc := "()LSilkRow$Filament;" } : Jvm.MethodName) ({ cls := "SilkRow$Filament", name := "copy", desc := "()LSilkRow$Filament;" } : Jvm.MethodName)) ∈ lw_all := lw_g (lw_at lw_m2 159 rfl) rfl
theorem q443 : (Jvm.Cond.code ({ cls := "SilkRow$Filament", name := "copy", desc := "()LSilkRow$Filament;" } : Jvm.MethodName) prog_2_method_2_code (2 : Nat) (Option.some (Jvm.ClassFile.FieldType.object "SilkRow$Filament"))) ∈ lw_all := lw_g (lw_at lw_m2 160 rfl) rfl
theorem q444 : (Jvm.Cond.classLink "SilkRow$Filament" (8 : Nat) "SilkRow$Filament") ∈ lw_all := lw_g (lw_at lw_m2 161 rfl) rfl
theorem q445 : (Jvm.Cond.instantiable "SilkRow$Filament" (3 : Nat)) ∈ lw_all := lw_g (lw_at lw_m2 162 rfl) rfl
theorem q446 : (Jvm.Cond.methodLink "SilkRow$Filament" (17 : Nat) ({ cls := "SilkRow$Filament", name := "<init>", desc := "(I[I)V" } : Jvm.MethodName)) ∈ lw_all := lw_g (lw_at lw_m2 163 rfl) rfl
theorem q447 : (Jvm.Cond.instanceMethod ({ cls := "SilkRow$Filament", name := "<init>", desc := "(I[I)V" } : Jvm.MethodName)) ∈ lw_all := lw_g (lw_at lw_m2 164 rfl) rfl
theorem q448 : (Jvm.Cond.code ({ cls := "SilkRow$Filament", name := "<init>", desc := "(I[I)V" } : Jvm.MethodName) prog_2_method_1_code (3 : Nat) (Option.none : Option Jvm.ClassFile.FieldType)) ∈ lw_all := lw_g (lw_at lw_m2 165 rfl) rfl
theorem q449 : (Jvm.Cond.methodLink "SilkRow$Filament" (1 : Nat) ({ cls := "java/lang/Object", name := "<init>", desc := "()V" } : Jvm.MethodName)) ∈ lw_all := lw_g (lw_at lw_m2 166 rfl) rfl
theorem q450 : (Jvm.Cond.fieldLink "SilkRow$Filament" (7 : Nat) "SilkRow$Filament" "line" "I") ∈ lw_all := lw_g (lw_at lw_m2 167 rfl) rfl
theorem q452 : (Jvm.Cond.fieldLink "SilkRow$Filament" (13 : Nat) "SilkRow$Filament" "pieces" "[I") ∈ lw_all := lw_g (lw_at lw_m2 169 rfl) rfl
theorem q454 : (Jvm.Cond.fieldLink "SilkRow$Filament" (20 : Nat) "SilkRow$Filament" "next" "I") ∈ lw_all := lw_g (lw_at lw_m2 171 rfl) rfl
theorem q456 : (Jvm.Cond.laysFinal "SilkRow$Filament" "SilkRow$Filament" "line" "I") ∈ lw_all := lw_g (lw_at lw_m2 173 rfl) rfl
theorem q457 : (Jvm.Cond.soleField "SilkRow$Filament" "line") ∈ lw_all := lw_g (lw_at lw_m2 174 rfl) rfl
theorem q458 : (Jvm.Cond.laysFinal "SilkRow$Filament" "SilkRow$Filament" "pieces" "[I") ∈ lw_all := lw_g (lw_at lw_m2 175 rfl) rfl
theorem q459 : (Jvm.Cond.soleField "SilkRow$Filament" "pieces") ∈ lw_all := lw_g (lw_at lw_m2 176 rfl) rfl
theorem q460 : (Jvm.Cond.lays "SilkRow$Filament" "SilkRow$Filament" "next" "I") ∈ lw_all := lw_g (lw_at lw_m2 177 rfl) rfl
theorem q461 : (Jvm.Cond.soleField "SilkRow$Filament" "next") ∈ lw_all := lw_g (lw_at lw_m2 178 rfl) rfl
theorem q462 : (Jvm.Cond.superclass "SilkRow$Filament" "java/lang/Object") ∈ lw_all := lw_g (lw_at lw_m2 179 rfl) rfl
theorem q548 : (Jvm.Cond.instanceMethod ({ cls := "SilkRow$Filament", name := "piece", desc := "()I" } : Jvm.MethodName)) ∈ lw_all := lw_g (lw_at lw_m3 25 rfl) rfl
theorem q549 : (Jvm.Cond.selects "SilkRow$Filament" ({ cls := "SilkRow$Filament", name := "piece", desc := "()I" } : Jvm.MethodName) ({ cls := "SilkRow$Filament", name := "piece", desc := "()I" } : Jvm.MethodName)) ∈ lw_all := lw_g (lw_at lw_m3 26 rfl) rfl
theorem q550 : (Jvm.Cond.code ({ cls := "SilkRow$Filament", name := "piece", desc := "()I" } : Jvm.MethodName) prog_2_method_3_code (1 : Nat) (Option.some Jvm.ClassFile.FieldType.int)) ∈ lw_all := lw_g (lw_at lw_m3 27 rfl) rfl
theorem q622 : (Jvm.Cond.selects "SilkRow$Filament" ({ cls := "java/lang/Object", name := "equals", desc := "(Ljava/lang/Object;)Z" } : Jvm.MethodName) ({ cls := "java/lang/Object", name := "equals", desc := "(Ljava/lang/Object;)Z" } : Jvm.MethodName)) ∈ lw_all := lw_g (lw_at lw_m3 99 rfl) rfl
theorem q1691 : (Jvm.Cond.castable "SilkRow$Filament" "java/lang/Object") ∈ lw_tbl := lw_at lw_m7 208 rfl
theorem in_X13 : ∀ w ∈ wsX130, w ∈ lw_all := lw_in wsX130 [456, 458, 460] (by decide +kernel) (by decide +kernel)
/-! SilkRowModel$Skein -/
set_option maxRecDepth 100000
def RX14 : String := "SilkRowModel$Skein"
def TX14 : u_T := fun k => match k with
  | 0 => ("SilkRowModel$Skein", "length", "I", false)
  | 1 => ("SilkRowModel$Skein", "least", "I", false)
  | 2 => ("SilkRowModel$Skein", "greatest", "I", false)
  | 3 => ("SilkRowModel$Skein", "sum", "I", false)
  | 4 => ("SilkRowModel$Skein", "pieces", "[I", true)
  | _ => ("SilkRowModel$Skein", "isSold", "Z", false)
def tyX14 : Nat → FieldType := fun k => match k with
  | 0 => .int
  | 1 => .int
  | 2 => .int
  | 3 => .int
  | 4 => .array .int
  | _ => .boolean
abbrev wsX140 : List Cond := u_ws RX14 TX14 6
theorem nmX14 : ∀ a, a < 6 → ∀ b, b < 6 → a ≠ b → (TX14 a).2.1 ≠ (TX14 b).2.1 := by decide +kernel
theorem tyX14_ok : ∀ k, k < 6 → parseFieldDescriptor (TX14 k).2.2.1 = some (tyX14 k) := by decide +kernel
abbrev cX14_init : ByteArray := prog_14_method_1_code
def yX14_init : MethodName := ⟨RX14, "<init>", "()V"⟩
def dkwX14_init_0 : List UInt8 := [42, 183, 0, 3, 42, 7, 188, 10, 181, 0, 9, 177]
abbrev dktX14_init_0 : List UInt8 := dkwX14_init_0 ++ []
theorem dksX14_init_0 : cX14_init.data.toList.drop 0 = dktX14_init_0 := by decide +kernel
theorem dX14_init_0 : decode cX14_init 0 = .ok (.aload_n 0, 1) := dk_42 (dk_at dksX14_init_0 0 rfl rfl)
theorem dX14_init_1 : decode cX14_init 1 = .ok (.invokespecial 3, 3) := dk_183 0 3 (dk_at dksX14_init_0 1 rfl rfl)
theorem dX14_init_4 : decode cX14_init 4 = .ok (.aload_n 0, 1) := dk_42 (dk_at dksX14_init_0 4 rfl rfl)
theorem dX14_init_5 : decode cX14_init 5 = .ok (.iconst 4, 1) := dk_7 (dk_at dksX14_init_0 5 rfl rfl)
theorem dX14_init_6 : decode cX14_init 6 = .ok (.newarray .int, 2) := dk_188_10 (dk_at dksX14_init_0 6 rfl rfl)
theorem dX14_init_8 : decode cX14_init 8 = .ok (.putfield 9, 3) := dk_181 0 9 (dk_at dksX14_init_0 8 rfl rfl)
theorem dX14_init_11 : decode cX14_init 11 = .ok (.return_, 1) := dk_177 (dk_at dksX14_init_0 11 rfl rfl)
abbrev cX14_add : ByteArray := prog_14_method_2_code
def yX14_add : MethodName := ⟨RX14, "add", "(I)V"⟩
def dkwX14_add_2 : List UInt8 := [180, 0, 15, 4, 96, 181, 0, 15, 177]
abbrev dktX14_add_2 : List UInt8 := dkwX14_add_2 ++ []
def dkwX14_add_1 : List UInt8 := [42, 180, 0, 28, 27, 184, 0, 31, 181, 0, 28, 42, 89, 180, 0, 34, 27, 96, 181, 0, 34, 42, 89]
abbrev dktX14_add_1 : List UInt8 := dkwX14_add_1 ++ dktX14_add_2
def dkwX14_add_0 : List UInt8 := [42, 42, 180, 0, 15, 154, 0, 7, 27, 167, 0, 11, 42, 180, 0, 19, 27, 184, 0, 22, 181, 0, 19, 42]
abbrev dktX14_add_0 : List UInt8 := dkwX14_add_0 ++ dktX14_add_1
theorem dksX14_add_0 : cX14_add.data.toList.drop 0 = dktX14_add_0 := by decide +kernel
theorem dksX14_add_1 : cX14_add.data.toList.drop 24 = dktX14_add_1 := dk_seg dksX14_add_0 24 rfl rfl
theorem dksX14_add_2 : cX14_add.data.toList.drop 47 = dktX14_add_2 := dk_seg dksX14_add_1 23 rfl rfl
theorem dX14_add_0 : decode cX14_add 0 = .ok (.aload_n 0, 1) := dk_42 (dk_at dksX14_add_0 0 rfl rfl)
theorem dX14_add_1 : decode cX14_add 1 = .ok (.aload_n 0, 1) := dk_42 (dk_at dksX14_add_0 1 rfl rfl)
theorem dX14_add_2 : decode cX14_add 2 = .ok (.getfield 15, 3) := dk_180 0 15 (dk_at dksX14_add_0 2 rfl rfl)
theorem dX14_add_5 : decode cX14_add 5 = .ok (.ifCond .ne 7, 3) := dk_154 0 7 (dk_at dksX14_add_0 5 rfl rfl)
theorem dX14_add_8 : decode cX14_add 8 = .ok (.iload_n 1, 1) := dk_27 (dk_at dksX14_add_0 8 rfl rfl)
theorem dX14_add_9 : decode cX14_add 9 = .ok (.goto 11, 3) := dk_167 0 11 (dk_at dksX14_add_0 9 rfl rfl)
theorem dX14_add_12 : decode cX14_add 12 = .ok (.aload_n 0, 1) := dk_42 (dk_at dksX14_add_0 12 rfl rfl)
theorem dX14_add_13 : decode cX14_add 13 = .ok (.getfield 19, 3) := dk_180 0 19 (dk_at dksX14_add_0 13 rfl rfl)
theorem dX14_add_16 : decode cX14_add 16 = .ok (.iload_n 1, 1) := dk_27 (dk_at dksX14_add_0 16 rfl rfl)
theorem dX14_add_17 : decode cX14_add 17 = .ok (.invokestatic 22, 3) := dk_184 0 22 (dk_at dksX14_add_0 17 rfl rfl)
theorem dX14_add_20 : decode cX14_add 20 = .ok (.putfield 19, 3) := dk_181 0 19 (dk_at dksX14_add_0 20 rfl rfl)
theorem dX14_add_23 : decode cX14_add 23 = .ok (.aload_n 0, 1) := dk_42 (dk_at dksX14_add_0 23 rfl rfl)
theorem dX14_add_24 : decode cX14_add 24 = .ok (.aload_n 0, 1) := dk_42 (dk_at dksX14_add_1 0 rfl rfl)
theorem dX14_add_25 : decode cX14_add 25 = .ok (.getfield 28, 3) := dk_180 0 28 (dk_at dksX14_add_1 1 rfl rfl)
theorem dX14_add_28 : decode cX14_add 28 = .ok (.iload_n 1, 1) := dk_27 (dk_at dksX14_add_1 4 rfl rfl)
theorem dX14_add_29 : decode cX14_add 29 = .ok (.invokestatic 31, 3) := dk_184 0 31 (dk_at dksX14_add_1 5 rfl rfl)
theorem dX14_add_32 : decode cX14_add 32 = .ok (.putfield 28, 3) := dk_181 0 28 (dk_at dksX14_add_1 8 rfl rfl)
theorem dX14_add_35 : decode cX14_add 35 = .ok (.aload_n 0, 1) := dk_42 (dk_at dksX14_add_1 11 rfl rfl)
theorem dX14_add_36 : decode cX14_add 36 = .ok (.dup, 1) := dk_89 (dk_at dksX14_add_1 12 rfl rfl)
theorem dX14_add_37 : decode cX14_add 37 = .ok (.getfield 34, 3) := dk_180 0 34 (dk_at dksX14_add_1 13 rfl rfl)
theorem dX14_add_40 : decode cX14_add 40 = .ok (.iload_n 1, 1) := dk_27 (dk_at dksX14_add_1 16 rfl rfl)
theorem dX14_add_41 : decode cX14_add 41 = .ok (.iadd, 1) := dk_96 (dk_at dksX14_add_1 17 rfl rfl)
theorem dX14_add_42 : decode cX14_add 42 = .ok (.putfield 34, 3) := dk_181 0 34 (dk_at dksX14_add_1 18 rfl rfl)
theorem dX14_add_45 : decode cX14_add 45 = .ok (.aload_n 0, 1) := dk_42 (dk_at dksX14_add_1 21 rfl rfl)
theorem dX14_add_46 : decode cX14_add 46 = .ok (.dup, 1) := dk_89 (dk_at dksX14_add_1 22 rfl rfl)
theorem dX14_add_47 : decode cX14_add 47 = .ok (.getfield 15, 3) := dk_180 0 15 (dk_at dksX14_add_2 0 rfl rfl)
theorem dX14_add_50 : decode cX14_add 50 = .ok (.iconst 1, 1) := dk_4 (dk_at dksX14_add_2 3 rfl rfl)
theorem dX14_add_51 : decode cX14_add 51 = .ok (.iadd, 1) := dk_96 (dk_at dksX14_add_2 4 rfl rfl)
theorem dX14_add_52 : decode cX14_add 52 = .ok (.putfield 15, 3) := dk_181 0 15 (dk_at dksX14_add_2 5 rfl rfl)
theorem dX14_add_55 : decode cX14_add 55 = .ok (.return_, 1) := dk_177 (dk_at dksX14_add_2 8 rfl rfl)
abbrev cX14_grade : ByteArray := prog_14_method_3_code
def yX14_grade : MethodName := ⟨RX14, "grade", "()I"⟩
def dkwX14_grade_1 : List UInt8 := [4, 167, 0, 14, 27, 16, 8, 162, 0, 7, 5, 167, 0, 4, 6, 172]
abbrev dktX14_grade_1 : List UInt8 := dkwX14_grade_1 ++ []
def dkwX14_grade_0 : List UInt8 := [42, 180, 0, 28, 42, 180, 0, 19, 100, 60, 27, 5, 162, 0, 7, 3, 167, 0, 23, 27, 7, 162, 0, 7]
abbrev dktX14_grade_0 : List UInt8 := dkwX14_grade_0 ++ dktX14_grade_1
theorem dksX14_grade_0 : cX14_grade.data.toList.drop 0 = dktX14_grade_0 := by decide +kernel
theorem dksX14_grade_1 : cX14_grade.data.toList.drop 24 = dktX14_grade_1 := dk_seg dksX14_grade_0 24 rfl rfl
theorem dX14_grade_0 : decode cX14_grade 0 = .ok (.aload_n 0, 1) := dk_42 (dk_at dksX14_grade_0 0 rfl rfl)
theorem dX14_grade_1 : decode cX14_grade 1 = .ok (.getfield 28, 3) := dk_180 0 28 (dk_at dksX14_grade_0 1 rfl rfl)
theorem dX14_grade_4 : decode cX14_grade 4 = .ok (.aload_n 0, 1) := dk_42 (dk_at dksX14_grade_0 4 rfl rfl)
theorem dX14_grade_5 : decode cX14_grade 5 = .ok (.getfield 19, 3) := dk_180 0 19 (dk_at dksX14_grade_0 5 rfl rfl)
theorem dX14_grade_8 : decode cX14_grade 8 = .ok (.isub, 1) := dk_100 (dk_at dksX14_grade_0 8 rfl rfl)
theorem dX14_grade_9 : decode cX14_grade 9 = .ok (.istore_n 1, 1) := dk_60 (dk_at dksX14_grade_0 9 rfl rfl)
theorem dX14_grade_10 : decode cX14_grade 10 = .ok (.iload_n 1, 1) := dk_27 (dk_at dksX14_grade_0 10 rfl rfl)
theorem dX14_grade_11 : decode cX14_grade 11 = .ok (.iconst 2, 1) := dk_5 (dk_at dksX14_grade_0 11 rfl rfl)
theorem dX14_grade_12 : decode cX14_grade 12 = .ok (.if_icmp .ge 7, 3) := dk_162 0 7 (dk_at dksX14_grade_0 12 rfl rfl)
theorem dX14_grade_15 : decode cX14_grade 15 = .ok (.iconst 0, 1) := dk_3 (dk_at dksX14_grade_0 15 rfl rfl)
theorem dX14_grade_16 : decode cX14_grade 16 = .ok (.goto 23, 3) := dk_167 0 23 (dk_at dksX14_grade_0 16 rfl rfl)
theorem dX14_grade_19 : decode cX14_grade 19 = .ok (.iload_n 1, 1) := dk_27 (dk_at dksX14_grade_0 19 rfl rfl)
theorem dX14_grade_20 : decode cX14_grade 20 = .ok (.iconst 4, 1) := dk_7 (dk_at dksX14_grade_0 20 rfl rfl)
theorem dX14_grade_21 : decode cX14_grade 21 = .ok (.if_icmp .ge 7, 3) := dk_162 0 7 (dk_at dksX14_grade_0 21 rfl rfl)
theorem dX14_grade_24 : decode cX14_grade 24 = .ok (.iconst 1, 1) := dk_4 (dk_at dksX14_grade_1 0 rfl rfl)
theorem dX14_grade_25 : decode cX14_grade 25 = .ok (.goto 14, 3) := dk_167 0 14 (dk_at dksX14_grade_1 1 rfl rfl)
theorem dX14_grade_28 : decode cX14_grade 28 = .ok (.iload_n 1, 1) := dk_27 (dk_at dksX14_grade_1 4 rfl rfl)
theorem dX14_grade_29 : decode cX14_grade 29 = .ok (.bipush 8, 2) := dk_16 8 (dk_at dksX14_grade_1 5 rfl rfl)
theorem dX14_grade_31 : decode cX14_grade 31 = .ok (.if_icmp .ge 7, 3) := dk_162 0 7 (dk_at dksX14_grade_1 7 rfl rfl)
theorem dX14_grade_34 : decode cX14_grade 34 = .ok (.iconst 2, 1) := dk_5 (dk_at dksX14_grade_1 10 rfl rfl)
theorem dX14_grade_35 : decode cX14_grade 35 = .ok (.goto 4, 3) := dk_167 0 4 (dk_at dksX14_grade_1 11 rfl rfl)
theorem dX14_grade_38 : decode cX14_grade 38 = .ok (.iconst 3, 1) := dk_6 (dk_at dksX14_grade_1 14 rfl rfl)
theorem dX14_grade_39 : decode cX14_grade 39 = .ok (.ireturn, 1) := dk_172 (dk_at dksX14_grade_1 15 rfl rfl)
theorem q75 : (Jvm.Cond.initialized "SilkRowModel$Skein") ∈ lw_all := lw_g (lw_at lw_m1 32 rfl) rfl
theorem q176 : (Jvm.Cond.selects "SilkRowModel$Skein" ({ cls := "java/lang/Object", name := "getClass", desc := "()Ljava/lang/Class;" } : Jvm.MethodName) ({ cls := "java/lang/Object", name := "getClass", desc := "()Ljava/lang/Class;" } : Jvm.MethodName)) ∈ lw_all := lw_g (lw_at lw_m1 133 rfl) rfl
theorem q633 : (Jvm.Cond.selects "SilkRowModel$Skein" ({ cls := "java/lang/Object", name := "equals", desc := "(Ljava/lang/Object;)Z" } : Jvm.MethodName) ({ cls := "java/lang/Object", name := "equals", desc := "(Ljava/lang/Object;)Z" } : Jvm.MethodName)) ∈ lw_all := lw_g (lw_at lw_m3 110 rfl) rfl
theorem q1450 : (Jvm.Cond.instantiable "SilkRowModel$Skein" (6 : Nat)) ∈ lw_all := lw_g (lw_at lw_m6 207 rfl) rfl
theorem q1452 : (Jvm.Cond.instanceMethod ({ cls := "SilkRowModel$Skein", name := "<init>", desc := "()V" } : Jvm.MethodName)) ∈ lw_all := lw_g (lw_at lw_m6 209 rfl) rfl
theorem q1453 : (Jvm.Cond.code ({ cls := "SilkRowModel$Skein", name := "<init>", desc := "()V" } : Jvm.MethodName) prog_14_method_1_code (1 : Nat) (Option.none : Option Jvm.ClassFile.FieldType)) ∈ lw_all := lw_g (lw_at lw_m6 210 rfl) rfl
theorem q1454 : (Jvm.Cond.methodLink "SilkRowModel$Skein" (3 : Nat) ({ cls := "java/lang/Object", name := "<init>", desc := "()V" } : Jvm.MethodName)) ∈ lw_all := lw_g (lw_at lw_m6 211 rfl) rfl
theorem q1455 : (Jvm.Cond.fieldLink "SilkRowModel$Skein" (15 : Nat) "SilkRowModel$Skein" "length" "I") ∈ lw_all := lw_g (lw_at lw_m6 212 rfl) rfl
theorem q1457 : (Jvm.Cond.fieldLink "SilkRowModel$Skein" (19 : Nat) "SilkRowModel$Skein" "least" "I") ∈ lw_all := lw_g (lw_at lw_m6 214 rfl) rfl
theorem q1459 : (Jvm.Cond.fieldLink "SilkRowModel$Skein" (28 : Nat) "SilkRowModel$Skein" "greatest" "I") ∈ lw_all := lw_g (lw_at lw_m6 216 rfl) rfl
theorem q1461 : (Jvm.Cond.fieldLink "SilkRowModel$Skein" (34 : Nat) "SilkRowModel$Skein" "sum" "I") ∈ lw_all := lw_g (lw_at lw_m6 218 rfl) rfl
theorem q1463 : (Jvm.Cond.fieldLink "SilkRowModel$Skein" (9 : Nat) "SilkRowModel$Skein" "pieces" "[I") ∈ lw_all := lw_g (lw_at lw_m6 220 rfl) rfl
theorem q1467 : (Jvm.Cond.lays "SilkRowModel$Skein" "SilkRowModel$Skein" "length" "I") ∈ lw_all := lw_g (lw_at lw_m6 224 rfl) rfl
theorem q1468 : (Jvm.Cond.soleField "SilkRowModel$Skein" "length") ∈ lw_all := lw_g (lw_at lw_m6 225 rfl) rfl
theorem q1469 : (Jvm.Cond.lays "SilkRowModel$Skein" "SilkRowModel$Skein" "least" "I") ∈ lw_all := lw_g (lw_at lw_m6 226 rfl) rfl
theorem q1470 : (Jvm.Cond.soleField "SilkRowModel$Skein" "least") ∈ lw_all := lw_g (lw_at lw_m6 227 rfl) rfl
theorem q1471 : (Jvm.Cond.lays "SilkRowModel$Skein" "SilkRowModel$Skein" "greatest" "I") ∈ lw_all := lw_g (lw_at lw_m6 228 rfl) rfl
theorem q1472 : (Jvm.Cond.soleField "SilkRowModel$Skein" "greatest") ∈ lw_all := lw_g (lw_at lw_m6 229 rfl) rfl
theorem q1473 : (Jvm.Cond.lays "SilkRowModel$Skein" "SilkRowModel$Skein" "sum" "I") ∈ lw_all := lw_g (lw_at lw_m6 230 rfl) rfl
theorem q1474 : (Jvm.Cond.soleField "SilkRowModel$Skein" "sum") ∈ lw_all := lw_g (lw_at lw_m6 231 rfl) rfl
theorem q1475 : (Jvm.Cond.laysFinal "SilkRowModel$Skein" "SilkRowModel$Skein" "pieces" "[I") ∈ lw_all := lw_g (lw_at lw_m6 232 rfl) rfl
theorem q1476 : (Jvm.Cond.soleField "SilkRowModel$Skein" "pieces") ∈ lw_all := lw_g (lw_at lw_m6 233 rfl) rfl
theorem q1477 : (Jvm.Cond.lays "SilkRowModel$Skein" "SilkRowModel$Skein" "isSold" "Z") ∈ lw_all := lw_g (lw_at lw_m6 234 rfl) rfl
theorem q1478 : (Jvm.Cond.soleField "SilkRowModel$Skein" "isSold") ∈ lw_all := lw_g (lw_at lw_m6 235 rfl) rfl
theorem q1479 : (Jvm.Cond.superclass "SilkRowModel$Skein" "java/lang/Object") ∈ lw_all := lw_g (lw_at lw_m6 236 rfl) rfl
theorem q1503 : (Jvm.Cond.instanceMethod ({ cls := "SilkRowModel$Skein", name := "add", desc := "(I)V" } : Jvm.MethodName)) ∈ lw_all := lw_g (lw_at lw_m7 20 rfl) rfl
theorem q1504 : (Jvm.Cond.selects "SilkRowModel$Skein" ({ cls := "SilkRowModel$Skein", name := "add", desc := "(I)V" } : Jvm.MethodName) ({ cls := "SilkRowModel$Skein", name := "add", desc := "(I)V" } : Jvm.MethodName)) ∈ lw_all := lw_g (lw_at lw_m7 21 rfl) rfl
theorem q1505 : (Jvm.Cond.code ({ cls := "SilkRowModel$Skein", name := "add", desc := "(I)V" } : Jvm.MethodName) prog_14_method_2_code (2 : Nat) (Option.none : Option Jvm.ClassFile.FieldType)) ∈ lw_all := lw_g (lw_at lw_m7 22 rfl) rfl
theorem q1506 : (Jvm.Cond.methodLink "SilkRowModel$Skein" (22 : Nat) ({ cls := "java/lang/Math", name := "min", desc := "(II)I" } : Jvm.MethodName)) ∈ lw_all := lw_g (lw_at lw_m7 23 rfl) rfl
theorem q1507 : (Jvm.Cond.methodLink "SilkRowModel$Skein" (31 : Nat) ({ cls := "java/lang/Math", name := "max", desc := "(II)I" } : Jvm.MethodName)) ∈ lw_all := lw_g (lw_at lw_m7 24 rfl) rfl
theorem q1526 : (Jvm.Cond.instanceMethod ({ cls := "SilkRowModel$Skein", name := "grade", desc := "()I" } : Jvm.MethodName)) ∈ lw_all := lw_g (lw_at lw_m7 43 rfl) rfl
theorem q1527 : (Jvm.Cond.selects "SilkRowModel$Skein" ({ cls := "SilkRowModel$Skein", name := "grade", desc := "()I" } : Jvm.MethodName) ({ cls := "SilkRowModel$Skein", name := "grade", desc := "()I" } : Jvm.MethodName)) ∈ lw_all := lw_g (lw_at lw_m7 44 rfl) rfl
theorem q1528 : (Jvm.Cond.code ({ cls := "SilkRowModel$Skein", name := "grade", desc := "()I" } : Jvm.MethodName) prog_14_method_3_code (2 : Nat) (Option.some Jvm.ClassFile.FieldType.int)) ∈ lw_all := lw_g (lw_at lw_m7 45 rfl) rfl
theorem q1692 : (Jvm.Cond.castable "SilkRowModel$Skein" "java/lang/Object") ∈ lw_tbl := lw_at lw_m7 209 rfl
theorem in_X14 : ∀ w ∈ wsX140, w ∈ lw_all := lw_in wsX140 [1467, 1469, 1471, 1473, 1475, 1477] (by decide +kernel) (by decide +kernel)
/-! SilkRowModel$Trial -/
set_option maxRecDepth 100000
def RX15 : String := "SilkRowModel$Trial"
def TX15 : u_T := fun k => match k with
  | 0 => ("SilkRowModel$Trial", "many", "[[[I", true)
  | _ => ("SilkRowModel$Trial", "left", "[I", true)
def tyX15 : Nat → FieldType := fun k => match k with
  | 0 => .array (.array (.array .int))
  | _ => .array .int
abbrev wsX150 : List Cond := u_ws RX15 TX15 2
theorem nmX15 : ∀ a, a < 2 → ∀ b, b < 2 → a ≠ b → (TX15 a).2.1 ≠ (TX15 b).2.1 := by decide +kernel
theorem tyX15_ok : ∀ k, k < 2 → parseFieldDescriptor (TX15 k).2.2.1 = some (tyX15 k) := by decide +kernel
abbrev cX15_init : ByteArray := prog_16_method_1_code
def yX15_init : MethodName := ⟨RX15, "<init>", "()V"⟩
def dkwX15_init_1 : List UInt8 := [177]
abbrev dktX15_init_1 : List UInt8 := dkwX15_init_1 ++ []
def dkwX15_init_0 : List UInt8 := [42, 183, 0, 3, 42, 6, 16, 7, 16, 6, 197, 0, 9, 3, 181, 0, 11, 42, 6, 188, 10, 181, 0, 16]
abbrev dktX15_init_0 : List UInt8 := dkwX15_init_0 ++ dktX15_init_1
theorem dksX15_init_0 : cX15_init.data.toList.drop 0 = dktX15_init_0 := by decide +kernel
theorem dksX15_init_1 : cX15_init.data.toList.drop 24 = dktX15_init_1 := dk_seg dksX15_init_0 24 rfl rfl
theorem dX15_init_0 : decode cX15_init 0 = .ok (.aload_n 0, 1) := dk_42 (dk_at dksX15_init_0 0 rfl rfl)
theorem dX15_init_1 : decode cX15_init 1 = .ok (.invokespecial 3, 3) := dk_183 0 3 (dk_at dksX15_init_0 1 rfl rfl)
theorem dX15_init_4 : decode cX15_init 4 = .ok (.aload_n 0, 1) := dk_42 (dk_at dksX15_init_0 4 rfl rfl)
theorem dX15_init_5 : decode cX15_init 5 = .ok (.iconst 3, 1) := dk_6 (dk_at dksX15_init_0 5 rfl rfl)
theorem dX15_init_6 : decode cX15_init 6 = .ok (.bipush 7, 2) := dk_16 7 (dk_at dksX15_init_0 6 rfl rfl)
theorem dX15_init_8 : decode cX15_init 8 = .ok (.bipush 6, 2) := dk_16 6 (dk_at dksX15_init_0 8 rfl rfl)
theorem dX15_init_10 : decode cX15_init 10 = .ok (.multianewarray 9 3, 4) := by decide +kernel
theorem dX15_init_14 : decode cX15_init 14 = .ok (.putfield 11, 3) := dk_181 0 11 (dk_at dksX15_init_0 14 rfl rfl)
theorem dX15_init_17 : decode cX15_init 17 = .ok (.aload_n 0, 1) := dk_42 (dk_at dksX15_init_0 17 rfl rfl)
theorem dX15_init_18 : decode cX15_init 18 = .ok (.iconst 3, 1) := dk_6 (dk_at dksX15_init_0 18 rfl rfl)
theorem dX15_init_19 : decode cX15_init 19 = .ok (.newarray .int, 2) := dk_188_10 (dk_at dksX15_init_0 19 rfl rfl)
theorem dX15_init_21 : decode cX15_init 21 = .ok (.putfield 16, 3) := dk_181 0 16 (dk_at dksX15_init_0 21 rfl rfl)
theorem dX15_init_24 : decode cX15_init 24 = .ok (.return_, 1) := dk_177 (dk_at dksX15_init_1 0 rfl rfl)
abbrev cX15_length : ByteArray := prog_16_method_6_code
def yX15_length : MethodName := ⟨RX15, "length", "(LSilkRowModel$Basin;LSilkRowModel$Lot;II)I"⟩
def dkwX15_length_5 : List UInt8 := [162, 0, 8, 21, 4, 167, 0, 4, 3, 172]
abbrev dktX15_length_5 : List UInt8 := dkwX15_length_5 ++ []
def dkwX15_length_4 : List UInt8 := [21, 8, 184, 0, 70, 54, 6, 42, 182, 0, 73, 132, 7, 1, 167, 255, 164, 21, 6, 21, 5, 100, 7]
abbrev dktX15_length_4 : List UInt8 := dkwX15_length_4 ++ dktX15_length_5
def dkwX15_length_3 : List UInt8 := [3, 172, 21, 7, 154, 0, 8, 21, 8, 167, 0, 10, 21, 5, 21, 8, 184, 0, 64, 54, 5, 21, 6]
abbrev dktX15_length_3 : List UInt8 := dkwX15_length_3 ++ dktX15_length_4
def dkwX15_length_2 : List UInt8 := [54, 8, 167, 255, 236, 21, 8, 154, 0, 19, 21, 6, 21, 5, 100, 7, 162, 0, 8, 21, 7, 167, 0, 4]
abbrev dktX15_length_2 : List UInt8 := dkwX15_length_2 ++ dktX15_length_3
def dkwX15_length_1 : List UInt8 := [182, 0, 57, 54, 8, 21, 8, 29, 162, 0, 20, 42, 44, 182, 0, 60, 153, 0, 12, 42, 182, 0, 57]
abbrev dktX15_length_1 : List UInt8 := dkwX15_length_1 ++ dktX15_length_2
def dkwX15_length_0 : List UInt8 := [42, 43, 44, 182, 0, 53, 3, 54, 5, 3, 54, 6, 3, 54, 7, 21, 7, 21, 4, 162, 0, 91, 42]
abbrev dktX15_length_0 : List UInt8 := dkwX15_length_0 ++ dktX15_length_1
theorem dksX15_length_0 : cX15_length.data.toList.drop 0 = dktX15_length_0 := by decide +kernel
theorem dksX15_length_1 : cX15_length.data.toList.drop 23 = dktX15_length_1 := dk_seg dksX15_length_0 23 rfl rfl
theorem dksX15_length_2 : cX15_length.data.toList.drop 46 = dktX15_length_2 := dk_seg dksX15_length_1 23 rfl rfl
theorem dksX15_length_3 : cX15_length.data.toList.drop 70 = dktX15_length_3 := dk_seg dksX15_length_2 24 rfl rfl
theorem dksX15_length_4 : cX15_length.data.toList.drop 93 = dktX15_length_4 := dk_seg dksX15_length_3 23 rfl rfl
theorem dksX15_length_5 : cX15_length.data.toList.drop 116 = dktX15_length_5 := dk_seg dksX15_length_4 23 rfl rfl
theorem dX15_length_0 : decode cX15_length 0 = .ok (.aload_n 0, 1) := dk_42 (dk_at dksX15_length_0 0 rfl rfl)
theorem dX15_length_1 : decode cX15_length 1 = .ok (.aload_n 1, 1) := dk_43 (dk_at dksX15_length_0 1 rfl rfl)
theorem dX15_length_2 : decode cX15_length 2 = .ok (.aload_n 2, 1) := dk_44 (dk_at dksX15_length_0 2 rfl rfl)
theorem dX15_length_3 : decode cX15_length 3 = .ok (.invokevirtual 53, 3) := dk_182 0 53 (dk_at dksX15_length_0 3 rfl rfl)
theorem dX15_length_6 : decode cX15_length 6 = .ok (.iconst 0, 1) := dk_3 (dk_at dksX15_length_0 6 rfl rfl)
theorem dX15_length_7 : decode cX15_length 7 = .ok (.istore 5, 2) := dk_54 5 (dk_at dksX15_length_0 7 rfl rfl)
theorem dX15_length_9 : decode cX15_length 9 = .ok (.iconst 0, 1) := dk_3 (dk_at dksX15_length_0 9 rfl rfl)
theorem dX15_length_10 : decode cX15_length 10 = .ok (.istore 6, 2) := dk_54 6 (dk_at dksX15_length_0 10 rfl rfl)
theorem dX15_length_12 : decode cX15_length 12 = .ok (.iconst 0, 1) := dk_3 (dk_at dksX15_length_0 12 rfl rfl)
theorem dX15_length_13 : decode cX15_length 13 = .ok (.istore 7, 2) := dk_54 7 (dk_at dksX15_length_0 13 rfl rfl)
theorem dX15_length_15 : decode cX15_length 15 = .ok (.iload 7, 2) := dk_21 7 (dk_at dksX15_length_0 15 rfl rfl)
theorem dX15_length_17 : decode cX15_length 17 = .ok (.iload 4, 2) := dk_21 4 (dk_at dksX15_length_0 17 rfl rfl)
theorem dX15_length_19 : decode cX15_length 19 = .ok (.if_icmp .ge 91, 3) := dk_162 0 91 (dk_at dksX15_length_0 19 rfl rfl)
theorem dX15_length_22 : decode cX15_length 22 = .ok (.aload_n 0, 1) := dk_42 (dk_at dksX15_length_0 22 rfl rfl)
theorem dX15_length_23 : decode cX15_length 23 = .ok (.invokevirtual 57, 3) := dk_182 0 57 (dk_at dksX15_length_1 0 rfl rfl)
theorem dX15_length_26 : decode cX15_length 26 = .ok (.istore 8, 2) := dk_54 8 (dk_at dksX15_length_1 3 rfl rfl)
theorem dX15_length_28 : decode cX15_length 28 = .ok (.iload 8, 2) := dk_21 8 (dk_at dksX15_length_1 5 rfl rfl)
theorem dX15_length_30 : decode cX15_length 30 = .ok (.iload_n 3, 1) := dk_29 (dk_at dksX15_length_1 7 rfl rfl)
theorem dX15_length_31 : decode cX15_length 31 = .ok (.if_icmp .ge 20, 3) := dk_162 0 20 (dk_at dksX15_length_1 8 rfl rfl)
theorem dX15_length_34 : decode cX15_length 34 = .ok (.aload_n 0, 1) := dk_42 (dk_at dksX15_length_1 11 rfl rfl)
theorem dX15_length_35 : decode cX15_length 35 = .ok (.aload_n 2, 1) := dk_44 (dk_at dksX15_length_1 12 rfl rfl)
theorem dX15_length_36 : decode cX15_length 36 = .ok (.invokevirtual 60, 3) := dk_182 0 60 (dk_at dksX15_length_1 13 rfl rfl)
theorem dX15_length_39 : decode cX15_length 39 = .ok (.ifCond .eq 12, 3) := dk_153 0 12 (dk_at dksX15_length_1 16 rfl rfl)
theorem dX15_length_42 : decode cX15_length 42 = .ok (.aload_n 0, 1) := dk_42 (dk_at dksX15_length_1 19 rfl rfl)
theorem dX15_length_43 : decode cX15_length 43 = .ok (.invokevirtual 57, 3) := dk_182 0 57 (dk_at dksX15_length_1 20 rfl rfl)
theorem dX15_length_46 : decode cX15_length 46 = .ok (.istore 8, 2) := dk_54 8 (dk_at dksX15_length_2 0 rfl rfl)
theorem dX15_length_48 : decode cX15_length 48 = .ok (.goto (-20), 3) := dk_167 255 236 (dk_at dksX15_length_2 2 rfl rfl)
theorem dX15_length_51 : decode cX15_length 51 = .ok (.iload 8, 2) := dk_21 8 (dk_at dksX15_length_2 5 rfl rfl)
theorem dX15_length_53 : decode cX15_length 53 = .ok (.ifCond .ne 19, 3) := dk_154 0 19 (dk_at dksX15_length_2 7 rfl rfl)
theorem dX15_length_56 : decode cX15_length 56 = .ok (.iload 6, 2) := dk_21 6 (dk_at dksX15_length_2 10 rfl rfl)
theorem dX15_length_58 : decode cX15_length 58 = .ok (.iload 5, 2) := dk_21 5 (dk_at dksX15_length_2 12 rfl rfl)
theorem dX15_length_60 : decode cX15_length 60 = .ok (.isub, 1) := dk_100 (dk_at dksX15_length_2 14 rfl rfl)
theorem dX15_length_61 : decode cX15_length 61 = .ok (.iconst 4, 1) := dk_7 (dk_at dksX15_length_2 15 rfl rfl)
theorem dX15_length_62 : decode cX15_length 62 = .ok (.if_icmp .ge 8, 3) := dk_162 0 8 (dk_at dksX15_length_2 16 rfl rfl)
theorem dX15_length_65 : decode cX15_length 65 = .ok (.iload 7, 2) := dk_21 7 (dk_at dksX15_length_2 19 rfl rfl)
theorem dX15_length_67 : decode cX15_length 67 = .ok (.goto 4, 3) := dk_167 0 4 (dk_at dksX15_length_2 21 rfl rfl)
theorem dX15_length_70 : decode cX15_length 70 = .ok (.iconst 0, 1) := dk_3 (dk_at dksX15_length_3 0 rfl rfl)
theorem dX15_length_71 : decode cX15_length 71 = .ok (.ireturn, 1) := dk_172 (dk_at dksX15_length_3 1 rfl rfl)
theorem dX15_length_72 : decode cX15_length 72 = .ok (.iload 7, 2) := dk_21 7 (dk_at dksX15_length_3 2 rfl rfl)
theorem dX15_length_74 : decode cX15_length 74 = .ok (.ifCond .ne 8, 3) := dk_154 0 8 (dk_at dksX15_length_3 4 rfl rfl)
theorem dX15_length_77 : decode cX15_length 77 = .ok (.iload 8, 2) := dk_21 8 (dk_at dksX15_length_3 7 rfl rfl)
theorem dX15_length_79 : decode cX15_length 79 = .ok (.goto 10, 3) := dk_167 0 10 (dk_at dksX15_length_3 9 rfl rfl)
theorem dX15_length_82 : decode cX15_length 82 = .ok (.iload 5, 2) := dk_21 5 (dk_at dksX15_length_3 12 rfl rfl)
theorem dX15_length_84 : decode cX15_length 84 = .ok (.iload 8, 2) := dk_21 8 (dk_at dksX15_length_3 14 rfl rfl)
theorem dX15_length_86 : decode cX15_length 86 = .ok (.invokestatic 64, 3) := dk_184 0 64 (dk_at dksX15_length_3 16 rfl rfl)
theorem dX15_length_89 : decode cX15_length 89 = .ok (.istore 5, 2) := dk_54 5 (dk_at dksX15_length_3 19 rfl rfl)
theorem dX15_length_91 : decode cX15_length 91 = .ok (.iload 6, 2) := dk_21 6 (dk_at dksX15_length_3 21 rfl rfl)
theorem dX15_length_93 : decode cX15_length 93 = .ok (.iload 8, 2) := dk_21 8 (dk_at dksX15_length_4 0 rfl rfl)
theorem dX15_length_95 : decode cX15_length 95 = .ok (.invokestatic 70, 3) := dk_184 0 70 (dk_at dksX15_length_4 2 rfl rfl)
theorem dX15_length_98 : decode cX15_length 98 = .ok (.istore 6, 2) := dk_54 6 (dk_at dksX15_length_4 5 rfl rfl)
theorem dX15_length_100 : decode cX15_length 100 = .ok (.aload_n 0, 1) := dk_42 (dk_at dksX15_length_4 7 rfl rfl)
theorem dX15_length_101 : decode cX15_length 101 = .ok (.invokevirtual 73, 3) := dk_182 0 73 (dk_at dksX15_length_4 8 rfl rfl)
theorem dX15_length_104 : decode cX15_length 104 = .ok (.iinc 7 1, 3) := dk_132 7 1 (dk_at dksX15_length_4 11 rfl rfl)
theorem dX15_length_107 : decode cX15_length 107 = .ok (.goto (-92), 3) := dk_167 255 164 (dk_at dksX15_length_4 14 rfl rfl)
theorem dX15_length_110 : decode cX15_length 110 = .ok (.iload 6, 2) := dk_21 6 (dk_at dksX15_length_4 17 rfl rfl)
theorem dX15_length_112 : decode cX15_length 112 = .ok (.iload 5, 2) := dk_21 5 (dk_at dksX15_length_4 19 rfl rfl)
theorem dX15_length_114 : decode cX15_length 114 = .ok (.isub, 1) := dk_100 (dk_at dksX15_length_4 21 rfl rfl)
theorem dX15_length_115 : decode cX15_length 115 = .ok (.iconst 4, 1) := dk_7 (dk_at dksX15_length_4 22 rfl rfl)
theorem dX15_length_116 : decode cX15_length 116 = .ok (.if_icmp .ge 8, 3) := dk_162 0 8 (dk_at dksX15_length_5 0 rfl rfl)
theorem dX15_length_119 : decode cX15_length 119 = .ok (.iload 4, 2) := dk_21 4 (dk_at dksX15_length_5 3 rfl rfl)
theorem dX15_length_121 : decode cX15_length 121 = .ok (.goto 4, 3) := dk_167 0 4 (dk_at dksX15_length_5 5 rfl rfl)
theorem dX15_length_124 : decode cX15_length 124 = .ok (.iconst 0, 1) := dk_3 (dk_at dksX15_length_5 8 rfl rfl)
theorem dX15_length_125 : decode cX15_length 125 = .ok (.ireturn, 1) := dk_172 (dk_at dksX15_length_5 9 rfl rfl)
abbrev cX15_begin : ByteArray := prog_16_method_2_code
def yX15_begin : MethodName := ⟨RX15, "begin", "(LSilkRowModel$Basin;LSilkRowModel$Lot;)V"⟩
def dkwX15_begin_6 : List UInt8 := [167, 255, 206, 44, 180, 0, 37, 3, 42, 180, 0, 16, 3, 6, 184, 0, 40, 177]
abbrev dktX15_begin_6 : List UInt8 := dkwX15_begin_6 ++ []
def dkwX15_begin_5 : List UInt8 := [25, 4, 3, 46, 50, 25, 4, 4, 46, 50, 25, 4, 6, 46, 92, 46, 4, 96, 79, 132, 3, 1]
abbrev dktX15_begin_5 : List UInt8 := dkwX15_begin_5 ++ dktX15_begin_6
def dkwX15_begin_4 : List UInt8 := [182, 0, 26, 162, 0, 45, 43, 180, 0, 20, 29, 182, 0, 32, 192, 0, 36, 58, 4, 42, 180, 0, 11]
abbrev dktX15_begin_4 : List UInt8 := dkwX15_begin_4 ++ dktX15_begin_5
def dkwX15_begin_3 : List UInt8 := [167, 255, 240, 132, 9, 1, 167, 255, 217, 132, 5, 1, 167, 255, 186, 3, 62, 29, 43, 180, 0, 20]
abbrev dktX15_begin_3 : List UInt8 := dkwX15_begin_3 ++ dktX15_begin_4
def dkwX15_begin_2 : List UInt8 := [21, 9, 50, 58, 10, 3, 54, 11, 21, 11, 16, 6, 162, 0, 15, 25, 10, 21, 11, 3, 79, 132, 11, 1]
abbrev dktX15_begin_2 : List UInt8 := dkwX15_begin_2 ++ dktX15_begin_3
def dkwX15_begin_1 : List UInt8 := [58, 6, 25, 6, 58, 7, 25, 7, 190, 54, 8, 3, 54, 9, 21, 9, 21, 8, 162, 0, 38, 25, 7]
abbrev dktX15_begin_1 : List UInt8 := dkwX15_begin_1 ++ dktX15_begin_2
def dkwX15_begin_0 : List UInt8 := [42, 180, 0, 11, 78, 45, 190, 54, 4, 3, 54, 5, 21, 5, 21, 4, 162, 0, 69, 45, 21, 5, 50]
abbrev dktX15_begin_0 : List UInt8 := dkwX15_begin_0 ++ dktX15_begin_1
theorem dksX15_begin_0 : cX15_begin.data.toList.drop 0 = dktX15_begin_0 := by decide +kernel
theorem dksX15_begin_1 : cX15_begin.data.toList.drop 23 = dktX15_begin_1 := dk_seg dksX15_begin_0 23 rfl rfl
theorem dksX15_begin_2 : cX15_begin.data.toList.drop 46 = dktX15_begin_2 := dk_seg dksX15_begin_1 23 rfl rfl
theorem dksX15_begin_3 : cX15_begin.data.toList.drop 70 = dktX15_begin_3 := dk_seg dksX15_begin_2 24 rfl rfl
theorem dksX15_begin_4 : cX15_begin.data.toList.drop 92 = dktX15_begin_4 := dk_seg dksX15_begin_3 22 rfl rfl
theorem dksX15_begin_5 : cX15_begin.data.toList.drop 115 = dktX15_begin_5 := dk_seg dksX15_begin_4 23 rfl rfl
theorem dksX15_begin_6 : cX15_begin.data.toList.drop 137 = dktX15_begin_6 := dk_seg dksX15_begin_5 22 rfl rfl
theorem dX15_begin_0 : decode cX15_begin 0 = .ok (.aload_n 0, 1) := dk_42 (dk_at dksX15_begin_0 0 rfl rfl)
theorem dX15_begin_1 : decode cX15_begin 1 = .ok (.getfield 11, 3) := dk_180 0 11 (dk_at dksX15_begin_0 1 rfl rfl)
theorem dX15_begin_4 : decode cX15_begin 4 = .ok (.astore_n 3, 1) := dk_78 (dk_at dksX15_begin_0 4 rfl rfl)
theorem dX15_begin_5 : decode cX15_begin 5 = .ok (.aload_n 3, 1) := dk_45 (dk_at dksX15_begin_0 5 rfl rfl)
theorem dX15_begin_6 : decode cX15_begin 6 = .ok (.arraylength, 1) := dk_190 (dk_at dksX15_begin_0 6 rfl rfl)
theorem dX15_begin_7 : decode cX15_begin 7 = .ok (.istore 4, 2) := dk_54 4 (dk_at dksX15_begin_0 7 rfl rfl)
theorem dX15_begin_9 : decode cX15_begin 9 = .ok (.iconst 0, 1) := dk_3 (dk_at dksX15_begin_0 9 rfl rfl)
theorem dX15_begin_10 : decode cX15_begin 10 = .ok (.istore 5, 2) := dk_54 5 (dk_at dksX15_begin_0 10 rfl rfl)
theorem dX15_begin_12 : decode cX15_begin 12 = .ok (.iload 5, 2) := dk_21 5 (dk_at dksX15_begin_0 12 rfl rfl)
theorem dX15_begin_14 : decode cX15_begin 14 = .ok (.iload 4, 2) := dk_21 4 (dk_at dksX15_begin_0 14 rfl rfl)
theorem dX15_begin_16 : decode cX15_begin 16 = .ok (.if_icmp .ge 69, 3) := dk_162 0 69 (dk_at dksX15_begin_0 16 rfl rfl)
theorem dX15_begin_19 : decode cX15_begin 19 = .ok (.aload_n 3, 1) := dk_45 (dk_at dksX15_begin_0 19 rfl rfl)
theorem dX15_begin_20 : decode cX15_begin 20 = .ok (.iload 5, 2) := dk_21 5 (dk_at dksX15_begin_0 20 rfl rfl)
theorem dX15_begin_22 : decode cX15_begin 22 = .ok (.aaload, 1) := dk_50 (dk_at dksX15_begin_0 22 rfl rfl)
theorem dX15_begin_23 : decode cX15_begin 23 = .ok (.astore 6, 2) := dk_58 6 (dk_at dksX15_begin_1 0 rfl rfl)
theorem dX15_begin_25 : decode cX15_begin 25 = .ok (.aload 6, 2) := dk_25 6 (dk_at dksX15_begin_1 2 rfl rfl)
theorem dX15_begin_27 : decode cX15_begin 27 = .ok (.astore 7, 2) := dk_58 7 (dk_at dksX15_begin_1 4 rfl rfl)
theorem dX15_begin_29 : decode cX15_begin 29 = .ok (.aload 7, 2) := dk_25 7 (dk_at dksX15_begin_1 6 rfl rfl)
theorem dX15_begin_31 : decode cX15_begin 31 = .ok (.arraylength, 1) := dk_190 (dk_at dksX15_begin_1 8 rfl rfl)
theorem dX15_begin_32 : decode cX15_begin 32 = .ok (.istore 8, 2) := dk_54 8 (dk_at dksX15_begin_1 9 rfl rfl)
theorem dX15_begin_34 : decode cX15_begin 34 = .ok (.iconst 0, 1) := dk_3 (dk_at dksX15_begin_1 11 rfl rfl)
theorem dX15_begin_35 : decode cX15_begin 35 = .ok (.istore 9, 2) := dk_54 9 (dk_at dksX15_begin_1 12 rfl rfl)
theorem dX15_begin_37 : decode cX15_begin 37 = .ok (.iload 9, 2) := dk_21 9 (dk_at dksX15_begin_1 14 rfl rfl)
theorem dX15_begin_39 : decode cX15_begin 39 = .ok (.iload 8, 2) := dk_21 8 (dk_at dksX15_begin_1 16 rfl rfl)
theorem dX15_begin_41 : decode cX15_begin 41 = .ok (.if_icmp .ge 38, 3) := dk_162 0 38 (dk_at dksX15_begin_1 18 rfl rfl)
theorem dX15_begin_44 : decode cX15_begin 44 = .ok (.aload 7, 2) := dk_25 7 (dk_at dksX15_begin_1 21 rfl rfl)
theorem dX15_begin_46 : decode cX15_begin 46 = .ok (.iload 9, 2) := dk_21 9 (dk_at dksX15_begin_2 0 rfl rfl)
theorem dX15_begin_48 : decode cX15_begin 48 = .ok (.aaload, 1) := dk_50 (dk_at dksX15_begin_2 2 rfl rfl)
theorem dX15_begin_49 : decode cX15_begin 49 = .ok (.astore 10, 2) := dk_58 10 (dk_at dksX15_begin_2 3 rfl rfl)
theorem dX15_begin_51 : decode cX15_begin 51 = .ok (.iconst 0, 1) := dk_3 (dk_at dksX15_begin_2 5 rfl rfl)
theorem dX15_begin_52 : decode cX15_begin 52 = .ok (.istore 11, 2) := dk_54 11 (dk_at dksX15_begin_2 6 rfl rfl)
theorem dX15_begin_54 : decode cX15_begin 54 = .ok (.iload 11, 2) := dk_21 11 (dk_at dksX15_begin_2 8 rfl rfl)
theorem dX15_begin_56 : decode cX15_begin 56 = .ok (.bipush 6, 2) := dk_16 6 (dk_at dksX15_begin_2 10 rfl rfl)
theorem dX15_begin_58 : decode cX15_begin 58 = .ok (.if_icmp .ge 15, 3) := dk_162 0 15 (dk_at dksX15_begin_2 12 rfl rfl)
theorem dX15_begin_61 : decode cX15_begin 61 = .ok (.aload 10, 2) := dk_25 10 (dk_at dksX15_begin_2 15 rfl rfl)
theorem dX15_begin_63 : decode cX15_begin 63 = .ok (.iload 11, 2) := dk_21 11 (dk_at dksX15_begin_2 17 rfl rfl)
theorem dX15_begin_65 : decode cX15_begin 65 = .ok (.iconst 0, 1) := dk_3 (dk_at dksX15_begin_2 19 rfl rfl)
theorem dX15_begin_66 : decode cX15_begin 66 = .ok (.iastore, 1) := dk_79 (dk_at dksX15_begin_2 20 rfl rfl)
theorem dX15_begin_67 : decode cX15_begin 67 = .ok (.iinc 11 1, 3) := dk_132 11 1 (dk_at dksX15_begin_2 21 rfl rfl)
theorem dX15_begin_70 : decode cX15_begin 70 = .ok (.goto (-16), 3) := dk_167 255 240 (dk_at dksX15_begin_3 0 rfl rfl)
theorem dX15_begin_73 : decode cX15_begin 73 = .ok (.iinc 9 1, 3) := dk_132 9 1 (dk_at dksX15_begin_3 3 rfl rfl)
theorem dX15_begin_76 : decode cX15_begin 76 = .ok (.goto (-39), 3) := dk_167 255 217 (dk_at dksX15_begin_3 6 rfl rfl)
theorem dX15_begin_79 : decode cX15_begin 79 = .ok (.iinc 5 1, 3) := dk_132 5 1 (dk_at dksX15_begin_3 9 rfl rfl)
theorem dX15_begin_82 : decode cX15_begin 82 = .ok (.goto (-70), 3) := dk_167 255 186 (dk_at dksX15_begin_3 12 rfl rfl)
theorem dX15_begin_85 : decode cX15_begin 85 = .ok (.iconst 0, 1) := dk_3 (dk_at dksX15_begin_3 15 rfl rfl)
theorem dX15_begin_86 : decode cX15_begin 86 = .ok (.istore_n 3, 1) := dk_62 (dk_at dksX15_begin_3 16 rfl rfl)
theorem dX15_begin_87 : decode cX15_begin 87 = .ok (.iload_n 3, 1) := dk_29 (dk_at dksX15_begin_3 17 rfl rfl)
theorem dX15_begin_88 : decode cX15_begin 88 = .ok (.aload_n 1, 1) := dk_43 (dk_at dksX15_begin_3 18 rfl rfl)
theorem dX15_begin_89 : decode cX15_begin 89 = .ok (.getfield 20, 3) := dk_180 0 20 (dk_at dksX15_begin_3 19 rfl rfl)
theorem dX15_begin_92 : decode cX15_begin 92 = .ok (.invokevirtual 26, 3) := dk_182 0 26 (dk_at dksX15_begin_4 0 rfl rfl)
theorem dX15_begin_95 : decode cX15_begin 95 = .ok (.if_icmp .ge 45, 3) := dk_162 0 45 (dk_at dksX15_begin_4 3 rfl rfl)
theorem dX15_begin_98 : decode cX15_begin 98 = .ok (.aload_n 1, 1) := dk_43 (dk_at dksX15_begin_4 6 rfl rfl)
theorem dX15_begin_99 : decode cX15_begin 99 = .ok (.getfield 20, 3) := dk_180 0 20 (dk_at dksX15_begin_4 7 rfl rfl)
theorem dX15_begin_102 : decode cX15_begin 102 = .ok (.iload_n 3, 1) := dk_29 (dk_at dksX15_begin_4 10 rfl rfl)
theorem dX15_begin_103 : decode cX15_begin 103 = .ok (.invokevirtual 32, 3) := dk_182 0 32 (dk_at dksX15_begin_4 11 rfl rfl)
theorem dX15_begin_106 : decode cX15_begin 106 = .ok (.checkcast 36, 3) := dk_192 0 36 (dk_at dksX15_begin_4 14 rfl rfl)
theorem dX15_begin_109 : decode cX15_begin 109 = .ok (.astore 4, 2) := dk_58 4 (dk_at dksX15_begin_4 17 rfl rfl)
theorem dX15_begin_111 : decode cX15_begin 111 = .ok (.aload_n 0, 1) := dk_42 (dk_at dksX15_begin_4 19 rfl rfl)
theorem dX15_begin_112 : decode cX15_begin 112 = .ok (.getfield 11, 3) := dk_180 0 11 (dk_at dksX15_begin_4 20 rfl rfl)
theorem dX15_begin_115 : decode cX15_begin 115 = .ok (.aload 4, 2) := dk_25 4 (dk_at dksX15_begin_5 0 rfl rfl)
theorem dX15_begin_117 : decode cX15_begin 117 = .ok (.iconst 0, 1) := dk_3 (dk_at dksX15_begin_5 2 rfl rfl)
theorem dX15_begin_118 : decode cX15_begin 118 = .ok (.iaload, 1) := dk_46 (dk_at dksX15_begin_5 3 rfl rfl)
theorem dX15_begin_119 : decode cX15_begin 119 = .ok (.aaload, 1) := dk_50 (dk_at dksX15_begin_5 4 rfl rfl)
theorem dX15_begin_120 : decode cX15_begin 120 = .ok (.aload 4, 2) := dk_25 4 (dk_at dksX15_begin_5 5 rfl rfl)
theorem dX15_begin_122 : decode cX15_begin 122 = .ok (.iconst 1, 1) := dk_4 (dk_at dksX15_begin_5 7 rfl rfl)
theorem dX15_begin_123 : decode cX15_begin 123 = .ok (.iaload, 1) := dk_46 (dk_at dksX15_begin_5 8 rfl rfl)
theorem dX15_begin_124 : decode cX15_begin 124 = .ok (.aaload, 1) := dk_50 (dk_at dksX15_begin_5 9 rfl rfl)
theorem dX15_begin_125 : decode cX15_begin 125 = .ok (.aload 4, 2) := dk_25 4 (dk_at dksX15_begin_5 10 rfl rfl)
theorem dX15_begin_127 : decode cX15_begin 127 = .ok (.iconst 3, 1) := dk_6 (dk_at dksX15_begin_5 12 rfl rfl)
theorem dX15_begin_128 : decode cX15_begin 128 = .ok (.iaload, 1) := dk_46 (dk_at dksX15_begin_5 13 rfl rfl)
theorem dX15_begin_129 : decode cX15_begin 129 = .ok (.dup2, 1) := dk_92 (dk_at dksX15_begin_5 14 rfl rfl)
theorem dX15_begin_130 : decode cX15_begin 130 = .ok (.iaload, 1) := dk_46 (dk_at dksX15_begin_5 15 rfl rfl)
theorem dX15_begin_131 : decode cX15_begin 131 = .ok (.iconst 1, 1) := dk_4 (dk_at dksX15_begin_5 16 rfl rfl)
theorem dX15_begin_132 : decode cX15_begin 132 = .ok (.iadd, 1) := dk_96 (dk_at dksX15_begin_5 17 rfl rfl)
theorem dX15_begin_133 : decode cX15_begin 133 = .ok (.iastore, 1) := dk_79 (dk_at dksX15_begin_5 18 rfl rfl)
theorem dX15_begin_134 : decode cX15_begin 134 = .ok (.iinc 3 1, 3) := dk_132 3 1 (dk_at dksX15_begin_5 19 rfl rfl)
theorem dX15_begin_137 : decode cX15_begin 137 = .ok (.goto (-50), 3) := dk_167 255 206 (dk_at dksX15_begin_6 0 rfl rfl)
theorem dX15_begin_140 : decode cX15_begin 140 = .ok (.aload_n 2, 1) := dk_44 (dk_at dksX15_begin_6 3 rfl rfl)
theorem dX15_begin_141 : decode cX15_begin 141 = .ok (.getfield 37, 3) := dk_180 0 37 (dk_at dksX15_begin_6 4 rfl rfl)
theorem dX15_begin_144 : decode cX15_begin 144 = .ok (.iconst 0, 1) := dk_3 (dk_at dksX15_begin_6 7 rfl rfl)
theorem dX15_begin_145 : decode cX15_begin 145 = .ok (.aload_n 0, 1) := dk_42 (dk_at dksX15_begin_6 8 rfl rfl)
theorem dX15_begin_146 : decode cX15_begin 146 = .ok (.getfield 16, 3) := dk_180 0 16 (dk_at dksX15_begin_6 9 rfl rfl)
theorem dX15_begin_149 : decode cX15_begin 149 = .ok (.iconst 0, 1) := dk_3 (dk_at dksX15_begin_6 12 rfl rfl)
theorem dX15_begin_150 : decode cX15_begin 150 = .ok (.iconst 3, 1) := dk_6 (dk_at dksX15_begin_6 13 rfl rfl)
theorem dX15_begin_151 : decode cX15_begin 151 = .ok (.invokestatic 40, 3) := dk_184 0 40 (dk_at dksX15_begin_6 14 rfl rfl)
theorem dX15_begin_154 : decode cX15_begin 154 = .ok (.return_, 1) := dk_177 (dk_at dksX15_begin_6 17 rfl rfl)
abbrev cX15_sum : ByteArray := prog_16_method_3_code
def yX15_sum : MethodName := ⟨RX15, "sum", "()I"⟩
def dkwX15_sum_2 : List UInt8 := [60, 132, 4, 1, 167, 255, 225, 132, 3, 1, 167, 255, 210, 132, 2, 1, 167, 255, 197, 27, 172]
abbrev dktX15_sum_2 : List UInt8 := dkwX15_sum_2 ++ []
def dkwX15_sum_1 : List UInt8 := [162, 0, 31, 27, 42, 180, 0, 11, 28, 50, 29, 50, 21, 4, 46, 28, 29, 21, 4, 184, 0, 46, 104, 96]
abbrev dktX15_sum_1 : List UInt8 := dkwX15_sum_1 ++ dktX15_sum_2
def dkwX15_sum_0 : List UInt8 := [3, 60, 3, 61, 28, 6, 162, 0, 60, 5, 62, 29, 16, 6, 163, 0, 46, 3, 54, 4, 21, 4, 8]
abbrev dktX15_sum_0 : List UInt8 := dkwX15_sum_0 ++ dktX15_sum_1
theorem dksX15_sum_0 : cX15_sum.data.toList.drop 0 = dktX15_sum_0 := by decide +kernel
theorem dksX15_sum_1 : cX15_sum.data.toList.drop 23 = dktX15_sum_1 := dk_seg dksX15_sum_0 23 rfl rfl
theorem dksX15_sum_2 : cX15_sum.data.toList.drop 47 = dktX15_sum_2 := dk_seg dksX15_sum_1 24 rfl rfl
theorem dX15_sum_0 : decode cX15_sum 0 = .ok (.iconst 0, 1) := dk_3 (dk_at dksX15_sum_0 0 rfl rfl)
theorem dX15_sum_1 : decode cX15_sum 1 = .ok (.istore_n 1, 1) := dk_60 (dk_at dksX15_sum_0 1 rfl rfl)
theorem dX15_sum_2 : decode cX15_sum 2 = .ok (.iconst 0, 1) := dk_3 (dk_at dksX15_sum_0 2 rfl rfl)
theorem dX15_sum_3 : decode cX15_sum 3 = .ok (.istore_n 2, 1) := dk_61 (dk_at dksX15_sum_0 3 rfl rfl)
theorem dX15_sum_4 : decode cX15_sum 4 = .ok (.iload_n 2, 1) := dk_28 (dk_at dksX15_sum_0 4 rfl rfl)
theorem dX15_sum_5 : decode cX15_sum 5 = .ok (.iconst 3, 1) := dk_6 (dk_at dksX15_sum_0 5 rfl rfl)
theorem dX15_sum_6 : decode cX15_sum 6 = .ok (.if_icmp .ge 60, 3) := dk_162 0 60 (dk_at dksX15_sum_0 6 rfl rfl)
theorem dX15_sum_9 : decode cX15_sum 9 = .ok (.iconst 2, 1) := dk_5 (dk_at dksX15_sum_0 9 rfl rfl)
theorem dX15_sum_10 : decode cX15_sum 10 = .ok (.istore_n 3, 1) := dk_62 (dk_at dksX15_sum_0 10 rfl rfl)
theorem dX15_sum_11 : decode cX15_sum 11 = .ok (.iload_n 3, 1) := dk_29 (dk_at dksX15_sum_0 11 rfl rfl)
theorem dX15_sum_12 : decode cX15_sum 12 = .ok (.bipush 6, 2) := dk_16 6 (dk_at dksX15_sum_0 12 rfl rfl)
theorem dX15_sum_14 : decode cX15_sum 14 = .ok (.if_icmp .gt 46, 3) := dk_163 0 46 (dk_at dksX15_sum_0 14 rfl rfl)
theorem dX15_sum_17 : decode cX15_sum 17 = .ok (.iconst 0, 1) := dk_3 (dk_at dksX15_sum_0 17 rfl rfl)
theorem dX15_sum_18 : decode cX15_sum 18 = .ok (.istore 4, 2) := dk_54 4 (dk_at dksX15_sum_0 18 rfl rfl)
theorem dX15_sum_20 : decode cX15_sum 20 = .ok (.iload 4, 2) := dk_21 4 (dk_at dksX15_sum_0 20 rfl rfl)
theorem dX15_sum_22 : decode cX15_sum 22 = .ok (.iconst 5, 1) := dk_8 (dk_at dksX15_sum_0 22 rfl rfl)
theorem dX15_sum_23 : decode cX15_sum 23 = .ok (.if_icmp .ge 31, 3) := dk_162 0 31 (dk_at dksX15_sum_1 0 rfl rfl)
theorem dX15_sum_26 : decode cX15_sum 26 = .ok (.iload_n 1, 1) := dk_27 (dk_at dksX15_sum_1 3 rfl rfl)
theorem dX15_sum_27 : decode cX15_sum 27 = .ok (.aload_n 0, 1) := dk_42 (dk_at dksX15_sum_1 4 rfl rfl)
theorem dX15_sum_28 : decode cX15_sum 28 = .ok (.getfield 11, 3) := dk_180 0 11 (dk_at dksX15_sum_1 5 rfl rfl)
theorem dX15_sum_31 : decode cX15_sum 31 = .ok (.iload_n 2, 1) := dk_28 (dk_at dksX15_sum_1 8 rfl rfl)
theorem dX15_sum_32 : decode cX15_sum 32 = .ok (.aaload, 1) := dk_50 (dk_at dksX15_sum_1 9 rfl rfl)
theorem dX15_sum_33 : decode cX15_sum 33 = .ok (.iload_n 3, 1) := dk_29 (dk_at dksX15_sum_1 10 rfl rfl)
theorem dX15_sum_34 : decode cX15_sum 34 = .ok (.aaload, 1) := dk_50 (dk_at dksX15_sum_1 11 rfl rfl)
theorem dX15_sum_35 : decode cX15_sum 35 = .ok (.iload 4, 2) := dk_21 4 (dk_at dksX15_sum_1 12 rfl rfl)
theorem dX15_sum_37 : decode cX15_sum 37 = .ok (.iaload, 1) := dk_46 (dk_at dksX15_sum_1 14 rfl rfl)
theorem dX15_sum_38 : decode cX15_sum 38 = .ok (.iload_n 2, 1) := dk_28 (dk_at dksX15_sum_1 15 rfl rfl)
theorem dX15_sum_39 : decode cX15_sum 39 = .ok (.iload_n 3, 1) := dk_29 (dk_at dksX15_sum_1 16 rfl rfl)
theorem dX15_sum_40 : decode cX15_sum 40 = .ok (.iload 4, 2) := dk_21 4 (dk_at dksX15_sum_1 17 rfl rfl)
theorem dX15_sum_42 : decode cX15_sum 42 = .ok (.invokestatic 46, 3) := dk_184 0 46 (dk_at dksX15_sum_1 19 rfl rfl)
theorem dX15_sum_45 : decode cX15_sum 45 = .ok (.imul, 1) := dk_104 (dk_at dksX15_sum_1 22 rfl rfl)
theorem dX15_sum_46 : decode cX15_sum 46 = .ok (.iadd, 1) := dk_96 (dk_at dksX15_sum_1 23 rfl rfl)
theorem dX15_sum_47 : decode cX15_sum 47 = .ok (.istore_n 1, 1) := dk_60 (dk_at dksX15_sum_2 0 rfl rfl)
theorem dX15_sum_48 : decode cX15_sum 48 = .ok (.iinc 4 1, 3) := dk_132 4 1 (dk_at dksX15_sum_2 1 rfl rfl)
theorem dX15_sum_51 : decode cX15_sum 51 = .ok (.goto (-31), 3) := dk_167 255 225 (dk_at dksX15_sum_2 4 rfl rfl)
theorem dX15_sum_54 : decode cX15_sum 54 = .ok (.iinc 3 1, 3) := dk_132 3 1 (dk_at dksX15_sum_2 7 rfl rfl)
theorem dX15_sum_57 : decode cX15_sum 57 = .ok (.goto (-46), 3) := dk_167 255 210 (dk_at dksX15_sum_2 10 rfl rfl)
theorem dX15_sum_60 : decode cX15_sum 60 = .ok (.iinc 2 1, 3) := dk_132 2 1 (dk_at dksX15_sum_2 13 rfl rfl)
theorem dX15_sum_63 : decode cX15_sum 63 = .ok (.goto (-59), 3) := dk_167 255 197 (dk_at dksX15_sum_2 16 rfl rfl)
theorem dX15_sum_66 : decode cX15_sum 66 = .ok (.iload_n 1, 1) := dk_27 (dk_at dksX15_sum_2 19 rfl rfl)
theorem dX15_sum_67 : decode cX15_sum 67 = .ok (.ireturn, 1) := dk_172 (dk_at dksX15_sum_2 20 rfl rfl)
abbrev cX15_join : ByteArray := prog_16_method_4_code
def yX15_join : MethodName := ⟨RX15, "join", "(LSilkRowModel$Lot;)Z"⟩
def dkwX15_join_2 : List UInt8 := [100, 79, 42, 180, 0, 11, 28, 50, 43, 180, 0, 50, 50, 3, 92, 46, 4, 96, 79, 4, 172]
abbrev dktX15_join_2 : List UInt8 := dkwX15_join_2 ++ []
def dkwX15_join_1 : List UInt8 := [167, 0, 4, 5, 61, 42, 180, 0, 16, 28, 46, 154, 0, 5, 3, 172, 42, 180, 0, 16, 28, 92, 46, 4]
abbrev dktX15_join_1 : List UInt8 := dkwX15_join_1 ++ dktX15_join_2
def dkwX15_join_0 : List UInt8 := [42, 180, 0, 16, 3, 46, 158, 0, 7, 3, 167, 0, 17, 42, 180, 0, 16, 4, 46, 158, 0, 7, 4]
abbrev dktX15_join_0 : List UInt8 := dkwX15_join_0 ++ dktX15_join_1
theorem dksX15_join_0 : cX15_join.data.toList.drop 0 = dktX15_join_0 := by decide +kernel
theorem dksX15_join_1 : cX15_join.data.toList.drop 23 = dktX15_join_1 := dk_seg dksX15_join_0 23 rfl rfl
theorem dksX15_join_2 : cX15_join.data.toList.drop 47 = dktX15_join_2 := dk_seg dksX15_join_1 24 rfl rfl
theorem dX15_join_0 : decode cX15_join 0 = .ok (.aload_n 0, 1) := dk_42 (dk_at dksX15_join_0 0 rfl rfl)
theorem dX15_join_1 : decode cX15_join 1 = .ok (.getfield 16, 3) := dk_180 0 16 (dk_at dksX15_join_0 1 rfl rfl)
theorem dX15_join_4 : decode cX15_join 4 = .ok (.iconst 0, 1) := dk_3 (dk_at dksX15_join_0 4 rfl rfl)
theorem dX15_join_5 : decode cX15_join 5 = .ok (.iaload, 1) := dk_46 (dk_at dksX15_join_0 5 rfl rfl)
theorem dX15_join_6 : decode cX15_join 6 = .ok (.ifCond .le 7, 3) := dk_158 0 7 (dk_at dksX15_join_0 6 rfl rfl)
theorem dX15_join_9 : decode cX15_join 9 = .ok (.iconst 0, 1) := dk_3 (dk_at dksX15_join_0 9 rfl rfl)
theorem dX15_join_10 : decode cX15_join 10 = .ok (.goto 17, 3) := dk_167 0 17 (dk_at dksX15_join_0 10 rfl rfl)
theorem dX15_join_13 : decode cX15_join 13 = .ok (.aload_n 0, 1) := dk_42 (dk_at dksX15_join_0 13 rfl rfl)
theorem dX15_join_14 : decode cX15_join 14 = .ok (.getfield 16, 3) := dk_180 0 16 (dk_at dksX15_join_0 14 rfl rfl)
theorem dX15_join_17 : decode cX15_join 17 = .ok (.iconst 1, 1) := dk_4 (dk_at dksX15_join_0 17 rfl rfl)
theorem dX15_join_18 : decode cX15_join 18 = .ok (.iaload, 1) := dk_46 (dk_at dksX15_join_0 18 rfl rfl)
theorem dX15_join_19 : decode cX15_join 19 = .ok (.ifCond .le 7, 3) := dk_158 0 7 (dk_at dksX15_join_0 19 rfl rfl)
theorem dX15_join_22 : decode cX15_join 22 = .ok (.iconst 1, 1) := dk_4 (dk_at dksX15_join_0 22 rfl rfl)
theorem dX15_join_23 : decode cX15_join 23 = .ok (.goto 4, 3) := dk_167 0 4 (dk_at dksX15_join_1 0 rfl rfl)
theorem dX15_join_26 : decode cX15_join 26 = .ok (.iconst 2, 1) := dk_5 (dk_at dksX15_join_1 3 rfl rfl)
theorem dX15_join_27 : decode cX15_join 27 = .ok (.istore_n 2, 1) := dk_61 (dk_at dksX15_join_1 4 rfl rfl)
theorem dX15_join_28 : decode cX15_join 28 = .ok (.aload_n 0, 1) := dk_42 (dk_at dksX15_join_1 5 rfl rfl)
theorem dX15_join_29 : decode cX15_join 29 = .ok (.getfield 16, 3) := dk_180 0 16 (dk_at dksX15_join_1 6 rfl rfl)
theorem dX15_join_32 : decode cX15_join 32 = .ok (.iload_n 2, 1) := dk_28 (dk_at dksX15_join_1 9 rfl rfl)
theorem dX15_join_33 : decode cX15_join 33 = .ok (.iaload, 1) := dk_46 (dk_at dksX15_join_1 10 rfl rfl)
theorem dX15_join_34 : decode cX15_join 34 = .ok (.ifCond .ne 5, 3) := dk_154 0 5 (dk_at dksX15_join_1 11 rfl rfl)
theorem dX15_join_37 : decode cX15_join 37 = .ok (.iconst 0, 1) := dk_3 (dk_at dksX15_join_1 14 rfl rfl)
theorem dX15_join_38 : decode cX15_join 38 = .ok (.ireturn, 1) := dk_172 (dk_at dksX15_join_1 15 rfl rfl)
theorem dX15_join_39 : decode cX15_join 39 = .ok (.aload_n 0, 1) := dk_42 (dk_at dksX15_join_1 16 rfl rfl)
theorem dX15_join_40 : decode cX15_join 40 = .ok (.getfield 16, 3) := dk_180 0 16 (dk_at dksX15_join_1 17 rfl rfl)
theorem dX15_join_43 : decode cX15_join 43 = .ok (.iload_n 2, 1) := dk_28 (dk_at dksX15_join_1 20 rfl rfl)
theorem dX15_join_44 : decode cX15_join 44 = .ok (.dup2, 1) := dk_92 (dk_at dksX15_join_1 21 rfl rfl)
theorem dX15_join_45 : decode cX15_join 45 = .ok (.iaload, 1) := dk_46 (dk_at dksX15_join_1 22 rfl rfl)
theorem dX15_join_46 : decode cX15_join 46 = .ok (.iconst 1, 1) := dk_4 (dk_at dksX15_join_1 23 rfl rfl)
theorem dX15_join_47 : decode cX15_join 47 = .ok (.isub, 1) := dk_100 (dk_at dksX15_join_2 0 rfl rfl)
theorem dX15_join_48 : decode cX15_join 48 = .ok (.iastore, 1) := dk_79 (dk_at dksX15_join_2 1 rfl rfl)
theorem dX15_join_49 : decode cX15_join 49 = .ok (.aload_n 0, 1) := dk_42 (dk_at dksX15_join_2 2 rfl rfl)
theorem dX15_join_50 : decode cX15_join 50 = .ok (.getfield 11, 3) := dk_180 0 11 (dk_at dksX15_join_2 3 rfl rfl)
theorem dX15_join_53 : decode cX15_join 53 = .ok (.iload_n 2, 1) := dk_28 (dk_at dksX15_join_2 6 rfl rfl)
theorem dX15_join_54 : decode cX15_join 54 = .ok (.aaload, 1) := dk_50 (dk_at dksX15_join_2 7 rfl rfl)
theorem dX15_join_55 : decode cX15_join 55 = .ok (.aload_n 1, 1) := dk_43 (dk_at dksX15_join_2 8 rfl rfl)
theorem dX15_join_56 : decode cX15_join 56 = .ok (.getfield 50, 3) := dk_180 0 50 (dk_at dksX15_join_2 9 rfl rfl)
theorem dX15_join_59 : decode cX15_join 59 = .ok (.aaload, 1) := dk_50 (dk_at dksX15_join_2 12 rfl rfl)
theorem dX15_join_60 : decode cX15_join 60 = .ok (.iconst 0, 1) := dk_3 (dk_at dksX15_join_2 13 rfl rfl)
theorem dX15_join_61 : decode cX15_join 61 = .ok (.dup2, 1) := dk_92 (dk_at dksX15_join_2 14 rfl rfl)
theorem dX15_join_62 : decode cX15_join 62 = .ok (.iaload, 1) := dk_46 (dk_at dksX15_join_2 15 rfl rfl)
theorem dX15_join_63 : decode cX15_join 63 = .ok (.iconst 1, 1) := dk_4 (dk_at dksX15_join_2 16 rfl rfl)
theorem dX15_join_64 : decode cX15_join 64 = .ok (.iadd, 1) := dk_96 (dk_at dksX15_join_2 17 rfl rfl)
theorem dX15_join_65 : decode cX15_join 65 = .ok (.iastore, 1) := dk_79 (dk_at dksX15_join_2 18 rfl rfl)
theorem dX15_join_66 : decode cX15_join 66 = .ok (.iconst 1, 1) := dk_4 (dk_at dksX15_join_2 19 rfl rfl)
theorem dX15_join_67 : decode cX15_join 67 = .ok (.ireturn, 1) := dk_172 (dk_at dksX15_join_2 20 rfl rfl)
abbrev cX15_go : ByteArray := prog_16_method_5_code
def yX15_go : MethodName := ⟨RX15, "go", "()V"⟩
def dkwX15_go_3 : List UInt8 := [167, 255, 236, 25, 8, 3, 3, 79, 132, 7, 1, 167, 255, 208, 132, 3, 1, 167, 255, 180, 177]
abbrev dktX15_go_3 : List UInt8 := dkwX15_go_3 ++ []
def dkwX15_go_2 : List UInt8 := [54, 9, 21, 9, 158, 0, 21, 25, 8, 21, 9, 25, 8, 21, 9, 4, 100, 46, 79, 132, 9, 255]
abbrev dktX15_go_2 : List UInt8 := dkwX15_go_2 ++ dktX15_go_3
def dkwX15_go_1 : List UInt8 := [25, 5, 190, 54, 6, 3, 54, 7, 21, 7, 21, 6, 162, 0, 47, 25, 5, 21, 7, 50, 58, 8, 8]
abbrev dktX15_go_1 : List UInt8 := dkwX15_go_1 ++ dktX15_go_2
def dkwX15_go_0 : List UInt8 := [42, 180, 0, 11, 76, 43, 190, 61, 3, 62, 29, 28, 162, 0, 77, 43, 29, 50, 58, 4, 25, 4, 58, 5]
abbrev dktX15_go_0 : List UInt8 := dkwX15_go_0 ++ dktX15_go_1
theorem dksX15_go_0 : cX15_go.data.toList.drop 0 = dktX15_go_0 := by decide +kernel
theorem dksX15_go_1 : cX15_go.data.toList.drop 24 = dktX15_go_1 := dk_seg dksX15_go_0 24 rfl rfl
theorem dksX15_go_2 : cX15_go.data.toList.drop 47 = dktX15_go_2 := dk_seg dksX15_go_1 23 rfl rfl
theorem dksX15_go_3 : cX15_go.data.toList.drop 69 = dktX15_go_3 := dk_seg dksX15_go_2 22 rfl rfl
theorem dX15_go_0 : decode cX15_go 0 = .ok (.aload_n 0, 1) := dk_42 (dk_at dksX15_go_0 0 rfl rfl)
theorem dX15_go_1 : decode cX15_go 1 = .ok (.getfield 11, 3) := dk_180 0 11 (dk_at dksX15_go_0 1 rfl rfl)
theorem dX15_go_4 : decode cX15_go 4 = .ok (.astore_n 1, 1) := dk_76 (dk_at dksX15_go_0 4 rfl rfl)
theorem dX15_go_5 : decode cX15_go 5 = .ok (.aload_n 1, 1) := dk_43 (dk_at dksX15_go_0 5 rfl rfl)
theorem dX15_go_6 : decode cX15_go 6 = .ok (.arraylength, 1) := dk_190 (dk_at dksX15_go_0 6 rfl rfl)
theorem dX15_go_7 : decode cX15_go 7 = .ok (.istore_n 2, 1) := dk_61 (dk_at dksX15_go_0 7 rfl rfl)
theorem dX15_go_8 : decode cX15_go 8 = .ok (.iconst 0, 1) := dk_3 (dk_at dksX15_go_0 8 rfl rfl)
theorem dX15_go_9 : decode cX15_go 9 = .ok (.istore_n 3, 1) := dk_62 (dk_at dksX15_go_0 9 rfl rfl)
theorem dX15_go_10 : decode cX15_go 10 = .ok (.iload_n 3, 1) := dk_29 (dk_at dksX15_go_0 10 rfl rfl)
theorem dX15_go_11 : decode cX15_go 11 = .ok (.iload_n 2, 1) := dk_28 (dk_at dksX15_go_0 11 rfl rfl)
theorem dX15_go_12 : decode cX15_go 12 = .ok (.if_icmp .ge 77, 3) := dk_162 0 77 (dk_at dksX15_go_0 12 rfl rfl)
theorem dX15_go_15 : decode cX15_go 15 = .ok (.aload_n 1, 1) := dk_43 (dk_at dksX15_go_0 15 rfl rfl)
theorem dX15_go_16 : decode cX15_go 16 = .ok (.iload_n 3, 1) := dk_29 (dk_at dksX15_go_0 16 rfl rfl)
theorem dX15_go_17 : decode cX15_go 17 = .ok (.aaload, 1) := dk_50 (dk_at dksX15_go_0 17 rfl rfl)
theorem dX15_go_18 : decode cX15_go 18 = .ok (.astore 4, 2) := dk_58 4 (dk_at dksX15_go_0 18 rfl rfl)
theorem dX15_go_20 : decode cX15_go 20 = .ok (.aload 4, 2) := dk_25 4 (dk_at dksX15_go_0 20 rfl rfl)
theorem dX15_go_22 : decode cX15_go 22 = .ok (.astore 5, 2) := dk_58 5 (dk_at dksX15_go_0 22 rfl rfl)
theorem dX15_go_24 : decode cX15_go 24 = .ok (.aload 5, 2) := dk_25 5 (dk_at dksX15_go_1 0 rfl rfl)
theorem dX15_go_26 : decode cX15_go 26 = .ok (.arraylength, 1) := dk_190 (dk_at dksX15_go_1 2 rfl rfl)
theorem dX15_go_27 : decode cX15_go 27 = .ok (.istore 6, 2) := dk_54 6 (dk_at dksX15_go_1 3 rfl rfl)
theorem dX15_go_29 : decode cX15_go 29 = .ok (.iconst 0, 1) := dk_3 (dk_at dksX15_go_1 5 rfl rfl)
theorem dX15_go_30 : decode cX15_go 30 = .ok (.istore 7, 2) := dk_54 7 (dk_at dksX15_go_1 6 rfl rfl)
theorem dX15_go_32 : decode cX15_go 32 = .ok (.iload 7, 2) := dk_21 7 (dk_at dksX15_go_1 8 rfl rfl)
theorem dX15_go_34 : decode cX15_go 34 = .ok (.iload 6, 2) := dk_21 6 (dk_at dksX15_go_1 10 rfl rfl)
theorem dX15_go_36 : decode cX15_go 36 = .ok (.if_icmp .ge 47, 3) := dk_162 0 47 (dk_at dksX15_go_1 12 rfl rfl)
theorem dX15_go_39 : decode cX15_go 39 = .ok (.aload 5, 2) := dk_25 5 (dk_at dksX15_go_1 15 rfl rfl)
theorem dX15_go_41 : decode cX15_go 41 = .ok (.iload 7, 2) := dk_21 7 (dk_at dksX15_go_1 17 rfl rfl)
theorem dX15_go_43 : decode cX15_go 43 = .ok (.aaload, 1) := dk_50 (dk_at dksX15_go_1 19 rfl rfl)
theorem dX15_go_44 : decode cX15_go 44 = .ok (.astore 8, 2) := dk_58 8 (dk_at dksX15_go_1 20 rfl rfl)
theorem dX15_go_46 : decode cX15_go 46 = .ok (.iconst 5, 1) := dk_8 (dk_at dksX15_go_1 22 rfl rfl)
theorem dX15_go_47 : decode cX15_go 47 = .ok (.istore 9, 2) := dk_54 9 (dk_at dksX15_go_2 0 rfl rfl)
theorem dX15_go_49 : decode cX15_go 49 = .ok (.iload 9, 2) := dk_21 9 (dk_at dksX15_go_2 2 rfl rfl)
theorem dX15_go_51 : decode cX15_go 51 = .ok (.ifCond .le 21, 3) := dk_158 0 21 (dk_at dksX15_go_2 4 rfl rfl)
theorem dX15_go_54 : decode cX15_go 54 = .ok (.aload 8, 2) := dk_25 8 (dk_at dksX15_go_2 7 rfl rfl)
theorem dX15_go_56 : decode cX15_go 56 = .ok (.iload 9, 2) := dk_21 9 (dk_at dksX15_go_2 9 rfl rfl)
theorem dX15_go_58 : decode cX15_go 58 = .ok (.aload 8, 2) := dk_25 8 (dk_at dksX15_go_2 11 rfl rfl)
theorem dX15_go_60 : decode cX15_go 60 = .ok (.iload 9, 2) := dk_21 9 (dk_at dksX15_go_2 13 rfl rfl)
theorem dX15_go_62 : decode cX15_go 62 = .ok (.iconst 1, 1) := dk_4 (dk_at dksX15_go_2 15 rfl rfl)
theorem dX15_go_63 : decode cX15_go 63 = .ok (.isub, 1) := dk_100 (dk_at dksX15_go_2 16 rfl rfl)
theorem dX15_go_64 : decode cX15_go 64 = .ok (.iaload, 1) := dk_46 (dk_at dksX15_go_2 17 rfl rfl)
theorem dX15_go_65 : decode cX15_go 65 = .ok (.iastore, 1) := dk_79 (dk_at dksX15_go_2 18 rfl rfl)
theorem dX15_go_66 : decode cX15_go 66 = .ok (.iinc 9 (-1), 3) := dk_132 9 255 (dk_at dksX15_go_2 19 rfl rfl)
theorem dX15_go_69 : decode cX15_go 69 = .ok (.goto (-20), 3) := dk_167 255 236 (dk_at dksX15_go_3 0 rfl rfl)
theorem dX15_go_72 : decode cX15_go 72 = .ok (.aload 8, 2) := dk_25 8 (dk_at dksX15_go_3 3 rfl rfl)
theorem dX15_go_74 : decode cX15_go 74 = .ok (.iconst 0, 1) := dk_3 (dk_at dksX15_go_3 5 rfl rfl)
theorem dX15_go_75 : decode cX15_go 75 = .ok (.iconst 0, 1) := dk_3 (dk_at dksX15_go_3 6 rfl rfl)
theorem dX15_go_76 : decode cX15_go 76 = .ok (.iastore, 1) := dk_79 (dk_at dksX15_go_3 7 rfl rfl)
theorem dX15_go_77 : decode cX15_go 77 = .ok (.iinc 7 1, 3) := dk_132 7 1 (dk_at dksX15_go_3 8 rfl rfl)
theorem dX15_go_80 : decode cX15_go 80 = .ok (.goto (-48), 3) := dk_167 255 208 (dk_at dksX15_go_3 11 rfl rfl)
theorem dX15_go_83 : decode cX15_go 83 = .ok (.iinc 3 1, 3) := dk_132 3 1 (dk_at dksX15_go_3 14 rfl rfl)
theorem dX15_go_86 : decode cX15_go 86 = .ok (.goto (-76), 3) := dk_167 255 180 (dk_at dksX15_go_3 17 rfl rfl)
theorem dX15_go_89 : decode cX15_go 89 = .ok (.return_, 1) := dk_177 (dk_at dksX15_go_3 20 rfl rfl)
theorem q76 : (Jvm.Cond.initialized "SilkRowModel$Trial") ∈ lw_all := lw_g (lw_at lw_m1 33 rfl) rfl
theorem q178 : (Jvm.Cond.selects "SilkRowModel$Trial" ({ cls := "java/lang/Object", name := "getClass", desc := "()Ljava/lang/Class;" } : Jvm.MethodName) ({ cls := "java/lang/Object", name := "getClass", desc := "()Ljava/lang/Class;" } : Jvm.MethodName)) ∈ lw_all := lw_g (lw_at lw_m1 135 rfl) rfl
theorem q635 : (Jvm.Cond.selects "SilkRowModel$Trial" ({ cls := "java/lang/Object", name := "equals", desc := "(Ljava/lang/Object;)Z" } : Jvm.MethodName) ({ cls := "java/lang/Object", name := "equals", desc := "(Ljava/lang/Object;)Z" } : Jvm.MethodName)) ∈ lw_all := lw_g (lw_at lw_m3 112 rfl) rfl
theorem q1108 : (Jvm.Cond.fieldLink "SilkRowModel$Trial" (20 : Nat) "SilkRowModel$Basin" "filaments" "Ljava/util/ArrayList;") ∈ lw_all := lw_g (lw_at lw_m5 105 rfl) rfl
theorem q1393 : (Jvm.Cond.fieldLink "SilkRowModel$Trial" (50 : Nat) "SilkRowModel$Lot" "size" "I") ∈ lw_all := lw_g (lw_at lw_m6 150 rfl) rfl
theorem q1400 : (Jvm.Cond.fieldLink "SilkRowModel$Trial" (37 : Nat) "SilkRowModel$Lot" "left" "[I") ∈ lw_all := lw_g (lw_at lw_m6 157 rfl) rfl
theorem q1617 : (Jvm.Cond.instantiable "SilkRowModel$Trial" (2 : Nat)) ∈ lw_all := lw_g (lw_at lw_m7 134 rfl) rfl
theorem q1619 : (Jvm.Cond.instanceMethod ({ cls := "SilkRowModel$Trial", name := "<init>", desc := "()V" } : Jvm.MethodName)) ∈ lw_all := lw_g (lw_at lw_m7 136 rfl) rfl
theorem q1620 : (Jvm.Cond.code ({ cls := "SilkRowModel$Trial", name := "<init>", desc := "()V" } : Jvm.MethodName) prog_16_method_1_code (1 : Nat) (Option.none : Option Jvm.ClassFile.FieldType)) ∈ lw_all := lw_g (lw_at lw_m7 137 rfl) rfl
theorem q1621 : (Jvm.Cond.methodLink "SilkRowModel$Trial" (3 : Nat) ({ cls := "java/lang/Object", name := "<init>", desc := "()V" } : Jvm.MethodName)) ∈ lw_all := lw_g (lw_at lw_m7 138 rfl) rfl
theorem q1622 : (Jvm.Cond.classLink "SilkRowModel$Trial" (9 : Nat) "[[[I") ∈ lw_all := lw_g (lw_at lw_m7 139 rfl) rfl
theorem q1625 : (Jvm.Cond.fieldLink "SilkRowModel$Trial" (11 : Nat) "SilkRowModel$Trial" "many" "[[[I") ∈ lw_all := lw_g (lw_at lw_m7 142 rfl) rfl
theorem q1626 : (Jvm.Cond.fieldLink "SilkRowModel$Trial" (16 : Nat) "SilkRowModel$Trial" "left" "[I") ∈ lw_all := lw_g (lw_at lw_m7 143 rfl) rfl
theorem q1627 : (Jvm.Cond.laysFinal "SilkRowModel$Trial" "SilkRowModel$Trial" "many" "[[[I") ∈ lw_all := lw_g (lw_at lw_m7 144 rfl) rfl
theorem q1628 : (Jvm.Cond.soleField "SilkRowModel$Trial" "many") ∈ lw_all := lw_g (lw_at lw_m7 145 rfl) rfl
theorem q1629 : (Jvm.Cond.laysFinal "SilkRowModel$Trial" "SilkRowModel$Trial" "left" "[I") ∈ lw_all := lw_g (lw_at lw_m7 146 rfl) rfl
theorem q1630 : (Jvm.Cond.soleField "SilkRowModel$Trial" "left") ∈ lw_all := lw_g (lw_at lw_m7 147 rfl) rfl
theorem q1631 : (Jvm.Cond.superclass "SilkRowModel$Trial" "java/lang/Object") ∈ lw_all := lw_g (lw_at lw_m7 148 rfl) rfl
theorem q1633 : (Jvm.Cond.instanceMethod ({ cls := "SilkRowModel$Trial", name := "length", desc := "(LSilkRowModel$Basin;LSilkRowModel$Lot;II)I" } : Jvm.MethodName)) ∈ lw_all := lw_g (lw_at lw_m7 150 rfl) rfl
theorem q1634 : (Jvm.Cond.selects "SilkRowModel$Trial" ({ cls := "SilkRowModel$Trial", name := "length", desc := "(LSilkRowModel$Basin;LSilkRowModel$Lot;II)I" } : Jvm.MethodName) ({ cls := "SilkRowModel$Trial", name := "length", desc := "(LSilkRowModel$Basin;LSilkRowModel$Lot;II)I" } : Jvm.MethodName)) ∈ lw_all := lw_g (lw_at lw_m7 151 rfl) rfl
theorem q1635 : (Jvm.Cond.code ({ cls := "SilkRowModel$Trial", name := "length", desc := "(LSilkRowModel$Basin;LSilkRowModel$Lot;II)I" } : Jvm.MethodName) prog_16_method_6_code (9 : Nat) (Option.some Jvm.ClassFile.FieldType.int)) ∈ lw_all := lw_g (lw_at lw_m7 152 rfl) rfl
theorem q1636 : (Jvm.Cond.methodLink "SilkRowModel$Trial" (53 : Nat) ({ cls := "SilkRowModel$Trial", name := "begin", desc := "(LSilkRowModel$Basin;LSilkRowModel$Lot;)V" } : Jvm.MethodName)) ∈ lw_all := lw_g (lw_at lw_m7 153 rfl) rfl
theorem q1637 : (Jvm.Cond.privateMethod ({ cls := "SilkRowModel$Trial", name := "begin", desc := "(LSilkRowModel$Basin;LSilkRowModel$Lot;)V" } : Jvm.MethodName)) ∈ lw_tbl := lw_at lw_m7 154 rfl
theorem q1638 : (Jvm.Cond.instanceMethod ({ cls := "SilkRowModel$Trial", name := "begin", desc := "(LSilkRowModel$Basin;LSilkRowModel$Lot;)V" } : Jvm.MethodName)) ∈ lw_all := lw_g (lw_at lw_m7 155 rfl) rfl
theorem q1639 : (Jvm.Cond.code ({ cls := "SilkRowModel$Trial", name := "begin", desc := "(LSilkRowModel$Basin;LSilkRowModel$Lot;)V" } : Jvm.MethodName) prog_16_method_2_code (12 : Nat) (Option.none : Option Jvm.ClassFile.FieldType)) ∈ lw_all := lw_g (lw_at lw_m7 156 rfl) rfl
theorem q1640 : (Jvm.Cond.methodLink "SilkRowModel$Trial" (26 : Nat) ({ cls := "java/util/ArrayList", name := "size", desc := "()I" } : Jvm.MethodName)) ∈ lw_all := lw_g (lw_at lw_m7 157 rfl) rfl
theorem q1641 : (Jvm.Cond.methodLink "SilkRowModel$Trial" (32 : Nat) ({ cls := "java/util/ArrayList", name := "get", desc := "(I)Ljava/lang/Object;" } : Jvm.MethodName)) ∈ lw_all := lw_g (lw_at lw_m7 158 rfl) rfl
theorem q1642 : (Jvm.Cond.classLink "SilkRowModel$Trial" (36 : Nat) "[I") ∈ lw_all := lw_g (lw_at lw_m7 159 rfl) rfl
theorem q1643 : (Jvm.Cond.methodLink "SilkRowModel$Trial" (40 : Nat) ({ cls := "java/lang/System", name := "arraycopy", desc := "(Ljava/lang/Object;ILjava/lang/Object;II)V" } : Jvm.MethodName)) ∈ lw_all := lw_g (lw_at lw_m7 160 rfl) rfl
theorem q1644 : (Jvm.Cond.methodLink "SilkRowModel$Trial" (57 : Nat) ({ cls := "SilkRowModel$Trial", name := "sum", desc := "()I" } : Jvm.MethodName)) ∈ lw_all := lw_g (lw_at lw_m7 161 rfl) rfl
theorem q1645 : (Jvm.Cond.privateMethod ({ cls := "SilkRowModel$Trial", name := "sum", desc := "()I" } : Jvm.MethodName)) ∈ lw_tbl := lw_at lw_m7 162 rfl
theorem q1646 : (Jvm.Cond.instanceMethod ({ cls := "SilkRowModel$Trial", name := "sum", desc := "()I" } : Jvm.MethodName)) ∈ lw_all := lw_g (lw_at lw_m7 163 rfl) rfl
theorem q1647 : (Jvm.Cond.code ({ cls := "SilkRowModel$Trial", name := "sum", desc := "()I" } : Jvm.MethodName) prog_16_method_3_code (5 : Nat) (Option.some Jvm.ClassFile.FieldType.int)) ∈ lw_all := lw_g (lw_at lw_m7 164 rfl) rfl
theorem q1648 : (Jvm.Cond.methodLinkNest "SilkRowModel$Trial" (46 : Nat) ({ cls := "SilkRowModel", name := "piece", desc := "(III)I" } : Jvm.MethodName) "SilkRowModel") ∈ lw_tbl := lw_at lw_m7 165 rfl
theorem q1649 : (Jvm.Cond.methodLink "SilkRowModel$Trial" (60 : Nat) ({ cls := "SilkRowModel$Trial", name := "join", desc := "(LSilkRowModel$Lot;)Z" } : Jvm.MethodName)) ∈ lw_all := lw_g (lw_at lw_m7 166 rfl) rfl
theorem q1650 : (Jvm.Cond.privateMethod ({ cls := "SilkRowModel$Trial", name := "join", desc := "(LSilkRowModel$Lot;)Z" } : Jvm.MethodName)) ∈ lw_tbl := lw_at lw_m7 167 rfl
theorem q1651 : (Jvm.Cond.instanceMethod ({ cls := "SilkRowModel$Trial", name := "join", desc := "(LSilkRowModel$Lot;)Z" } : Jvm.MethodName)) ∈ lw_all := lw_g (lw_at lw_m7 168 rfl) rfl
theorem q1652 : (Jvm.Cond.code ({ cls := "SilkRowModel$Trial", name := "join", desc := "(LSilkRowModel$Lot;)Z" } : Jvm.MethodName) prog_16_method_4_code (3 : Nat) (Option.some Jvm.ClassFile.FieldType.boolean)) ∈ lw_all := lw_g (lw_at lw_m7 169 rfl) rfl
theorem q1653 : (Jvm.Cond.methodLink "SilkRowModel$Trial" (64 : Nat) ({ cls := "java/lang/Math", name := "min", desc := "(II)I" } : Jvm.MethodName)) ∈ lw_all := lw_g (lw_at lw_m7 170 rfl) rfl
theorem q1654 : (Jvm.Cond.methodLink "SilkRowModel$Trial" (70 : Nat) ({ cls := "java/lang/Math", name := "max", desc := "(II)I" } : Jvm.MethodName)) ∈ lw_all := lw_g (lw_at lw_m7 171 rfl) rfl
theorem q1655 : (Jvm.Cond.methodLink "SilkRowModel$Trial" (73 : Nat) ({ cls := "SilkRowModel$Trial", name := "go", desc := "()V" } : Jvm.MethodName)) ∈ lw_all := lw_g (lw_at lw_m7 172 rfl) rfl
theorem q1656 : (Jvm.Cond.privateMethod ({ cls := "SilkRowModel$Trial", name := "go", desc := "()V" } : Jvm.MethodName)) ∈ lw_tbl := lw_at lw_m7 173 rfl
theorem q1657 : (Jvm.Cond.instanceMethod ({ cls := "SilkRowModel$Trial", name := "go", desc := "()V" } : Jvm.MethodName)) ∈ lw_all := lw_g (lw_at lw_m7 174 rfl) rfl
theorem q1658 : (Jvm.Cond.code ({ cls := "SilkRowModel$Trial", name := "go", desc := "()V" } : Jvm.MethodName) prog_16_method_5_code (10 : Nat) (Option.none : Option Jvm.ClassFile.FieldType)) ∈ lw_all := lw_g (lw_at lw_m7 175 rfl) rfl
theorem q1693 : (Jvm.Cond.castable "SilkRowModel$Trial" "java/lang/Object") ∈ lw_tbl := lw_at lw_m7 210 rfl
theorem in_X15 : ∀ w ∈ wsX150, w ∈ lw_all := lw_in wsX150 [1627, 1629] (by decide +kernel) (by decide +kernel)
