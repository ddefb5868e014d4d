/-! NapkinDeedsLaw -/
set_option maxRecDepth 100000
def RX0 : String := "NapkinDeedsLaw"
abbrev cX0_napkin : ByteArray := method_3_code
def yX0_napkin : MethodName := ⟨RX0, "napkin", "(LNapkinDeeds;I[J)I"⟩
def dkwX0_napkin_0 : List UInt8 := [44, 3, 42, 27, 182, 0, 7, 133, 80, 167, 0, 6, 78, 4, 172, 3, 172]
abbrev dktX0_napkin_0 : List UInt8 := dkwX0_napkin_0 ++ []
theorem dksX0_napkin_0 : cX0_napkin.data.toList.drop 0 = dktX0_napkin_0 := by decide +kernel
theorem dX0_napkin_0 : decode cX0_napkin 0 = .ok (.aload_n 2, 1) := dk_44 (dk_at dksX0_napkin_0 0 rfl rfl)
theorem dX0_napkin_1 : decode cX0_napkin 1 = .ok (.iconst 0, 1) := dk_3 (dk_at dksX0_napkin_0 1 rfl rfl)
theorem dX0_napkin_2 : decode cX0_napkin 2 = .ok (.aload_n 0, 1) := dk_42 (dk_at dksX0_napkin_0 2 rfl rfl)
theorem dX0_napkin_3 : decode cX0_napkin 3 = .ok (.iload_n 1, 1) := dk_27 (dk_at dksX0_napkin_0 3 rfl rfl)
theorem dX0_napkin_4 : decode cX0_napkin 4 = .ok (.invokevirtual 7, 3) := dk_182 0 7 (dk_at dksX0_napkin_0 4 rfl rfl)
theorem dX0_napkin_7 : decode cX0_napkin 7 = .ok (.i2l, 1) := dk_133 (dk_at dksX0_napkin_0 7 rfl rfl)
theorem dX0_napkin_8 : decode cX0_napkin 8 = .ok (.lastore, 1) := dk_80 (dk_at dksX0_napkin_0 8 rfl rfl)
theorem dX0_napkin_9 : decode cX0_napkin 9 = .ok (.goto 6, 3) := dk_167 0 6 (dk_at dksX0_napkin_0 9 rfl rfl)
theorem dX0_napkin_12 : decode cX0_napkin 12 = .ok (.astore_n 3, 1) := dk_78 (dk_at dksX0_napkin_0 12 rfl rfl)
theorem dX0_napkin_13 : decode cX0_napkin 13 = .ok (.iconst 1, 1) := dk_4 (dk_at dksX0_napkin_0 13 rfl rfl)
theorem dX0_napkin_14 : decode cX0_napkin 14 = .ok (.ireturn, 1) := dk_172 (dk_at dksX0_napkin_0 14 rfl rfl)
theorem dX0_napkin_15 : decode cX0_napkin 15 = .ok (.iconst 0, 1) := dk_3 (dk_at dksX0_napkin_0 15 rfl rfl)
theorem dX0_napkin_16 : decode cX0_napkin 16 = .ok (.ireturn, 1) := dk_172 (dk_at dksX0_napkin_0 16 rfl rfl)
abbrev cX0_cell : ByteArray := method_4_code
def yX0_cell : MethodName := ⟨RX0, "cell", "(LNapkinDeeds;II[J)I"⟩
def dkwX0_cell_0 : List UInt8 := [45, 3, 42, 27, 28, 182, 0, 15, 133, 80, 167, 0, 11, 58, 4, 4, 172, 58, 4, 5, 172, 3, 172]
abbrev dktX0_cell_0 : List UInt8 := dkwX0_cell_0 ++ []
theorem dksX0_cell_0 : cX0_cell.data.toList.drop 0 = dktX0_cell_0 := by decide +kernel
theorem dX0_cell_0 : decode cX0_cell 0 = .ok (.aload_n 3, 1) := dk_45 (dk_at dksX0_cell_0 0 rfl rfl)
theorem dX0_cell_1 : decode cX0_cell 1 = .ok (.iconst 0, 1) := dk_3 (dk_at dksX0_cell_0 1 rfl rfl)
theorem dX0_cell_2 : decode cX0_cell 2 = .ok (.aload_n 0, 1) := dk_42 (dk_at dksX0_cell_0 2 rfl rfl)
theorem dX0_cell_3 : decode cX0_cell 3 = .ok (.iload_n 1, 1) := dk_27 (dk_at dksX0_cell_0 3 rfl rfl)
theorem dX0_cell_4 : decode cX0_cell 4 = .ok (.iload_n 2, 1) := dk_28 (dk_at dksX0_cell_0 4 rfl rfl)
theorem dX0_cell_5 : decode cX0_cell 5 = .ok (.invokevirtual 15, 3) := dk_182 0 15 (dk_at dksX0_cell_0 5 rfl rfl)
theorem dX0_cell_8 : decode cX0_cell 8 = .ok (.i2l, 1) := dk_133 (dk_at dksX0_cell_0 8 rfl rfl)
theorem dX0_cell_9 : decode cX0_cell 9 = .ok (.lastore, 1) := dk_80 (dk_at dksX0_cell_0 9 rfl rfl)
theorem dX0_cell_10 : decode cX0_cell 10 = .ok (.goto 11, 3) := dk_167 0 11 (dk_at dksX0_cell_0 10 rfl rfl)
theorem dX0_cell_13 : decode cX0_cell 13 = .ok (.astore 4, 2) := dk_58 4 (dk_at dksX0_cell_0 13 rfl rfl)
theorem dX0_cell_15 : decode cX0_cell 15 = .ok (.iconst 1, 1) := dk_4 (dk_at dksX0_cell_0 15 rfl rfl)
theorem dX0_cell_16 : decode cX0_cell 16 = .ok (.ireturn, 1) := dk_172 (dk_at dksX0_cell_0 16 rfl rfl)
theorem dX0_cell_17 : decode cX0_cell 17 = .ok (.astore 4, 2) := dk_58 4 (dk_at dksX0_cell_0 17 rfl rfl)
theorem dX0_cell_19 : decode cX0_cell 19 = .ok (.iconst 2, 1) := dk_5 (dk_at dksX0_cell_0 19 rfl rfl)
theorem dX0_cell_20 : decode cX0_cell 20 = .ok (.ireturn, 1) := dk_172 (dk_at dksX0_cell_0 20 rfl rfl)
theorem dX0_cell_21 : decode cX0_cell 21 = .ok (.iconst 0, 1) := dk_3 (dk_at dksX0_cell_0 21 rfl rfl)
theorem dX0_cell_22 : decode cX0_cell 22 = .ok (.ireturn, 1) := dk_172 (dk_at dksX0_cell_0 22 rfl rfl)
abbrev cX0_high : ByteArray := method_5_code
def yX0_high : MethodName := ⟨RX0, "high", "(LNapkinDeeds;I[J)I"⟩
def dkwX0_high_0 : List UInt8 := [44, 3, 42, 27, 182, 0, 21, 133, 80, 167, 0, 6, 78, 4, 172, 3, 172]
abbrev dktX0_high_0 : List UInt8 := dkwX0_high_0 ++ []
theorem dksX0_high_0 : cX0_high.data.toList.drop 0 = dktX0_high_0 := by decide +kernel
theorem dX0_high_0 : decode cX0_high 0 = .ok (.aload_n 2, 1) := dk_44 (dk_at dksX0_high_0 0 rfl rfl)
theorem dX0_high_1 : decode cX0_high 1 = .ok (.iconst 0, 1) := dk_3 (dk_at dksX0_high_0 1 rfl rfl)
theorem dX0_high_2 : decode cX0_high 2 = .ok (.aload_n 0, 1) := dk_42 (dk_at dksX0_high_0 2 rfl rfl)
theorem dX0_high_3 : decode cX0_high 3 = .ok (.iload_n 1, 1) := dk_27 (dk_at dksX0_high_0 3 rfl rfl)
theorem dX0_high_4 : decode cX0_high 4 = .ok (.invokevirtual 21, 3) := dk_182 0 21 (dk_at dksX0_high_0 4 rfl rfl)
theorem dX0_high_7 : decode cX0_high 7 = .ok (.i2l, 1) := dk_133 (dk_at dksX0_high_0 7 rfl rfl)
theorem dX0_high_8 : decode cX0_high 8 = .ok (.lastore, 1) := dk_80 (dk_at dksX0_high_0 8 rfl rfl)
theorem dX0_high_9 : decode cX0_high 9 = .ok (.goto 6, 3) := dk_167 0 6 (dk_at dksX0_high_0 9 rfl rfl)
theorem dX0_high_12 : decode cX0_high 12 = .ok (.astore_n 3, 1) := dk_78 (dk_at dksX0_high_0 12 rfl rfl)
theorem dX0_high_13 : decode cX0_high 13 = .ok (.iconst 1, 1) := dk_4 (dk_at dksX0_high_0 13 rfl rfl)
theorem dX0_high_14 : decode cX0_high 14 = .ok (.ireturn, 1) := dk_172 (dk_at dksX0_high_0 14 rfl rfl)
theorem dX0_high_15 : decode cX0_high 15 = .ok (.iconst 0, 1) := dk_3 (dk_at dksX0_high_0 15 rfl rfl)
theorem dX0_high_16 : decode cX0_high 16 = .ok (.ireturn, 1) := dk_172 (dk_at dksX0_high_0 16 rfl rfl)
abbrev cX0_layer : ByteArray := method_6_code
def yX0_layer : MethodName := ⟨RX0, "layer", "(LNapkinDeeds;II[J)I"⟩
def dkwX0_layer_0 : List UInt8 := [45, 3, 42, 27, 28, 182, 0, 24, 133, 80, 167, 0, 11, 58, 4, 4, 172, 58, 4, 5, 172, 3, 172]
abbrev dktX0_layer_0 : List UInt8 := dkwX0_layer_0 ++ []
theorem dksX0_layer_0 : cX0_layer.data.toList.drop 0 = dktX0_layer_0 := by decide +kernel
theorem dX0_layer_0 : decode cX0_layer 0 = .ok (.aload_n 3, 1) := dk_45 (dk_at dksX0_layer_0 0 rfl rfl)
theorem dX0_layer_1 : decode cX0_layer 1 = .ok (.iconst 0, 1) := dk_3 (dk_at dksX0_layer_0 1 rfl rfl)
theorem dX0_layer_2 : decode cX0_layer 2 = .ok (.aload_n 0, 1) := dk_42 (dk_at dksX0_layer_0 2 rfl rfl)
theorem dX0_layer_3 : decode cX0_layer 3 = .ok (.iload_n 1, 1) := dk_27 (dk_at dksX0_layer_0 3 rfl rfl)
theorem dX0_layer_4 : decode cX0_layer 4 = .ok (.iload_n 2, 1) := dk_28 (dk_at dksX0_layer_0 4 rfl rfl)
theorem dX0_layer_5 : decode cX0_layer 5 = .ok (.invokevirtual 24, 3) := dk_182 0 24 (dk_at dksX0_layer_0 5 rfl rfl)
theorem dX0_layer_8 : decode cX0_layer 8 = .ok (.i2l, 1) := dk_133 (dk_at dksX0_layer_0 8 rfl rfl)
theorem dX0_layer_9 : decode cX0_layer 9 = .ok (.lastore, 1) := dk_80 (dk_at dksX0_layer_0 9 rfl rfl)
theorem dX0_layer_10 : decode cX0_layer 10 = .ok (.goto 11, 3) := dk_167 0 11 (dk_at dksX0_layer_0 10 rfl rfl)
theorem dX0_layer_13 : decode cX0_layer 13 = .ok (.astore 4, 2) := dk_58 4 (dk_at dksX0_layer_0 13 rfl rfl)
theorem dX0_layer_15 : decode cX0_layer 15 = .ok (.iconst 1, 1) := dk_4 (dk_at dksX0_layer_0 15 rfl rfl)
theorem dX0_layer_16 : decode cX0_layer 16 = .ok (.ireturn, 1) := dk_172 (dk_at dksX0_layer_0 16 rfl rfl)
theorem dX0_layer_17 : decode cX0_layer 17 = .ok (.astore 4, 2) := dk_58 4 (dk_at dksX0_layer_0 17 rfl rfl)
theorem dX0_layer_19 : decode cX0_layer 19 = .ok (.iconst 2, 1) := dk_5 (dk_at dksX0_layer_0 19 rfl rfl)
theorem dX0_layer_20 : decode cX0_layer 20 = .ok (.ireturn, 1) := dk_172 (dk_at dksX0_layer_0 20 rfl rfl)
theorem dX0_layer_21 : decode cX0_layer 21 = .ok (.iconst 0, 1) := dk_3 (dk_at dksX0_layer_0 21 rfl rfl)
theorem dX0_layer_22 : decode cX0_layer 22 = .ok (.ireturn, 1) := dk_172 (dk_at dksX0_layer_0 22 rfl rfl)
abbrev cX0_above : ByteArray := method_7_code
def yX0_above : MethodName := ⟨RX0, "above", "(LNapkinDeeds;I[J)I"⟩
def dkwX0_above_0 : List UInt8 := [44, 3, 42, 27, 182, 0, 27, 133, 80, 167, 0, 6, 78, 4, 172, 3, 172]
abbrev dktX0_above_0 : List UInt8 := dkwX0_above_0 ++ []
theorem dksX0_above_0 : cX0_above.data.toList.drop 0 = dktX0_above_0 := by decide +kernel
theorem dX0_above_0 : decode cX0_above 0 = .ok (.aload_n 2, 1) := dk_44 (dk_at dksX0_above_0 0 rfl rfl)
theorem dX0_above_1 : decode cX0_above 1 = .ok (.iconst 0, 1) := dk_3 (dk_at dksX0_above_0 1 rfl rfl)
theorem dX0_above_2 : decode cX0_above 2 = .ok (.aload_n 0, 1) := dk_42 (dk_at dksX0_above_0 2 rfl rfl)
theorem dX0_above_3 : decode cX0_above 3 = .ok (.iload_n 1, 1) := dk_27 (dk_at dksX0_above_0 3 rfl rfl)
theorem dX0_above_4 : decode cX0_above 4 = .ok (.invokevirtual 27, 3) := dk_182 0 27 (dk_at dksX0_above_0 4 rfl rfl)
theorem dX0_above_7 : decode cX0_above 7 = .ok (.i2l, 1) := dk_133 (dk_at dksX0_above_0 7 rfl rfl)
theorem dX0_above_8 : decode cX0_above 8 = .ok (.lastore, 1) := dk_80 (dk_at dksX0_above_0 8 rfl rfl)
theorem dX0_above_9 : decode cX0_above 9 = .ok (.goto 6, 3) := dk_167 0 6 (dk_at dksX0_above_0 9 rfl rfl)
theorem dX0_above_12 : decode cX0_above 12 = .ok (.astore_n 3, 1) := dk_78 (dk_at dksX0_above_0 12 rfl rfl)
theorem dX0_above_13 : decode cX0_above 13 = .ok (.iconst 1, 1) := dk_4 (dk_at dksX0_above_0 13 rfl rfl)
theorem dX0_above_14 : decode cX0_above 14 = .ok (.ireturn, 1) := dk_172 (dk_at dksX0_above_0 14 rfl rfl)
theorem dX0_above_15 : decode cX0_above 15 = .ok (.iconst 0, 1) := dk_3 (dk_at dksX0_above_0 15 rfl rfl)
theorem dX0_above_16 : decode cX0_above 16 = .ok (.ireturn, 1) := dk_172 (dk_at dksX0_above_0 16 rfl rfl)
abbrev cX0_beneath : ByteArray := method_8_code
def yX0_beneath : MethodName := ⟨RX0, "beneath", "(LNapkinDeeds;I[J)I"⟩
def dkwX0_beneath_0 : List UInt8 := [44, 3, 42, 27, 182, 0, 30, 133, 80, 167, 0, 6, 78, 4, 172, 3, 172]
abbrev dktX0_beneath_0 : List UInt8 := dkwX0_beneath_0 ++ []
theorem dksX0_beneath_0 : cX0_beneath.data.toList.drop 0 = dktX0_beneath_0 := by decide +kernel
theorem dX0_beneath_0 : decode cX0_beneath 0 = .ok (.aload_n 2, 1) := dk_44 (dk_at dksX0_beneath_0 0 rfl rfl)
theorem dX0_beneath_1 : decode cX0_beneath 1 = .ok (.iconst 0, 1) := dk_3 (dk_at dksX0_beneath_0 1 rfl rfl)
theorem dX0_beneath_2 : decode cX0_beneath 2 = .ok (.aload_n 0, 1) := dk_42 (dk_at dksX0_beneath_0 2 rfl rfl)
theorem dX0_beneath_3 : decode cX0_beneath 3 = .ok (.iload_n 1, 1) := dk_27 (dk_at dksX0_beneath_0 3 rfl rfl)
theorem dX0_beneath_4 : decode cX0_beneath 4 = .ok (.invokevirtual 30, 3) := dk_182 0 30 (dk_at dksX0_beneath_0 4 rfl rfl)
theorem dX0_beneath_7 : decode cX0_beneath 7 = .ok (.i2l, 1) := dk_133 (dk_at dksX0_beneath_0 7 rfl rfl)
theorem dX0_beneath_8 : decode cX0_beneath 8 = .ok (.lastore, 1) := dk_80 (dk_at dksX0_beneath_0 8 rfl rfl)
theorem dX0_beneath_9 : decode cX0_beneath 9 = .ok (.goto 6, 3) := dk_167 0 6 (dk_at dksX0_beneath_0 9 rfl rfl)
theorem dX0_beneath_12 : decode cX0_beneath 12 = .ok (.astore_n 3, 1) := dk_78 (dk_at dksX0_beneath_0 12 rfl rfl)
theorem dX0_beneath_13 : decode cX0_beneath 13 = .ok (.iconst 1, 1) := dk_4 (dk_at dksX0_beneath_0 13 rfl rfl)
theorem dX0_beneath_14 : decode cX0_beneath 14 = .ok (.ireturn, 1) := dk_172 (dk_at dksX0_beneath_0 14 rfl rfl)
theorem dX0_beneath_15 : decode cX0_beneath 15 = .ok (.iconst 0, 1) := dk_3 (dk_at dksX0_beneath_0 15 rfl rfl)
theorem dX0_beneath_16 : decode cX0_beneath 16 = .ok (.ireturn, 1) := dk_172 (dk_at dksX0_beneath_0 16 rfl rfl)
abbrev cX0_crease : ByteArray := method_9_code
def yX0_crease : MethodName := ⟨RX0, "crease", "(LNapkinDeeds;I[J)I"⟩
def dkwX0_crease_0 : List UInt8 := [44, 3, 42, 27, 182, 0, 33, 133, 80, 167, 0, 6, 78, 4, 172, 3, 172]
abbrev dktX0_crease_0 : List UInt8 := dkwX0_crease_0 ++ []
theorem dksX0_crease_0 : cX0_crease.data.toList.drop 0 = dktX0_crease_0 := by decide +kernel
theorem dX0_crease_0 : decode cX0_crease 0 = .ok (.aload_n 2, 1) := dk_44 (dk_at dksX0_crease_0 0 rfl rfl)
theorem dX0_crease_1 : decode cX0_crease 1 = .ok (.iconst 0, 1) := dk_3 (dk_at dksX0_crease_0 1 rfl rfl)
theorem dX0_crease_2 : decode cX0_crease 2 = .ok (.aload_n 0, 1) := dk_42 (dk_at dksX0_crease_0 2 rfl rfl)
theorem dX0_crease_3 : decode cX0_crease 3 = .ok (.iload_n 1, 1) := dk_27 (dk_at dksX0_crease_0 3 rfl rfl)
theorem dX0_crease_4 : decode cX0_crease 4 = .ok (.invokevirtual 33, 3) := dk_182 0 33 (dk_at dksX0_crease_0 4 rfl rfl)
theorem dX0_crease_7 : decode cX0_crease 7 = .ok (.i2l, 1) := dk_133 (dk_at dksX0_crease_0 7 rfl rfl)
theorem dX0_crease_8 : decode cX0_crease 8 = .ok (.lastore, 1) := dk_80 (dk_at dksX0_crease_0 8 rfl rfl)
theorem dX0_crease_9 : decode cX0_crease 9 = .ok (.goto 6, 3) := dk_167 0 6 (dk_at dksX0_crease_0 9 rfl rfl)
theorem dX0_crease_12 : decode cX0_crease 12 = .ok (.astore_n 3, 1) := dk_78 (dk_at dksX0_crease_0 12 rfl rfl)
theorem dX0_crease_13 : decode cX0_crease 13 = .ok (.iconst 1, 1) := dk_4 (dk_at dksX0_crease_0 13 rfl rfl)
theorem dX0_crease_14 : decode cX0_crease 14 = .ok (.ireturn, 1) := dk_172 (dk_at dksX0_crease_0 14 rfl rfl)
theorem dX0_crease_15 : decode cX0_crease 15 = .ok (.iconst 0, 1) := dk_3 (dk_at dksX0_crease_0 15 rfl rfl)
theorem dX0_crease_16 : decode cX0_crease 16 = .ok (.ireturn, 1) := dk_172 (dk_at dksX0_crease_0 16 rfl rfl)
abbrev cX0_folded : ByteArray := method_10_code
def yX0_folded : MethodName := ⟨RX0, "folded", "(LNapkinDeeds;I[J)I"⟩
def dkwX0_folded_0 : List UInt8 := [44, 3, 42, 27, 182, 0, 36, 133, 80, 167, 0, 6, 78, 4, 172, 3, 172]
abbrev dktX0_folded_0 : List UInt8 := dkwX0_folded_0 ++ []
theorem dksX0_folded_0 : cX0_folded.data.toList.drop 0 = dktX0_folded_0 := by decide +kernel
theorem dX0_folded_0 : decode cX0_folded 0 = .ok (.aload_n 2, 1) := dk_44 (dk_at dksX0_folded_0 0 rfl rfl)
theorem dX0_folded_1 : decode cX0_folded 1 = .ok (.iconst 0, 1) := dk_3 (dk_at dksX0_folded_0 1 rfl rfl)
theorem dX0_folded_2 : decode cX0_folded 2 = .ok (.aload_n 0, 1) := dk_42 (dk_at dksX0_folded_0 2 rfl rfl)
theorem dX0_folded_3 : decode cX0_folded 3 = .ok (.iload_n 1, 1) := dk_27 (dk_at dksX0_folded_0 3 rfl rfl)
theorem dX0_folded_4 : decode cX0_folded 4 = .ok (.invokevirtual 36, 3) := dk_182 0 36 (dk_at dksX0_folded_0 4 rfl rfl)
theorem dX0_folded_7 : decode cX0_folded 7 = .ok (.i2l, 1) := dk_133 (dk_at dksX0_folded_0 7 rfl rfl)
theorem dX0_folded_8 : decode cX0_folded 8 = .ok (.lastore, 1) := dk_80 (dk_at dksX0_folded_0 8 rfl rfl)
theorem dX0_folded_9 : decode cX0_folded 9 = .ok (.goto 6, 3) := dk_167 0 6 (dk_at dksX0_folded_0 9 rfl rfl)
theorem dX0_folded_12 : decode cX0_folded 12 = .ok (.astore_n 3, 1) := dk_78 (dk_at dksX0_folded_0 12 rfl rfl)
theorem dX0_folded_13 : decode cX0_folded 13 = .ok (.iconst 1, 1) := dk_4 (dk_at dksX0_folded_0 13 rfl rfl)
theorem dX0_folded_14 : decode cX0_folded 14 = .ok (.ireturn, 1) := dk_172 (dk_at dksX0_folded_0 14 rfl rfl)
theorem dX0_folded_15 : decode cX0_folded 15 = .ok (.iconst 0, 1) := dk_3 (dk_at dksX0_folded_0 15 rfl rfl)
theorem dX0_folded_16 : decode cX0_folded 16 = .ok (.ireturn, 1) := dk_172 (dk_at dksX0_folded_0 16 rfl rfl)
abbrev cX0_likes : ByteArray := method_11_code
def yX0_likes : MethodName := ⟨RX0, "likes", "(LNapkinDeeds;I[J)I"⟩
def dkwX0_likes_0 : List UInt8 := [44, 3, 42, 27, 182, 0, 39, 133, 80, 167, 0, 6, 78, 4, 172, 3, 172]
abbrev dktX0_likes_0 : List UInt8 := dkwX0_likes_0 ++ []
theorem dksX0_likes_0 : cX0_likes.data.toList.drop 0 = dktX0_likes_0 := by decide +kernel
theorem dX0_likes_0 : decode cX0_likes 0 = .ok (.aload_n 2, 1) := dk_44 (dk_at dksX0_likes_0 0 rfl rfl)
theorem dX0_likes_1 : decode cX0_likes 1 = .ok (.iconst 0, 1) := dk_3 (dk_at dksX0_likes_0 1 rfl rfl)
theorem dX0_likes_2 : decode cX0_likes 2 = .ok (.aload_n 0, 1) := dk_42 (dk_at dksX0_likes_0 2 rfl rfl)
theorem dX0_likes_3 : decode cX0_likes 3 = .ok (.iload_n 1, 1) := dk_27 (dk_at dksX0_likes_0 3 rfl rfl)
theorem dX0_likes_4 : decode cX0_likes 4 = .ok (.invokevirtual 39, 3) := dk_182 0 39 (dk_at dksX0_likes_0 4 rfl rfl)
theorem dX0_likes_7 : decode cX0_likes 7 = .ok (.i2l, 1) := dk_133 (dk_at dksX0_likes_0 7 rfl rfl)
theorem dX0_likes_8 : decode cX0_likes 8 = .ok (.lastore, 1) := dk_80 (dk_at dksX0_likes_0 8 rfl rfl)
theorem dX0_likes_9 : decode cX0_likes 9 = .ok (.goto 6, 3) := dk_167 0 6 (dk_at dksX0_likes_0 9 rfl rfl)
theorem dX0_likes_12 : decode cX0_likes 12 = .ok (.astore_n 3, 1) := dk_78 (dk_at dksX0_likes_0 12 rfl rfl)
theorem dX0_likes_13 : decode cX0_likes 13 = .ok (.iconst 1, 1) := dk_4 (dk_at dksX0_likes_0 13 rfl rfl)
theorem dX0_likes_14 : decode cX0_likes 14 = .ok (.ireturn, 1) := dk_172 (dk_at dksX0_likes_0 14 rfl rfl)
theorem dX0_likes_15 : decode cX0_likes 15 = .ok (.iconst 0, 1) := dk_3 (dk_at dksX0_likes_0 15 rfl rfl)
theorem dX0_likes_16 : decode cX0_likes 16 = .ok (.ireturn, 1) := dk_172 (dk_at dksX0_likes_0 16 rfl rfl)
abbrev cX0_unfold : ByteArray := method_12_code
def yX0_unfold : MethodName := ⟨RX0, "unfold", "(LNapkinDeeds;[J)I"⟩
def dkwX0_unfold_0 : List UInt8 := [43, 3, 42, 182, 0, 42, 133, 80, 167, 0, 6, 77, 4, 172, 3, 172]
abbrev dktX0_unfold_0 : List UInt8 := dkwX0_unfold_0 ++ []
theorem dksX0_unfold_0 : cX0_unfold.data.toList.drop 0 = dktX0_unfold_0 := by decide +kernel
theorem dX0_unfold_0 : decode cX0_unfold 0 = .ok (.aload_n 1, 1) := dk_43 (dk_at dksX0_unfold_0 0 rfl rfl)
theorem dX0_unfold_1 : decode cX0_unfold 1 = .ok (.iconst 0, 1) := dk_3 (dk_at dksX0_unfold_0 1 rfl rfl)
theorem dX0_unfold_2 : decode cX0_unfold 2 = .ok (.aload_n 0, 1) := dk_42 (dk_at dksX0_unfold_0 2 rfl rfl)
theorem dX0_unfold_3 : decode cX0_unfold 3 = .ok (.invokevirtual 42, 3) := dk_182 0 42 (dk_at dksX0_unfold_0 3 rfl rfl)
theorem dX0_unfold_6 : decode cX0_unfold 6 = .ok (.i2l, 1) := dk_133 (dk_at dksX0_unfold_0 6 rfl rfl)
theorem dX0_unfold_7 : decode cX0_unfold 7 = .ok (.lastore, 1) := dk_80 (dk_at dksX0_unfold_0 7 rfl rfl)
theorem dX0_unfold_8 : decode cX0_unfold 8 = .ok (.goto 6, 3) := dk_167 0 6 (dk_at dksX0_unfold_0 8 rfl rfl)
theorem dX0_unfold_11 : decode cX0_unfold 11 = .ok (.astore_n 2, 1) := dk_77 (dk_at dksX0_unfold_0 11 rfl rfl)
theorem dX0_unfold_12 : decode cX0_unfold 12 = .ok (.iconst 1, 1) := dk_4 (dk_at dksX0_unfold_0 12 rfl rfl)
theorem dX0_unfold_13 : decode cX0_unfold 13 = .ok (.ireturn, 1) := dk_172 (dk_at dksX0_unfold_0 13 rfl rfl)
theorem dX0_unfold_14 : decode cX0_unfold 14 = .ok (.iconst 0, 1) := dk_3 (dk_at dksX0_unfold_0 14 rfl rfl)
theorem dX0_unfold_15 : decode cX0_unfold 15 = .ok (.ireturn, 1) := dk_172 (dk_at dksX0_unfold_0 15 rfl rfl)
abbrev cX0_shake : ByteArray := method_13_code
def yX0_shake : MethodName := ⟨RX0, "shake", "(LNapkinDeeds;[J)I"⟩
def dkwX0_shake_0 : List UInt8 := [43, 3, 42, 182, 0, 48, 133, 80, 167, 0, 6, 77, 4, 172, 3, 172]
abbrev dktX0_shake_0 : List UInt8 := dkwX0_shake_0 ++ []
theorem dksX0_shake_0 : cX0_shake.data.toList.drop 0 = dktX0_shake_0 := by decide +kernel
theorem dX0_shake_0 : decode cX0_shake 0 = .ok (.aload_n 1, 1) := dk_43 (dk_at dksX0_shake_0 0 rfl rfl)
theorem dX0_shake_1 : decode cX0_shake 1 = .ok (.iconst 0, 1) := dk_3 (dk_at dksX0_shake_0 1 rfl rfl)
theorem dX0_shake_2 : decode cX0_shake 2 = .ok (.aload_n 0, 1) := dk_42 (dk_at dksX0_shake_0 2 rfl rfl)
theorem dX0_shake_3 : decode cX0_shake 3 = .ok (.invokevirtual 48, 3) := dk_182 0 48 (dk_at dksX0_shake_0 3 rfl rfl)
theorem dX0_shake_6 : decode cX0_shake 6 = .ok (.i2l, 1) := dk_133 (dk_at dksX0_shake_0 6 rfl rfl)
theorem dX0_shake_7 : decode cX0_shake 7 = .ok (.lastore, 1) := dk_80 (dk_at dksX0_shake_0 7 rfl rfl)
theorem dX0_shake_8 : decode cX0_shake 8 = .ok (.goto 6, 3) := dk_167 0 6 (dk_at dksX0_shake_0 8 rfl rfl)
theorem dX0_shake_11 : decode cX0_shake 11 = .ok (.astore_n 2, 1) := dk_77 (dk_at dksX0_shake_0 11 rfl rfl)
theorem dX0_shake_12 : decode cX0_shake 12 = .ok (.iconst 1, 1) := dk_4 (dk_at dksX0_shake_0 12 rfl rfl)
theorem dX0_shake_13 : decode cX0_shake 13 = .ok (.ireturn, 1) := dk_172 (dk_at dksX0_shake_0 13 rfl rfl)
theorem dX0_shake_14 : decode cX0_shake 14 = .ok (.iconst 0, 1) := dk_3 (dk_at dksX0_shake_0 14 rfl rfl)
theorem dX0_shake_15 : decode cX0_shake 15 = .ok (.ireturn, 1) := dk_172 (dk_at dksX0_shake_0 15 rfl rfl)
abbrev cX0_amend : ByteArray := method_14_code
def yX0_amend : MethodName := ⟨RX0, "amend", "(LNapkinDeeds;III[J)I"⟩
def dkwX0_amend_1 : List UInt8 := [172]
abbrev dktX0_amend_1 : List UInt8 := dkwX0_amend_1 ++ []
def dkwX0_amend_0 : List UInt8 := [25, 4, 3, 42, 27, 28, 29, 182, 0, 51, 133, 80, 167, 0, 11, 58, 5, 4, 172, 58, 5, 5, 172, 3]
abbrev dktX0_amend_0 : List UInt8 := dkwX0_amend_0 ++ dktX0_amend_1
theorem dksX0_amend_0 : cX0_amend.data.toList.drop 0 = dktX0_amend_0 := by decide +kernel
theorem dksX0_amend_1 : cX0_amend.data.toList.drop 24 = dktX0_amend_1 := dk_seg dksX0_amend_0 24 rfl rfl
theorem dX0_amend_0 : decode cX0_amend 0 = .ok (.aload 4, 2) := dk_25 4 (dk_at dksX0_amend_0 0 rfl rfl)
theorem dX0_amend_2 : decode cX0_amend 2 = .ok (.iconst 0, 1) := dk_3 (dk_at dksX0_amend_0 2 rfl rfl)
theorem dX0_amend_3 : decode cX0_amend 3 = .ok (.aload_n 0, 1) := dk_42 (dk_at dksX0_amend_0 3 rfl rfl)
theorem dX0_amend_4 : decode cX0_amend 4 = .ok (.iload_n 1, 1) := dk_27 (dk_at dksX0_amend_0 4 rfl rfl)
theorem dX0_amend_5 : decode cX0_amend 5 = .ok (.iload_n 2, 1) := dk_28 (dk_at dksX0_amend_0 5 rfl rfl)
theorem dX0_amend_6 : decode cX0_amend 6 = .ok (.iload_n 3, 1) := dk_29 (dk_at dksX0_amend_0 6 rfl rfl)
theorem dX0_amend_7 : decode cX0_amend 7 = .ok (.invokevirtual 51, 3) := dk_182 0 51 (dk_at dksX0_amend_0 7 rfl rfl)
theorem dX0_amend_10 : decode cX0_amend 10 = .ok (.i2l, 1) := dk_133 (dk_at dksX0_amend_0 10 rfl rfl)
theorem dX0_amend_11 : decode cX0_amend 11 = .ok (.lastore, 1) := dk_80 (dk_at dksX0_amend_0 11 rfl rfl)
theorem dX0_amend_12 : decode cX0_amend 12 = .ok (.goto 11, 3) := dk_167 0 11 (dk_at dksX0_amend_0 12 rfl rfl)
theorem dX0_amend_15 : decode cX0_amend 15 = .ok (.astore 5, 2) := dk_58 5 (dk_at dksX0_amend_0 15 rfl rfl)
theorem dX0_amend_17 : decode cX0_amend 17 = .ok (.iconst 1, 1) := dk_4 (dk_at dksX0_amend_0 17 rfl rfl)
theorem dX0_amend_18 : decode cX0_amend 18 = .ok (.ireturn, 1) := dk_172 (dk_at dksX0_amend_0 18 rfl rfl)
theorem dX0_amend_19 : decode cX0_amend 19 = .ok (.astore 5, 2) := dk_58 5 (dk_at dksX0_amend_0 19 rfl rfl)
theorem dX0_amend_21 : decode cX0_amend 21 = .ok (.iconst 2, 1) := dk_5 (dk_at dksX0_amend_0 21 rfl rfl)
theorem dX0_amend_22 : decode cX0_amend 22 = .ok (.ireturn, 1) := dk_172 (dk_at dksX0_amend_0 22 rfl rfl)
theorem dX0_amend_23 : decode cX0_amend 23 = .ok (.iconst 0, 1) := dk_3 (dk_at dksX0_amend_0 23 rfl rfl)
theorem dX0_amend_24 : decode cX0_amend 24 = .ok (.ireturn, 1) := dk_172 (dk_at dksX0_amend_1 0 rfl rfl)
abbrev cX0_undo : ByteArray := method_15_code
def yX0_undo : MethodName := ⟨RX0, "undo", "(LNapkinDeeds;I[J)I"⟩
def dkwX0_undo_0 : List UInt8 := [44, 3, 42, 27, 182, 0, 55, 133, 80, 167, 0, 6, 78, 4, 172, 3, 172]
abbrev dktX0_undo_0 : List UInt8 := dkwX0_undo_0 ++ []
theorem dksX0_undo_0 : cX0_undo.data.toList.drop 0 = dktX0_undo_0 := by decide +kernel
theorem dX0_undo_0 : decode cX0_undo 0 = .ok (.aload_n 2, 1) := dk_44 (dk_at dksX0_undo_0 0 rfl rfl)
theorem dX0_undo_1 : decode cX0_undo 1 = .ok (.iconst 0, 1) := dk_3 (dk_at dksX0_undo_0 1 rfl rfl)
theorem dX0_undo_2 : decode cX0_undo 2 = .ok (.aload_n 0, 1) := dk_42 (dk_at dksX0_undo_0 2 rfl rfl)
theorem dX0_undo_3 : decode cX0_undo 3 = .ok (.iload_n 1, 1) := dk_27 (dk_at dksX0_undo_0 3 rfl rfl)
theorem dX0_undo_4 : decode cX0_undo 4 = .ok (.invokevirtual 55, 3) := dk_182 0 55 (dk_at dksX0_undo_0 4 rfl rfl)
theorem dX0_undo_7 : decode cX0_undo 7 = .ok (.i2l, 1) := dk_133 (dk_at dksX0_undo_0 7 rfl rfl)
theorem dX0_undo_8 : decode cX0_undo 8 = .ok (.lastore, 1) := dk_80 (dk_at dksX0_undo_0 8 rfl rfl)
theorem dX0_undo_9 : decode cX0_undo 9 = .ok (.goto 6, 3) := dk_167 0 6 (dk_at dksX0_undo_0 9 rfl rfl)
theorem dX0_undo_12 : decode cX0_undo 12 = .ok (.astore_n 3, 1) := dk_78 (dk_at dksX0_undo_0 12 rfl rfl)
theorem dX0_undo_13 : decode cX0_undo 13 = .ok (.iconst 1, 1) := dk_4 (dk_at dksX0_undo_0 13 rfl rfl)
theorem dX0_undo_14 : decode cX0_undo 14 = .ok (.ireturn, 1) := dk_172 (dk_at dksX0_undo_0 14 rfl rfl)
theorem dX0_undo_15 : decode cX0_undo 15 = .ok (.iconst 0, 1) := dk_3 (dk_at dksX0_undo_0 15 rfl rfl)
theorem dX0_undo_16 : decode cX0_undo 16 = .ok (.ireturn, 1) := dk_172 (dk_at dksX0_undo_0 16 rfl rfl)
abbrev cX0_judge : ByteArray := method_16_code
def yX0_judge : MethodName := ⟨RX0, "judge", "(LNapkinDeeds;II[J)I"⟩
def dkwX0_judge_1 : List UInt8 := [172, 3, 172]
abbrev dktX0_judge_1 : List UInt8 := dkwX0_judge_1 ++ []
def dkwX0_judge_0 : List UInt8 := [45, 3, 42, 27, 28, 182, 0, 58, 133, 80, 167, 0, 15, 58, 4, 4, 172, 58, 4, 5, 172, 58, 4, 6]
abbrev dktX0_judge_0 : List UInt8 := dkwX0_judge_0 ++ dktX0_judge_1
theorem dksX0_judge_0 : cX0_judge.data.toList.drop 0 = dktX0_judge_0 := by decide +kernel
theorem dksX0_judge_1 : cX0_judge.data.toList.drop 24 = dktX0_judge_1 := dk_seg dksX0_judge_0 24 rfl rfl
theorem dX0_judge_0 : decode cX0_judge 0 = .ok (.aload_n 3, 1) := dk_45 (dk_at dksX0_judge_0 0 rfl rfl)
theorem dX0_judge_1 : decode cX0_judge 1 = .ok (.iconst 0, 1) := dk_3 (dk_at dksX0_judge_0 1 rfl rfl)
theorem dX0_judge_2 : decode cX0_judge 2 = .ok (.aload_n 0, 1) := dk_42 (dk_at dksX0_judge_0 2 rfl rfl)
theorem dX0_judge_3 : decode cX0_judge 3 = .ok (.iload_n 1, 1) := dk_27 (dk_at dksX0_judge_0 3 rfl rfl)
theorem dX0_judge_4 : decode cX0_judge 4 = .ok (.iload_n 2, 1) := dk_28 (dk_at dksX0_judge_0 4 rfl rfl)
theorem dX0_judge_5 : decode cX0_judge 5 = .ok (.invokevirtual 58, 3) := dk_182 0 58 (dk_at dksX0_judge_0 5 rfl rfl)
theorem dX0_judge_8 : decode cX0_judge 8 = .ok (.i2l, 1) := dk_133 (dk_at dksX0_judge_0 8 rfl rfl)
theorem dX0_judge_9 : decode cX0_judge 9 = .ok (.lastore, 1) := dk_80 (dk_at dksX0_judge_0 9 rfl rfl)
theorem dX0_judge_10 : decode cX0_judge 10 = .ok (.goto 15, 3) := dk_167 0 15 (dk_at dksX0_judge_0 10 rfl rfl)
theorem dX0_judge_13 : decode cX0_judge 13 = .ok (.astore 4, 2) := dk_58 4 (dk_at dksX0_judge_0 13 rfl rfl)
theorem dX0_judge_15 : decode cX0_judge 15 = .ok (.iconst 1, 1) := dk_4 (dk_at dksX0_judge_0 15 rfl rfl)
theorem dX0_judge_16 : decode cX0_judge 16 = .ok (.ireturn, 1) := dk_172 (dk_at dksX0_judge_0 16 rfl rfl)
theorem dX0_judge_17 : decode cX0_judge 17 = .ok (.astore 4, 2) := dk_58 4 (dk_at dksX0_judge_0 17 rfl rfl)
theorem dX0_judge_19 : decode cX0_judge 19 = .ok (.iconst 2, 1) := dk_5 (dk_at dksX0_judge_0 19 rfl rfl)
theorem dX0_judge_20 : decode cX0_judge 20 = .ok (.ireturn, 1) := dk_172 (dk_at dksX0_judge_0 20 rfl rfl)
theorem dX0_judge_21 : decode cX0_judge 21 = .ok (.astore 4, 2) := dk_58 4 (dk_at dksX0_judge_0 21 rfl rfl)
theorem dX0_judge_23 : decode cX0_judge 23 = .ok (.iconst 3, 1) := dk_6 (dk_at dksX0_judge_0 23 rfl rfl)
theorem dX0_judge_24 : decode cX0_judge 24 = .ok (.ireturn, 1) := dk_172 (dk_at dksX0_judge_1 0 rfl rfl)
theorem dX0_judge_25 : decode cX0_judge 25 = .ok (.iconst 0, 1) := dk_3 (dk_at dksX0_judge_1 1 rfl rfl)
theorem dX0_judge_26 : decode cX0_judge 26 = .ok (.ireturn, 1) := dk_172 (dk_at dksX0_judge_1 2 rfl rfl)
abbrev cX0_perform : ByteArray := method_17_code
def yX0_perform : MethodName := ⟨RX0, "perform", "(LNapkinDeeds;I[J)I"⟩
def dkwX0_perform_0 : List UInt8 := [44, 3, 42, 27, 182, 0, 61, 133, 80, 167, 0, 9, 78, 4, 172, 78, 5, 172, 3, 172]
abbrev dktX0_perform_0 : List UInt8 := dkwX0_perform_0 ++ []
theorem dksX0_perform_0 : cX0_perform.data.toList.drop 0 = dktX0_perform_0 := by decide +kernel
theorem dX0_perform_0 : decode cX0_perform 0 = .ok (.aload_n 2, 1) := dk_44 (dk_at dksX0_perform_0 0 rfl rfl)
theorem dX0_perform_1 : decode cX0_perform 1 = .ok (.iconst 0, 1) := dk_3 (dk_at dksX0_perform_0 1 rfl rfl)
theorem dX0_perform_2 : decode cX0_perform 2 = .ok (.aload_n 0, 1) := dk_42 (dk_at dksX0_perform_0 2 rfl rfl)
theorem dX0_perform_3 : decode cX0_perform 3 = .ok (.iload_n 1, 1) := dk_27 (dk_at dksX0_perform_0 3 rfl rfl)
theorem dX0_perform_4 : decode cX0_perform 4 = .ok (.invokevirtual 61, 3) := dk_182 0 61 (dk_at dksX0_perform_0 4 rfl rfl)
theorem dX0_perform_7 : decode cX0_perform 7 = .ok (.i2l, 1) := dk_133 (dk_at dksX0_perform_0 7 rfl rfl)
theorem dX0_perform_8 : decode cX0_perform 8 = .ok (.lastore, 1) := dk_80 (dk_at dksX0_perform_0 8 rfl rfl)
theorem dX0_perform_9 : decode cX0_perform 9 = .ok (.goto 9, 3) := dk_167 0 9 (dk_at dksX0_perform_0 9 rfl rfl)
theorem dX0_perform_12 : decode cX0_perform 12 = .ok (.astore_n 3, 1) := dk_78 (dk_at dksX0_perform_0 12 rfl rfl)
theorem dX0_perform_13 : decode cX0_perform 13 = .ok (.iconst 1, 1) := dk_4 (dk_at dksX0_perform_0 13 rfl rfl)
theorem dX0_perform_14 : decode cX0_perform 14 = .ok (.ireturn, 1) := dk_172 (dk_at dksX0_perform_0 14 rfl rfl)
theorem dX0_perform_15 : decode cX0_perform 15 = .ok (.astore_n 3, 1) := dk_78 (dk_at dksX0_perform_0 15 rfl rfl)
theorem dX0_perform_16 : decode cX0_perform 16 = .ok (.iconst 2, 1) := dk_5 (dk_at dksX0_perform_0 16 rfl rfl)
theorem dX0_perform_17 : decode cX0_perform 17 = .ok (.ireturn, 1) := dk_172 (dk_at dksX0_perform_0 17 rfl rfl)
theorem dX0_perform_18 : decode cX0_perform 18 = .ok (.iconst 0, 1) := dk_3 (dk_at dksX0_perform_0 18 rfl rfl)
theorem dX0_perform_19 : decode cX0_perform 19 = .ok (.ireturn, 1) := dk_172 (dk_at dksX0_perform_0 19 rfl rfl)
abbrev cX0_evening : ByteArray := method_18_code
def yX0_evening : MethodName := ⟨RX0, "evening", "(LNapkinDeeds;II[J)I"⟩
def dkwX0_evening_0 : List UInt8 := [45, 3, 42, 27, 28, 182, 0, 64, 133, 80, 167, 0, 7, 58, 4, 4, 172, 3, 172]
abbrev dktX0_evening_0 : List UInt8 := dkwX0_evening_0 ++ []
theorem dksX0_evening_0 : cX0_evening.data.toList.drop 0 = dktX0_evening_0 := by decide +kernel
theorem dX0_evening_0 : decode cX0_evening 0 = .ok (.aload_n 3, 1) := dk_45 (dk_at dksX0_evening_0 0 rfl rfl)
theorem dX0_evening_1 : decode cX0_evening 1 = .ok (.iconst 0, 1) := dk_3 (dk_at dksX0_evening_0 1 rfl rfl)
theorem dX0_evening_2 : decode cX0_evening 2 = .ok (.aload_n 0, 1) := dk_42 (dk_at dksX0_evening_0 2 rfl rfl)
theorem dX0_evening_3 : decode cX0_evening 3 = .ok (.iload_n 1, 1) := dk_27 (dk_at dksX0_evening_0 3 rfl rfl)
theorem dX0_evening_4 : decode cX0_evening 4 = .ok (.iload_n 2, 1) := dk_28 (dk_at dksX0_evening_0 4 rfl rfl)
theorem dX0_evening_5 : decode cX0_evening 5 = .ok (.invokevirtual 64, 3) := dk_182 0 64 (dk_at dksX0_evening_0 5 rfl rfl)
theorem dX0_evening_8 : decode cX0_evening 8 = .ok (.i2l, 1) := dk_133 (dk_at dksX0_evening_0 8 rfl rfl)
theorem dX0_evening_9 : decode cX0_evening 9 = .ok (.lastore, 1) := dk_80 (dk_at dksX0_evening_0 9 rfl rfl)
theorem dX0_evening_10 : decode cX0_evening 10 = .ok (.goto 7, 3) := dk_167 0 7 (dk_at dksX0_evening_0 10 rfl rfl)
theorem dX0_evening_13 : decode cX0_evening 13 = .ok (.astore 4, 2) := dk_58 4 (dk_at dksX0_evening_0 13 rfl rfl)
theorem dX0_evening_15 : decode cX0_evening 15 = .ok (.iconst 1, 1) := dk_4 (dk_at dksX0_evening_0 15 rfl rfl)
theorem dX0_evening_16 : decode cX0_evening 16 = .ok (.ireturn, 1) := dk_172 (dk_at dksX0_evening_0 16 rfl rfl)
theorem dX0_evening_17 : decode cX0_evening 17 = .ok (.iconst 0, 1) := dk_3 (dk_at dksX0_evening_0 17 rfl rfl)
theorem dX0_evening_18 : decode cX0_evening 18 = .ok (.ireturn, 1) := dk_172 (dk_at dksX0_evening_0 18 rfl rfl)
abbrev cX0_rows : ByteArray := method_19_code
def yX0_rows : MethodName := ⟨RX0, "rows", "(LNapkinDeeds;I[J)I"⟩
def dkwX0_rows_0 : List UInt8 := [44, 3, 42, 27, 182, 0, 67, 133, 80, 167, 0, 6, 78, 4, 172, 3, 172]
abbrev dktX0_rows_0 : List UInt8 := dkwX0_rows_0 ++ []
theorem dksX0_rows_0 : cX0_rows.data.toList.drop 0 = dktX0_rows_0 := by decide +kernel
theorem dX0_rows_0 : decode cX0_rows 0 = .ok (.aload_n 2, 1) := dk_44 (dk_at dksX0_rows_0 0 rfl rfl)
theorem dX0_rows_1 : decode cX0_rows 1 = .ok (.iconst 0, 1) := dk_3 (dk_at dksX0_rows_0 1 rfl rfl)
theorem dX0_rows_2 : decode cX0_rows 2 = .ok (.aload_n 0, 1) := dk_42 (dk_at dksX0_rows_0 2 rfl rfl)
theorem dX0_rows_3 : decode cX0_rows 3 = .ok (.iload_n 1, 1) := dk_27 (dk_at dksX0_rows_0 3 rfl rfl)
theorem dX0_rows_4 : decode cX0_rows 4 = .ok (.invokevirtual 67, 3) := dk_182 0 67 (dk_at dksX0_rows_0 4 rfl rfl)
theorem dX0_rows_7 : decode cX0_rows 7 = .ok (.i2l, 1) := dk_133 (dk_at dksX0_rows_0 7 rfl rfl)
theorem dX0_rows_8 : decode cX0_rows 8 = .ok (.lastore, 1) := dk_80 (dk_at dksX0_rows_0 8 rfl rfl)
theorem dX0_rows_9 : decode cX0_rows 9 = .ok (.goto 6, 3) := dk_167 0 6 (dk_at dksX0_rows_0 9 rfl rfl)
theorem dX0_rows_12 : decode cX0_rows 12 = .ok (.astore_n 3, 1) := dk_78 (dk_at dksX0_rows_0 12 rfl rfl)
theorem dX0_rows_13 : decode cX0_rows 13 = .ok (.iconst 1, 1) := dk_4 (dk_at dksX0_rows_0 13 rfl rfl)
theorem dX0_rows_14 : decode cX0_rows 14 = .ok (.ireturn, 1) := dk_172 (dk_at dksX0_rows_0 14 rfl rfl)
theorem dX0_rows_15 : decode cX0_rows 15 = .ok (.iconst 0, 1) := dk_3 (dk_at dksX0_rows_0 15 rfl rfl)
theorem dX0_rows_16 : decode cX0_rows 16 = .ok (.ireturn, 1) := dk_172 (dk_at dksX0_rows_0 16 rfl rfl)
abbrev cX0_looks : ByteArray := method_20_code
def yX0_looks : MethodName := ⟨RX0, "looks", "(LNapkinDeeds;I[J)I"⟩
def dkwX0_looks_0 : List UInt8 := [44, 3, 42, 27, 182, 0, 70, 133, 80, 167, 0, 6, 78, 4, 172, 3, 172]
abbrev dktX0_looks_0 : List UInt8 := dkwX0_looks_0 ++ []
theorem dksX0_looks_0 : cX0_looks.data.toList.drop 0 = dktX0_looks_0 := by decide +kernel
theorem dX0_looks_0 : decode cX0_looks 0 = .ok (.aload_n 2, 1) := dk_44 (dk_at dksX0_looks_0 0 rfl rfl)
theorem dX0_looks_1 : decode cX0_looks 1 = .ok (.iconst 0, 1) := dk_3 (dk_at dksX0_looks_0 1 rfl rfl)
theorem dX0_looks_2 : decode cX0_looks 2 = .ok (.aload_n 0, 1) := dk_42 (dk_at dksX0_looks_0 2 rfl rfl)
theorem dX0_looks_3 : decode cX0_looks 3 = .ok (.iload_n 1, 1) := dk_27 (dk_at dksX0_looks_0 3 rfl rfl)
theorem dX0_looks_4 : decode cX0_looks 4 = .ok (.invokevirtual 70, 3) := dk_182 0 70 (dk_at dksX0_looks_0 4 rfl rfl)
theorem dX0_looks_7 : decode cX0_looks 7 = .ok (.i2l, 1) := dk_133 (dk_at dksX0_looks_0 7 rfl rfl)
theorem dX0_looks_8 : decode cX0_looks 8 = .ok (.lastore, 1) := dk_80 (dk_at dksX0_looks_0 8 rfl rfl)
theorem dX0_looks_9 : decode cX0_looks 9 = .ok (.goto 6, 3) := dk_167 0 6 (dk_at dksX0_looks_0 9 rfl rfl)
theorem dX0_looks_12 : decode cX0_looks 12 = .ok (.astore_n 3, 1) := dk_78 (dk_at dksX0_looks_0 12 rfl rfl)
theorem dX0_looks_13 : decode cX0_looks 13 = .ok (.iconst 1, 1) := dk_4 (dk_at dksX0_looks_0 13 rfl rfl)
theorem dX0_looks_14 : decode cX0_looks 14 = .ok (.ireturn, 1) := dk_172 (dk_at dksX0_looks_0 14 rfl rfl)
theorem dX0_looks_15 : decode cX0_looks 15 = .ok (.iconst 0, 1) := dk_3 (dk_at dksX0_looks_0 15 rfl rfl)
theorem dX0_looks_16 : decode cX0_looks 16 = .ok (.ireturn, 1) := dk_172 (dk_at dksX0_looks_0 16 rfl rfl)
abbrev cX0_soonest : ByteArray := method_21_code
def yX0_soonest : MethodName := ⟨RX0, "soonest", "(LNapkinDeeds;I[J)I"⟩
def dkwX0_soonest_0 : List UInt8 := [44, 3, 42, 27, 182, 0, 73, 133, 80, 167, 0, 6, 78, 4, 172, 3, 172]
abbrev dktX0_soonest_0 : List UInt8 := dkwX0_soonest_0 ++ []
theorem dksX0_soonest_0 : cX0_soonest.data.toList.drop 0 = dktX0_soonest_0 := by decide +kernel
theorem dX0_soonest_0 : decode cX0_soonest 0 = .ok (.aload_n 2, 1) := dk_44 (dk_at dksX0_soonest_0 0 rfl rfl)
theorem dX0_soonest_1 : decode cX0_soonest 1 = .ok (.iconst 0, 1) := dk_3 (dk_at dksX0_soonest_0 1 rfl rfl)
theorem dX0_soonest_2 : decode cX0_soonest 2 = .ok (.aload_n 0, 1) := dk_42 (dk_at dksX0_soonest_0 2 rfl rfl)
theorem dX0_soonest_3 : decode cX0_soonest 3 = .ok (.iload_n 1, 1) := dk_27 (dk_at dksX0_soonest_0 3 rfl rfl)
theorem dX0_soonest_4 : decode cX0_soonest 4 = .ok (.invokevirtual 73, 3) := dk_182 0 73 (dk_at dksX0_soonest_0 4 rfl rfl)
theorem dX0_soonest_7 : decode cX0_soonest 7 = .ok (.i2l, 1) := dk_133 (dk_at dksX0_soonest_0 7 rfl rfl)
theorem dX0_soonest_8 : decode cX0_soonest 8 = .ok (.lastore, 1) := dk_80 (dk_at dksX0_soonest_0 8 rfl rfl)
theorem dX0_soonest_9 : decode cX0_soonest 9 = .ok (.goto 6, 3) := dk_167 0 6 (dk_at dksX0_soonest_0 9 rfl rfl)
theorem dX0_soonest_12 : decode cX0_soonest 12 = .ok (.astore_n 3, 1) := dk_78 (dk_at dksX0_soonest_0 12 rfl rfl)
theorem dX0_soonest_13 : decode cX0_soonest 13 = .ok (.iconst 1, 1) := dk_4 (dk_at dksX0_soonest_0 13 rfl rfl)
theorem dX0_soonest_14 : decode cX0_soonest 14 = .ok (.ireturn, 1) := dk_172 (dk_at dksX0_soonest_0 14 rfl rfl)
theorem dX0_soonest_15 : decode cX0_soonest 15 = .ok (.iconst 0, 1) := dk_3 (dk_at dksX0_soonest_0 15 rfl rfl)
theorem dX0_soonest_16 : decode cX0_soonest 16 = .ok (.ireturn, 1) := dk_172 (dk_at dksX0_soonest_0 16 rfl rfl)
abbrev cX0_holding : ByteArray := method_22_code
def yX0_holding : MethodName := ⟨RX0, "holding", "(LNapkinDeeds;I[J)I"⟩
def dkwX0_holding_0 : List UInt8 := [44, 3, 42, 27, 182, 0, 76, 133, 80, 167, 0, 6, 78, 4, 172, 3, 172]
abbrev dktX0_holding_0 : List UInt8 := dkwX0_holding_0 ++ []
theorem dksX0_holding_0 : cX0_holding.data.toList.drop 0 = dktX0_holding_0 := by decide +kernel
theorem dX0_holding_0 : decode cX0_holding 0 = .ok (.aload_n 2, 1) := dk_44 (dk_at dksX0_holding_0 0 rfl rfl)
theorem dX0_holding_1 : decode cX0_holding 1 = .ok (.iconst 0, 1) := dk_3 (dk_at dksX0_holding_0 1 rfl rfl)
theorem dX0_holding_2 : decode cX0_holding 2 = .ok (.aload_n 0, 1) := dk_42 (dk_at dksX0_holding_0 2 rfl rfl)
theorem dX0_holding_3 : decode cX0_holding 3 = .ok (.iload_n 1, 1) := dk_27 (dk_at dksX0_holding_0 3 rfl rfl)
theorem dX0_holding_4 : decode cX0_holding 4 = .ok (.invokevirtual 76, 3) := dk_182 0 76 (dk_at dksX0_holding_0 4 rfl rfl)
theorem dX0_holding_7 : decode cX0_holding 7 = .ok (.i2l, 1) := dk_133 (dk_at dksX0_holding_0 7 rfl rfl)
theorem dX0_holding_8 : decode cX0_holding 8 = .ok (.lastore, 1) := dk_80 (dk_at dksX0_holding_0 8 rfl rfl)
theorem dX0_holding_9 : decode cX0_holding 9 = .ok (.goto 6, 3) := dk_167 0 6 (dk_at dksX0_holding_0 9 rfl rfl)
theorem dX0_holding_12 : decode cX0_holding 12 = .ok (.astore_n 3, 1) := dk_78 (dk_at dksX0_holding_0 12 rfl rfl)
theorem dX0_holding_13 : decode cX0_holding 13 = .ok (.iconst 1, 1) := dk_4 (dk_at dksX0_holding_0 13 rfl rfl)
theorem dX0_holding_14 : decode cX0_holding 14 = .ok (.ireturn, 1) := dk_172 (dk_at dksX0_holding_0 14 rfl rfl)
theorem dX0_holding_15 : decode cX0_holding 15 = .ok (.iconst 0, 1) := dk_3 (dk_at dksX0_holding_0 15 rfl rfl)
theorem dX0_holding_16 : decode cX0_holding 16 = .ok (.ireturn, 1) := dk_172 (dk_at dksX0_holding_0 16 rfl rfl)
abbrev cX0_best : ByteArray := method_23_code
def yX0_best : MethodName := ⟨RX0, "best", "(LNapkinDeeds;II[J)I"⟩
def dkwX0_best_0 : List UInt8 := [45, 3, 42, 27, 28, 182, 0, 79, 133, 80, 167, 0, 7, 58, 4, 4, 172, 3, 172]
abbrev dktX0_best_0 : List UInt8 := dkwX0_best_0 ++ []
theorem dksX0_best_0 : cX0_best.data.toList.drop 0 = dktX0_best_0 := by decide +kernel
theorem dX0_best_0 : decode cX0_best 0 = .ok (.aload_n 3, 1) := dk_45 (dk_at dksX0_best_0 0 rfl rfl)
theorem dX0_best_1 : decode cX0_best 1 = .ok (.iconst 0, 1) := dk_3 (dk_at dksX0_best_0 1 rfl rfl)
theorem dX0_best_2 : decode cX0_best 2 = .ok (.aload_n 0, 1) := dk_42 (dk_at dksX0_best_0 2 rfl rfl)
theorem dX0_best_3 : decode cX0_best 3 = .ok (.iload_n 1, 1) := dk_27 (dk_at dksX0_best_0 3 rfl rfl)
theorem dX0_best_4 : decode cX0_best 4 = .ok (.iload_n 2, 1) := dk_28 (dk_at dksX0_best_0 4 rfl rfl)
theorem dX0_best_5 : decode cX0_best 5 = .ok (.invokevirtual 79, 3) := dk_182 0 79 (dk_at dksX0_best_0 5 rfl rfl)
theorem dX0_best_8 : decode cX0_best 8 = .ok (.i2l, 1) := dk_133 (dk_at dksX0_best_0 8 rfl rfl)
theorem dX0_best_9 : decode cX0_best 9 = .ok (.lastore, 1) := dk_80 (dk_at dksX0_best_0 9 rfl rfl)
theorem dX0_best_10 : decode cX0_best 10 = .ok (.goto 7, 3) := dk_167 0 7 (dk_at dksX0_best_0 10 rfl rfl)
theorem dX0_best_13 : decode cX0_best 13 = .ok (.astore 4, 2) := dk_58 4 (dk_at dksX0_best_0 13 rfl rfl)
theorem dX0_best_15 : decode cX0_best 15 = .ok (.iconst 1, 1) := dk_4 (dk_at dksX0_best_0 15 rfl rfl)
theorem dX0_best_16 : decode cX0_best 16 = .ok (.ireturn, 1) := dk_172 (dk_at dksX0_best_0 16 rfl rfl)
theorem dX0_best_17 : decode cX0_best 17 = .ok (.iconst 0, 1) := dk_3 (dk_at dksX0_best_0 17 rfl rfl)
theorem dX0_best_18 : decode cX0_best 18 = .ok (.ireturn, 1) := dk_172 (dk_at dksX0_best_0 18 rfl rfl)
abbrev cX0_reads : ByteArray := method_24_code
def yX0_reads : MethodName := ⟨RX0, "reads", "(LNapkinDeeds;II[J)I"⟩
def dkwX0_reads_1 : List UInt8 := [172, 3, 172]
abbrev dktX0_reads_1 : List UInt8 := dkwX0_reads_1 ++ []
def dkwX0_reads_0 : List UInt8 := [45, 3, 42, 27, 28, 182, 0, 82, 133, 80, 167, 0, 15, 58, 4, 4, 172, 58, 4, 5, 172, 58, 4, 6]
abbrev dktX0_reads_0 : List UInt8 := dkwX0_reads_0 ++ dktX0_reads_1
theorem dksX0_reads_0 : cX0_reads.data.toList.drop 0 = dktX0_reads_0 := by decide +kernel
theorem dksX0_reads_1 : cX0_reads.data.toList.drop 24 = dktX0_reads_1 := dk_seg dksX0_reads_0 24 rfl rfl
theorem dX0_reads_0 : decode cX0_reads 0 = .ok (.aload_n 3, 1) := dk_45 (dk_at dksX0_reads_0 0 rfl rfl)
theorem dX0_reads_1 : decode cX0_reads 1 = .ok (.iconst 0, 1) := dk_3 (dk_at dksX0_reads_0 1 rfl rfl)
theorem dX0_reads_2 : decode cX0_reads 2 = .ok (.aload_n 0, 1) := dk_42 (dk_at dksX0_reads_0 2 rfl rfl)
theorem dX0_reads_3 : decode cX0_reads 3 = .ok (.iload_n 1, 1) := dk_27 (dk_at dksX0_reads_0 3 rfl rfl)
theorem dX0_reads_4 : decode cX0_reads 4 = .ok (.iload_n 2, 1) := dk_28 (dk_at dksX0_reads_0 4 rfl rfl)
theorem dX0_reads_5 : decode cX0_reads 5 = .ok (.invokevirtual 82, 3) := dk_182 0 82 (dk_at dksX0_reads_0 5 rfl rfl)
theorem dX0_reads_8 : decode cX0_reads 8 = .ok (.i2l, 1) := dk_133 (dk_at dksX0_reads_0 8 rfl rfl)
theorem dX0_reads_9 : decode cX0_reads 9 = .ok (.lastore, 1) := dk_80 (dk_at dksX0_reads_0 9 rfl rfl)
theorem dX0_reads_10 : decode cX0_reads 10 = .ok (.goto 15, 3) := dk_167 0 15 (dk_at dksX0_reads_0 10 rfl rfl)
theorem dX0_reads_13 : decode cX0_reads 13 = .ok (.astore 4, 2) := dk_58 4 (dk_at dksX0_reads_0 13 rfl rfl)
theorem dX0_reads_15 : decode cX0_reads 15 = .ok (.iconst 1, 1) := dk_4 (dk_at dksX0_reads_0 15 rfl rfl)
theorem dX0_reads_16 : decode cX0_reads 16 = .ok (.ireturn, 1) := dk_172 (dk_at dksX0_reads_0 16 rfl rfl)
theorem dX0_reads_17 : decode cX0_reads 17 = .ok (.astore 4, 2) := dk_58 4 (dk_at dksX0_reads_0 17 rfl rfl)
theorem dX0_reads_19 : decode cX0_reads 19 = .ok (.iconst 2, 1) := dk_5 (dk_at dksX0_reads_0 19 rfl rfl)
theorem dX0_reads_20 : decode cX0_reads 20 = .ok (.ireturn, 1) := dk_172 (dk_at dksX0_reads_0 20 rfl rfl)
theorem dX0_reads_21 : decode cX0_reads 21 = .ok (.astore 4, 2) := dk_58 4 (dk_at dksX0_reads_0 21 rfl rfl)
theorem dX0_reads_23 : decode cX0_reads 23 = .ok (.iconst 3, 1) := dk_6 (dk_at dksX0_reads_0 23 rfl rfl)
theorem dX0_reads_24 : decode cX0_reads 24 = .ok (.ireturn, 1) := dk_172 (dk_at dksX0_reads_1 0 rfl rfl)
theorem dX0_reads_25 : decode cX0_reads 25 = .ok (.iconst 0, 1) := dk_3 (dk_at dksX0_reads_1 1 rfl rfl)
theorem dX0_reads_26 : decode cX0_reads 26 = .ok (.ireturn, 1) := dk_172 (dk_at dksX0_reads_1 2 rfl rfl)
abbrev cX0_stands : ByteArray := method_25_code
def yX0_stands : MethodName := ⟨RX0, "stands", "(LNapkinDeeds;I[J)I"⟩
def dkwX0_stands_1 : List UInt8 := [172, 78, 6, 172, 3, 172]
abbrev dktX0_stands_1 : List UInt8 := dkwX0_stands_1 ++ []
def dkwX0_stands_0 : List UInt8 := [44, 3, 42, 27, 182, 0, 85, 153, 0, 7, 10, 167, 0, 4, 9, 80, 167, 0, 12, 78, 4, 172, 78, 5]
abbrev dktX0_stands_0 : List UInt8 := dkwX0_stands_0 ++ dktX0_stands_1
theorem dksX0_stands_0 : cX0_stands.data.toList.drop 0 = dktX0_stands_0 := by decide +kernel
theorem dksX0_stands_1 : cX0_stands.data.toList.drop 24 = dktX0_stands_1 := dk_seg dksX0_stands_0 24 rfl rfl
theorem dX0_stands_0 : decode cX0_stands 0 = .ok (.aload_n 2, 1) := dk_44 (dk_at dksX0_stands_0 0 rfl rfl)
theorem dX0_stands_1 : decode cX0_stands 1 = .ok (.iconst 0, 1) := dk_3 (dk_at dksX0_stands_0 1 rfl rfl)
theorem dX0_stands_2 : decode cX0_stands 2 = .ok (.aload_n 0, 1) := dk_42 (dk_at dksX0_stands_0 2 rfl rfl)
theorem dX0_stands_3 : decode cX0_stands 3 = .ok (.iload_n 1, 1) := dk_27 (dk_at dksX0_stands_0 3 rfl rfl)
theorem dX0_stands_4 : decode cX0_stands 4 = .ok (.invokevirtual 85, 3) := dk_182 0 85 (dk_at dksX0_stands_0 4 rfl rfl)
theorem dX0_stands_7 : decode cX0_stands 7 = .ok (.ifCond .eq 7, 3) := dk_153 0 7 (dk_at dksX0_stands_0 7 rfl rfl)
theorem dX0_stands_10 : decode cX0_stands 10 = .ok (.lconst 1, 1) := dk_10 (dk_at dksX0_stands_0 10 rfl rfl)
theorem dX0_stands_11 : decode cX0_stands 11 = .ok (.goto 4, 3) := dk_167 0 4 (dk_at dksX0_stands_0 11 rfl rfl)
theorem dX0_stands_14 : decode cX0_stands 14 = .ok (.lconst 0, 1) := dk_9 (dk_at dksX0_stands_0 14 rfl rfl)
theorem dX0_stands_15 : decode cX0_stands 15 = .ok (.lastore, 1) := dk_80 (dk_at dksX0_stands_0 15 rfl rfl)
theorem dX0_stands_16 : decode cX0_stands 16 = .ok (.goto 12, 3) := dk_167 0 12 (dk_at dksX0_stands_0 16 rfl rfl)
theorem dX0_stands_19 : decode cX0_stands 19 = .ok (.astore_n 3, 1) := dk_78 (dk_at dksX0_stands_0 19 rfl rfl)
theorem dX0_stands_20 : decode cX0_stands 20 = .ok (.iconst 1, 1) := dk_4 (dk_at dksX0_stands_0 20 rfl rfl)
theorem dX0_stands_21 : decode cX0_stands 21 = .ok (.ireturn, 1) := dk_172 (dk_at dksX0_stands_0 21 rfl rfl)
theorem dX0_stands_22 : decode cX0_stands 22 = .ok (.astore_n 3, 1) := dk_78 (dk_at dksX0_stands_0 22 rfl rfl)
theorem dX0_stands_23 : decode cX0_stands 23 = .ok (.iconst 2, 1) := dk_5 (dk_at dksX0_stands_0 23 rfl rfl)
theorem dX0_stands_24 : decode cX0_stands 24 = .ok (.ireturn, 1) := dk_172 (dk_at dksX0_stands_1 0 rfl rfl)
theorem dX0_stands_25 : decode cX0_stands 25 = .ok (.astore_n 3, 1) := dk_78 (dk_at dksX0_stands_1 1 rfl rfl)
theorem dX0_stands_26 : decode cX0_stands 26 = .ok (.iconst 3, 1) := dk_6 (dk_at dksX0_stands_1 2 rfl rfl)
theorem dX0_stands_27 : decode cX0_stands 27 = .ok (.ireturn, 1) := dk_172 (dk_at dksX0_stands_1 3 rfl rfl)
theorem dX0_stands_28 : decode cX0_stands 28 = .ok (.iconst 0, 1) := dk_3 (dk_at dksX0_stands_1 4 rfl rfl)
theorem dX0_stands_29 : decode cX0_stands 29 = .ok (.ireturn, 1) := dk_172 (dk_at dksX0_stands_1 5 rfl rfl)
abbrev cX0_stack : ByteArray := method_26_code
def yX0_stack : MethodName := ⟨RX0, "stack", "(LNapkinDeeds;I[J)I"⟩
def dkwX0_stack_0 : List UInt8 := [44, 3, 42, 27, 182, 0, 89, 133, 80, 167, 0, 12, 78, 4, 172, 78, 5, 172, 78, 6, 172, 3, 172]
abbrev dktX0_stack_0 : List UInt8 := dkwX0_stack_0 ++ []
theorem dksX0_stack_0 : cX0_stack.data.toList.drop 0 = dktX0_stack_0 := by decide +kernel
theorem dX0_stack_0 : decode cX0_stack 0 = .ok (.aload_n 2, 1) := dk_44 (dk_at dksX0_stack_0 0 rfl rfl)
theorem dX0_stack_1 : decode cX0_stack 1 = .ok (.iconst 0, 1) := dk_3 (dk_at dksX0_stack_0 1 rfl rfl)
theorem dX0_stack_2 : decode cX0_stack 2 = .ok (.aload_n 0, 1) := dk_42 (dk_at dksX0_stack_0 2 rfl rfl)
theorem dX0_stack_3 : decode cX0_stack 3 = .ok (.iload_n 1, 1) := dk_27 (dk_at dksX0_stack_0 3 rfl rfl)
theorem dX0_stack_4 : decode cX0_stack 4 = .ok (.invokevirtual 89, 3) := dk_182 0 89 (dk_at dksX0_stack_0 4 rfl rfl)
theorem dX0_stack_7 : decode cX0_stack 7 = .ok (.i2l, 1) := dk_133 (dk_at dksX0_stack_0 7 rfl rfl)
theorem dX0_stack_8 : decode cX0_stack 8 = .ok (.lastore, 1) := dk_80 (dk_at dksX0_stack_0 8 rfl rfl)
theorem dX0_stack_9 : decode cX0_stack 9 = .ok (.goto 12, 3) := dk_167 0 12 (dk_at dksX0_stack_0 9 rfl rfl)
theorem dX0_stack_12 : decode cX0_stack 12 = .ok (.astore_n 3, 1) := dk_78 (dk_at dksX0_stack_0 12 rfl rfl)
theorem dX0_stack_13 : decode cX0_stack 13 = .ok (.iconst 1, 1) := dk_4 (dk_at dksX0_stack_0 13 rfl rfl)
theorem dX0_stack_14 : decode cX0_stack 14 = .ok (.ireturn, 1) := dk_172 (dk_at dksX0_stack_0 14 rfl rfl)
theorem dX0_stack_15 : decode cX0_stack 15 = .ok (.astore_n 3, 1) := dk_78 (dk_at dksX0_stack_0 15 rfl rfl)
theorem dX0_stack_16 : decode cX0_stack 16 = .ok (.iconst 2, 1) := dk_5 (dk_at dksX0_stack_0 16 rfl rfl)
theorem dX0_stack_17 : decode cX0_stack 17 = .ok (.ireturn, 1) := dk_172 (dk_at dksX0_stack_0 17 rfl rfl)
theorem dX0_stack_18 : decode cX0_stack 18 = .ok (.astore_n 3, 1) := dk_78 (dk_at dksX0_stack_0 18 rfl rfl)
theorem dX0_stack_19 : decode cX0_stack 19 = .ok (.iconst 3, 1) := dk_6 (dk_at dksX0_stack_0 19 rfl rfl)
theorem dX0_stack_20 : decode cX0_stack 20 = .ok (.ireturn, 1) := dk_172 (dk_at dksX0_stack_0 20 rfl rfl)
theorem dX0_stack_21 : decode cX0_stack 21 = .ok (.iconst 0, 1) := dk_3 (dk_at dksX0_stack_0 21 rfl rfl)
theorem dX0_stack_22 : decode cX0_stack 22 = .ok (.ireturn, 1) := dk_172 (dk_at dksX0_stack_0 22 rfl rfl)
abbrev cX0_made : ByteArray := method_27_code
def yX0_made : MethodName := ⟨RX0, "made", "(LNapkinDeeds;I[J)I"⟩
def dkwX0_made_0 : List UInt8 := [44, 3, 42, 27, 182, 0, 92, 133, 80, 167, 0, 12, 78, 4, 172, 78, 5, 172, 78, 6, 172, 3, 172]
abbrev dktX0_made_0 : List UInt8 := dkwX0_made_0 ++ []
theorem dksX0_made_0 : cX0_made.data.toList.drop 0 = dktX0_made_0 := by decide +kernel
theorem dX0_made_0 : decode cX0_made 0 = .ok (.aload_n 2, 1) := dk_44 (dk_at dksX0_made_0 0 rfl rfl)
theorem dX0_made_1 : decode cX0_made 1 = .ok (.iconst 0, 1) := dk_3 (dk_at dksX0_made_0 1 rfl rfl)
theorem dX0_made_2 : decode cX0_made 2 = .ok (.aload_n 0, 1) := dk_42 (dk_at dksX0_made_0 2 rfl rfl)
theorem dX0_made_3 : decode cX0_made 3 = .ok (.iload_n 1, 1) := dk_27 (dk_at dksX0_made_0 3 rfl rfl)
theorem dX0_made_4 : decode cX0_made 4 = .ok (.invokevirtual 92, 3) := dk_182 0 92 (dk_at dksX0_made_0 4 rfl rfl)
theorem dX0_made_7 : decode cX0_made 7 = .ok (.i2l, 1) := dk_133 (dk_at dksX0_made_0 7 rfl rfl)
theorem dX0_made_8 : decode cX0_made 8 = .ok (.lastore, 1) := dk_80 (dk_at dksX0_made_0 8 rfl rfl)
theorem dX0_made_9 : decode cX0_made 9 = .ok (.goto 12, 3) := dk_167 0 12 (dk_at dksX0_made_0 9 rfl rfl)
theorem dX0_made_12 : decode cX0_made 12 = .ok (.astore_n 3, 1) := dk_78 (dk_at dksX0_made_0 12 rfl rfl)
theorem dX0_made_13 : decode cX0_made 13 = .ok (.iconst 1, 1) := dk_4 (dk_at dksX0_made_0 13 rfl rfl)
theorem dX0_made_14 : decode cX0_made 14 = .ok (.ireturn, 1) := dk_172 (dk_at dksX0_made_0 14 rfl rfl)
theorem dX0_made_15 : decode cX0_made 15 = .ok (.astore_n 3, 1) := dk_78 (dk_at dksX0_made_0 15 rfl rfl)
theorem dX0_made_16 : decode cX0_made 16 = .ok (.iconst 2, 1) := dk_5 (dk_at dksX0_made_0 16 rfl rfl)
theorem dX0_made_17 : decode cX0_made 17 = .ok (.ireturn, 1) := dk_172 (dk_at dksX0_made_0 17 rfl rfl)
theorem dX0_made_18 : decode cX0_made 18 = .ok (.astore_n 3, 1) := dk_78 (dk_at dksX0_made_0 18 rfl rfl)
theorem dX0_made_19 : decode cX0_made 19 = .ok (.iconst 3, 1) := dk_6 (dk_at dksX0_made_0 19 rfl rfl)
theorem dX0_made_20 : decode cX0_made 20 = .ok (.ireturn, 1) := dk_172 (dk_at dksX0_made_0 20 rfl rfl)
theorem dX0_made_21 : decode cX0_made 21 = .ok (.iconst 0, 1) := dk_3 (dk_at dksX0_made_0 21 rfl rfl)
theorem dX0_made_22 : decode cX0_made 22 = .ok (.ireturn, 1) := dk_172 (dk_at dksX0_made_0 22 rfl rfl)
abbrev cX0_madeBy : ByteArray := method_28_code
def yX0_madeBy : MethodName := ⟨RX0, "madeBy", "(LNapkinDeeds;II[J)I"⟩
def dkwX0_madeBy_1 : List UInt8 := [172, 3, 172]
abbrev dktX0_madeBy_1 : List UInt8 := dkwX0_madeBy_1 ++ []
def dkwX0_madeBy_0 : List UInt8 := [45, 3, 42, 27, 28, 182, 0, 95, 133, 80, 167, 0, 15, 58, 4, 4, 172, 58, 4, 5, 172, 58, 4, 6]
abbrev dktX0_madeBy_0 : List UInt8 := dkwX0_madeBy_0 ++ dktX0_madeBy_1
theorem dksX0_madeBy_0 : cX0_madeBy.data.toList.drop 0 = dktX0_madeBy_0 := by decide +kernel
theorem dksX0_madeBy_1 : cX0_madeBy.data.toList.drop 24 = dktX0_madeBy_1 := dk_seg dksX0_madeBy_0 24 rfl rfl
theorem dX0_madeBy_0 : decode cX0_madeBy 0 = .ok (.aload_n 3, 1) := dk_45 (dk_at dksX0_madeBy_0 0 rfl rfl)
theorem dX0_madeBy_1 : decode cX0_madeBy 1 = .ok (.iconst 0, 1) := dk_3 (dk_at dksX0_madeBy_0 1 rfl rfl)
theorem dX0_madeBy_2 : decode cX0_madeBy 2 = .ok (.aload_n 0, 1) := dk_42 (dk_at dksX0_madeBy_0 2 rfl rfl)
theorem dX0_madeBy_3 : decode cX0_madeBy 3 = .ok (.iload_n 1, 1) := dk_27 (dk_at dksX0_madeBy_0 3 rfl rfl)
theorem dX0_madeBy_4 : decode cX0_madeBy 4 = .ok (.iload_n 2, 1) := dk_28 (dk_at dksX0_madeBy_0 4 rfl rfl)
theorem dX0_madeBy_5 : decode cX0_madeBy 5 = .ok (.invokevirtual 95, 3) := dk_182 0 95 (dk_at dksX0_madeBy_0 5 rfl rfl)
theorem dX0_madeBy_8 : decode cX0_madeBy 8 = .ok (.i2l, 1) := dk_133 (dk_at dksX0_madeBy_0 8 rfl rfl)
theorem dX0_madeBy_9 : decode cX0_madeBy 9 = .ok (.lastore, 1) := dk_80 (dk_at dksX0_madeBy_0 9 rfl rfl)
theorem dX0_madeBy_10 : decode cX0_madeBy 10 = .ok (.goto 15, 3) := dk_167 0 15 (dk_at dksX0_madeBy_0 10 rfl rfl)
theorem dX0_madeBy_13 : decode cX0_madeBy 13 = .ok (.astore 4, 2) := dk_58 4 (dk_at dksX0_madeBy_0 13 rfl rfl)
theorem dX0_madeBy_15 : decode cX0_madeBy 15 = .ok (.iconst 1, 1) := dk_4 (dk_at dksX0_madeBy_0 15 rfl rfl)
theorem dX0_madeBy_16 : decode cX0_madeBy 16 = .ok (.ireturn, 1) := dk_172 (dk_at dksX0_madeBy_0 16 rfl rfl)
theorem dX0_madeBy_17 : decode cX0_madeBy 17 = .ok (.astore 4, 2) := dk_58 4 (dk_at dksX0_madeBy_0 17 rfl rfl)
theorem dX0_madeBy_19 : decode cX0_madeBy 19 = .ok (.iconst 2, 1) := dk_5 (dk_at dksX0_madeBy_0 19 rfl rfl)
theorem dX0_madeBy_20 : decode cX0_madeBy 20 = .ok (.ireturn, 1) := dk_172 (dk_at dksX0_madeBy_0 20 rfl rfl)
theorem dX0_madeBy_21 : decode cX0_madeBy 21 = .ok (.astore 4, 2) := dk_58 4 (dk_at dksX0_madeBy_0 21 rfl rfl)
theorem dX0_madeBy_23 : decode cX0_madeBy 23 = .ok (.iconst 3, 1) := dk_6 (dk_at dksX0_madeBy_0 23 rfl rfl)
theorem dX0_madeBy_24 : decode cX0_madeBy 24 = .ok (.ireturn, 1) := dk_172 (dk_at dksX0_madeBy_1 0 rfl rfl)
theorem dX0_madeBy_25 : decode cX0_madeBy 25 = .ok (.iconst 0, 1) := dk_3 (dk_at dksX0_madeBy_1 1 rfl rfl)
theorem dX0_madeBy_26 : decode cX0_madeBy 26 = .ok (.ireturn, 1) := dk_172 (dk_at dksX0_madeBy_1 2 rfl rfl)
abbrev cX0_fairest : ByteArray := method_29_code
def yX0_fairest : MethodName := ⟨RX0, "fairest", "(LNapkinDeeds;II[J)I"⟩
def dkwX0_fairest_0 : List UInt8 := [45, 3, 42, 27, 28, 182, 0, 98, 133, 80, 167, 0, 7, 58, 4, 4, 172, 3, 172]
abbrev dktX0_fairest_0 : List UInt8 := dkwX0_fairest_0 ++ []
theorem dksX0_fairest_0 : cX0_fairest.data.toList.drop 0 = dktX0_fairest_0 := by decide +kernel
theorem dX0_fairest_0 : decode cX0_fairest 0 = .ok (.aload_n 3, 1) := dk_45 (dk_at dksX0_fairest_0 0 rfl rfl)
theorem dX0_fairest_1 : decode cX0_fairest 1 = .ok (.iconst 0, 1) := dk_3 (dk_at dksX0_fairest_0 1 rfl rfl)
theorem dX0_fairest_2 : decode cX0_fairest 2 = .ok (.aload_n 0, 1) := dk_42 (dk_at dksX0_fairest_0 2 rfl rfl)
theorem dX0_fairest_3 : decode cX0_fairest 3 = .ok (.iload_n 1, 1) := dk_27 (dk_at dksX0_fairest_0 3 rfl rfl)
theorem dX0_fairest_4 : decode cX0_fairest 4 = .ok (.iload_n 2, 1) := dk_28 (dk_at dksX0_fairest_0 4 rfl rfl)
theorem dX0_fairest_5 : decode cX0_fairest 5 = .ok (.invokevirtual 98, 3) := dk_182 0 98 (dk_at dksX0_fairest_0 5 rfl rfl)
theorem dX0_fairest_8 : decode cX0_fairest 8 = .ok (.i2l, 1) := dk_133 (dk_at dksX0_fairest_0 8 rfl rfl)
theorem dX0_fairest_9 : decode cX0_fairest 9 = .ok (.lastore, 1) := dk_80 (dk_at dksX0_fairest_0 9 rfl rfl)
theorem dX0_fairest_10 : decode cX0_fairest 10 = .ok (.goto 7, 3) := dk_167 0 7 (dk_at dksX0_fairest_0 10 rfl rfl)
theorem dX0_fairest_13 : decode cX0_fairest 13 = .ok (.astore 4, 2) := dk_58 4 (dk_at dksX0_fairest_0 13 rfl rfl)
theorem dX0_fairest_15 : decode cX0_fairest 15 = .ok (.iconst 1, 1) := dk_4 (dk_at dksX0_fairest_0 15 rfl rfl)
theorem dX0_fairest_16 : decode cX0_fairest 16 = .ok (.ireturn, 1) := dk_172 (dk_at dksX0_fairest_0 16 rfl rfl)
theorem dX0_fairest_17 : decode cX0_fairest 17 = .ok (.iconst 0, 1) := dk_3 (dk_at dksX0_fairest_0 17 rfl rfl)
theorem dX0_fairest_18 : decode cX0_fairest 18 = .ok (.ireturn, 1) := dk_172 (dk_at dksX0_fairest_0 18 rfl rfl)
abbrev cX0_better : ByteArray := method_30_code
def yX0_better : MethodName := ⟨RX0, "better", "(LNapkinDeeds;I[J)I"⟩
def dkwX0_better_0 : List UInt8 := [44, 3, 42, 27, 182, 0, 101, 133, 80, 167, 0, 6, 78, 4, 172, 3, 172]
abbrev dktX0_better_0 : List UInt8 := dkwX0_better_0 ++ []
theorem dksX0_better_0 : cX0_better.data.toList.drop 0 = dktX0_better_0 := by decide +kernel
theorem dX0_better_0 : decode cX0_better 0 = .ok (.aload_n 2, 1) := dk_44 (dk_at dksX0_better_0 0 rfl rfl)
theorem dX0_better_1 : decode cX0_better 1 = .ok (.iconst 0, 1) := dk_3 (dk_at dksX0_better_0 1 rfl rfl)
theorem dX0_better_2 : decode cX0_better 2 = .ok (.aload_n 0, 1) := dk_42 (dk_at dksX0_better_0 2 rfl rfl)
theorem dX0_better_3 : decode cX0_better 3 = .ok (.iload_n 1, 1) := dk_27 (dk_at dksX0_better_0 3 rfl rfl)
theorem dX0_better_4 : decode cX0_better 4 = .ok (.invokevirtual 101, 3) := dk_182 0 101 (dk_at dksX0_better_0 4 rfl rfl)
theorem dX0_better_7 : decode cX0_better 7 = .ok (.i2l, 1) := dk_133 (dk_at dksX0_better_0 7 rfl rfl)
theorem dX0_better_8 : decode cX0_better 8 = .ok (.lastore, 1) := dk_80 (dk_at dksX0_better_0 8 rfl rfl)
theorem dX0_better_9 : decode cX0_better 9 = .ok (.goto 6, 3) := dk_167 0 6 (dk_at dksX0_better_0 9 rfl rfl)
theorem dX0_better_12 : decode cX0_better 12 = .ok (.astore_n 3, 1) := dk_78 (dk_at dksX0_better_0 12 rfl rfl)
theorem dX0_better_13 : decode cX0_better 13 = .ok (.iconst 1, 1) := dk_4 (dk_at dksX0_better_0 13 rfl rfl)
theorem dX0_better_14 : decode cX0_better 14 = .ok (.ireturn, 1) := dk_172 (dk_at dksX0_better_0 14 rfl rfl)
theorem dX0_better_15 : decode cX0_better 15 = .ok (.iconst 0, 1) := dk_3 (dk_at dksX0_better_0 15 rfl rfl)
theorem dX0_better_16 : decode cX0_better 16 = .ok (.ireturn, 1) := dk_172 (dk_at dksX0_better_0 16 rfl rfl)
abbrev cX0_keenest : ByteArray := method_31_code
def yX0_keenest : MethodName := ⟨RX0, "keenest", "(LNapkinDeeds;I[J)I"⟩
def dkwX0_keenest_0 : List UInt8 := [44, 3, 42, 27, 182, 0, 104, 133, 80, 167, 0, 6, 78, 4, 172, 3, 172]
abbrev dktX0_keenest_0 : List UInt8 := dkwX0_keenest_0 ++ []
theorem dksX0_keenest_0 : cX0_keenest.data.toList.drop 0 = dktX0_keenest_0 := by decide +kernel
theorem dX0_keenest_0 : decode cX0_keenest 0 = .ok (.aload_n 2, 1) := dk_44 (dk_at dksX0_keenest_0 0 rfl rfl)
theorem dX0_keenest_1 : decode cX0_keenest 1 = .ok (.iconst 0, 1) := dk_3 (dk_at dksX0_keenest_0 1 rfl rfl)
theorem dX0_keenest_2 : decode cX0_keenest 2 = .ok (.aload_n 0, 1) := dk_42 (dk_at dksX0_keenest_0 2 rfl rfl)
theorem dX0_keenest_3 : decode cX0_keenest 3 = .ok (.iload_n 1, 1) := dk_27 (dk_at dksX0_keenest_0 3 rfl rfl)
theorem dX0_keenest_4 : decode cX0_keenest 4 = .ok (.invokevirtual 104, 3) := dk_182 0 104 (dk_at dksX0_keenest_0 4 rfl rfl)
theorem dX0_keenest_7 : decode cX0_keenest 7 = .ok (.i2l, 1) := dk_133 (dk_at dksX0_keenest_0 7 rfl rfl)
theorem dX0_keenest_8 : decode cX0_keenest 8 = .ok (.lastore, 1) := dk_80 (dk_at dksX0_keenest_0 8 rfl rfl)
theorem dX0_keenest_9 : decode cX0_keenest 9 = .ok (.goto 6, 3) := dk_167 0 6 (dk_at dksX0_keenest_0 9 rfl rfl)
theorem dX0_keenest_12 : decode cX0_keenest 12 = .ok (.astore_n 3, 1) := dk_78 (dk_at dksX0_keenest_0 12 rfl rfl)
theorem dX0_keenest_13 : decode cX0_keenest 13 = .ok (.iconst 1, 1) := dk_4 (dk_at dksX0_keenest_0 13 rfl rfl)
theorem dX0_keenest_14 : decode cX0_keenest 14 = .ok (.ireturn, 1) := dk_172 (dk_at dksX0_keenest_0 14 rfl rfl)
theorem dX0_keenest_15 : decode cX0_keenest 15 = .ok (.iconst 0, 1) := dk_3 (dk_at dksX0_keenest_0 15 rfl rfl)
theorem dX0_keenest_16 : decode cX0_keenest 16 = .ok (.ireturn, 1) := dk_172 (dk_at dksX0_keenest_0 16 rfl rfl)
abbrev cX0_seen : ByteArray := method_32_code
def yX0_seen : MethodName := ⟨RX0, "seen", "(LNapkinDeeds;II[J)I"⟩
def dkwX0_seen_1 : List UInt8 := [172, 3, 172]
abbrev dktX0_seen_1 : List UInt8 := dkwX0_seen_1 ++ []
def dkwX0_seen_0 : List UInt8 := [45, 3, 42, 27, 28, 182, 0, 107, 133, 80, 167, 0, 15, 58, 4, 4, 172, 58, 4, 5, 172, 58, 4, 6]
abbrev dktX0_seen_0 : List UInt8 := dkwX0_seen_0 ++ dktX0_seen_1
theorem dksX0_seen_0 : cX0_seen.data.toList.drop 0 = dktX0_seen_0 := by decide +kernel
theorem dksX0_seen_1 : cX0_seen.data.toList.drop 24 = dktX0_seen_1 := dk_seg dksX0_seen_0 24 rfl rfl
theorem dX0_seen_0 : decode cX0_seen 0 = .ok (.aload_n 3, 1) := dk_45 (dk_at dksX0_seen_0 0 rfl rfl)
theorem dX0_seen_1 : decode cX0_seen 1 = .ok (.iconst 0, 1) := dk_3 (dk_at dksX0_seen_0 1 rfl rfl)
theorem dX0_seen_2 : decode cX0_seen 2 = .ok (.aload_n 0, 1) := dk_42 (dk_at dksX0_seen_0 2 rfl rfl)
theorem dX0_seen_3 : decode cX0_seen 3 = .ok (.iload_n 1, 1) := dk_27 (dk_at dksX0_seen_0 3 rfl rfl)
theorem dX0_seen_4 : decode cX0_seen 4 = .ok (.iload_n 2, 1) := dk_28 (dk_at dksX0_seen_0 4 rfl rfl)
theorem dX0_seen_5 : decode cX0_seen 5 = .ok (.invokevirtual 107, 3) := dk_182 0 107 (dk_at dksX0_seen_0 5 rfl rfl)
theorem dX0_seen_8 : decode cX0_seen 8 = .ok (.i2l, 1) := dk_133 (dk_at dksX0_seen_0 8 rfl rfl)
theorem dX0_seen_9 : decode cX0_seen 9 = .ok (.lastore, 1) := dk_80 (dk_at dksX0_seen_0 9 rfl rfl)
theorem dX0_seen_10 : decode cX0_seen 10 = .ok (.goto 15, 3) := dk_167 0 15 (dk_at dksX0_seen_0 10 rfl rfl)
theorem dX0_seen_13 : decode cX0_seen 13 = .ok (.astore 4, 2) := dk_58 4 (dk_at dksX0_seen_0 13 rfl rfl)
theorem dX0_seen_15 : decode cX0_seen 15 = .ok (.iconst 1, 1) := dk_4 (dk_at dksX0_seen_0 15 rfl rfl)
theorem dX0_seen_16 : decode cX0_seen 16 = .ok (.ireturn, 1) := dk_172 (dk_at dksX0_seen_0 16 rfl rfl)
theorem dX0_seen_17 : decode cX0_seen 17 = .ok (.astore 4, 2) := dk_58 4 (dk_at dksX0_seen_0 17 rfl rfl)
theorem dX0_seen_19 : decode cX0_seen 19 = .ok (.iconst 2, 1) := dk_5 (dk_at dksX0_seen_0 19 rfl rfl)
theorem dX0_seen_20 : decode cX0_seen 20 = .ok (.ireturn, 1) := dk_172 (dk_at dksX0_seen_0 20 rfl rfl)
theorem dX0_seen_21 : decode cX0_seen 21 = .ok (.astore 4, 2) := dk_58 4 (dk_at dksX0_seen_0 21 rfl rfl)
theorem dX0_seen_23 : decode cX0_seen 23 = .ok (.iconst 3, 1) := dk_6 (dk_at dksX0_seen_0 23 rfl rfl)
theorem dX0_seen_24 : decode cX0_seen 24 = .ok (.ireturn, 1) := dk_172 (dk_at dksX0_seen_1 0 rfl rfl)
theorem dX0_seen_25 : decode cX0_seen 25 = .ok (.iconst 0, 1) := dk_3 (dk_at dksX0_seen_1 1 rfl rfl)
theorem dX0_seen_26 : decode cX0_seen 26 = .ok (.ireturn, 1) := dk_172 (dk_at dksX0_seen_1 2 rfl rfl)
abbrev cX0_sure : ByteArray := method_33_code
def yX0_sure : MethodName := ⟨RX0, "sure", "(LNapkinDeeds;II[J)I"⟩
def dkwX0_sure_1 : List UInt8 := [172, 3, 172]
abbrev dktX0_sure_1 : List UInt8 := dkwX0_sure_1 ++ []
def dkwX0_sure_0 : List UInt8 := [45, 3, 42, 27, 28, 182, 0, 110, 133, 80, 167, 0, 15, 58, 4, 4, 172, 58, 4, 5, 172, 58, 4, 6]
abbrev dktX0_sure_0 : List UInt8 := dkwX0_sure_0 ++ dktX0_sure_1
theorem dksX0_sure_0 : cX0_sure.data.toList.drop 0 = dktX0_sure_0 := by decide +kernel
theorem dksX0_sure_1 : cX0_sure.data.toList.drop 24 = dktX0_sure_1 := dk_seg dksX0_sure_0 24 rfl rfl
theorem dX0_sure_0 : decode cX0_sure 0 = .ok (.aload_n 3, 1) := dk_45 (dk_at dksX0_sure_0 0 rfl rfl)
theorem dX0_sure_1 : decode cX0_sure 1 = .ok (.iconst 0, 1) := dk_3 (dk_at dksX0_sure_0 1 rfl rfl)
theorem dX0_sure_2 : decode cX0_sure 2 = .ok (.aload_n 0, 1) := dk_42 (dk_at dksX0_sure_0 2 rfl rfl)
theorem dX0_sure_3 : decode cX0_sure 3 = .ok (.iload_n 1, 1) := dk_27 (dk_at dksX0_sure_0 3 rfl rfl)
theorem dX0_sure_4 : decode cX0_sure 4 = .ok (.iload_n 2, 1) := dk_28 (dk_at dksX0_sure_0 4 rfl rfl)
theorem dX0_sure_5 : decode cX0_sure 5 = .ok (.invokevirtual 110, 3) := dk_182 0 110 (dk_at dksX0_sure_0 5 rfl rfl)
theorem dX0_sure_8 : decode cX0_sure 8 = .ok (.i2l, 1) := dk_133 (dk_at dksX0_sure_0 8 rfl rfl)
theorem dX0_sure_9 : decode cX0_sure 9 = .ok (.lastore, 1) := dk_80 (dk_at dksX0_sure_0 9 rfl rfl)
theorem dX0_sure_10 : decode cX0_sure 10 = .ok (.goto 15, 3) := dk_167 0 15 (dk_at dksX0_sure_0 10 rfl rfl)
theorem dX0_sure_13 : decode cX0_sure 13 = .ok (.astore 4, 2) := dk_58 4 (dk_at dksX0_sure_0 13 rfl rfl)
theorem dX0_sure_15 : decode cX0_sure 15 = .ok (.iconst 1, 1) := dk_4 (dk_at dksX0_sure_0 15 rfl rfl)
theorem dX0_sure_16 : decode cX0_sure 16 = .ok (.ireturn, 1) := dk_172 (dk_at dksX0_sure_0 16 rfl rfl)
theorem dX0_sure_17 : decode cX0_sure 17 = .ok (.astore 4, 2) := dk_58 4 (dk_at dksX0_sure_0 17 rfl rfl)
theorem dX0_sure_19 : decode cX0_sure 19 = .ok (.iconst 2, 1) := dk_5 (dk_at dksX0_sure_0 19 rfl rfl)
theorem dX0_sure_20 : decode cX0_sure 20 = .ok (.ireturn, 1) := dk_172 (dk_at dksX0_sure_0 20 rfl rfl)
theorem dX0_sure_21 : decode cX0_sure 21 = .ok (.astore 4, 2) := dk_58 4 (dk_at dksX0_sure_0 21 rfl rfl)
theorem dX0_sure_23 : decode cX0_sure 23 = .ok (.iconst 3, 1) := dk_6 (dk_at dksX0_sure_0 23 rfl rfl)
theorem dX0_sure_24 : decode cX0_sure 24 = .ok (.ireturn, 1) := dk_172 (dk_at dksX0_sure_1 0 rfl rfl)
theorem dX0_sure_25 : decode cX0_sure 25 = .ok (.iconst 0, 1) := dk_3 (dk_at dksX0_sure_1 1 rfl rfl)
theorem dX0_sure_26 : decode cX0_sure 26 = .ok (.ireturn, 1) := dk_172 (dk_at dksX0_sure_1 2 rfl rfl)
abbrev cX0_look : ByteArray := method_34_code
def yX0_look : MethodName := ⟨RX0, "look", "(LNapkinDeeds;II[J)I"⟩
def dkwX0_look_1 : List UInt8 := [172, 3, 172]
abbrev dktX0_look_1 : List UInt8 := dkwX0_look_1 ++ []
def dkwX0_look_0 : List UInt8 := [45, 3, 42, 27, 28, 182, 0, 113, 133, 80, 167, 0, 15, 58, 4, 4, 172, 58, 4, 5, 172, 58, 4, 6]
abbrev dktX0_look_0 : List UInt8 := dkwX0_look_0 ++ dktX0_look_1
theorem dksX0_look_0 : cX0_look.data.toList.drop 0 = dktX0_look_0 := by decide +kernel
theorem dksX0_look_1 : cX0_look.data.toList.drop 24 = dktX0_look_1 := dk_seg dksX0_look_0 24 rfl rfl
theorem dX0_look_0 : decode cX0_look 0 = .ok (.aload_n 3, 1) := dk_45 (dk_at dksX0_look_0 0 rfl rfl)
theorem dX0_look_1 : decode cX0_look 1 = .ok (.iconst 0, 1) := dk_3 (dk_at dksX0_look_0 1 rfl rfl)
theorem dX0_look_2 : decode cX0_look 2 = .ok (.aload_n 0, 1) := dk_42 (dk_at dksX0_look_0 2 rfl rfl)
theorem dX0_look_3 : decode cX0_look 3 = .ok (.iload_n 1, 1) := dk_27 (dk_at dksX0_look_0 3 rfl rfl)
theorem dX0_look_4 : decode cX0_look 4 = .ok (.iload_n 2, 1) := dk_28 (dk_at dksX0_look_0 4 rfl rfl)
theorem dX0_look_5 : decode cX0_look 5 = .ok (.invokevirtual 113, 3) := dk_182 0 113 (dk_at dksX0_look_0 5 rfl rfl)
theorem dX0_look_8 : decode cX0_look 8 = .ok (.i2l, 1) := dk_133 (dk_at dksX0_look_0 8 rfl rfl)
theorem dX0_look_9 : decode cX0_look 9 = .ok (.lastore, 1) := dk_80 (dk_at dksX0_look_0 9 rfl rfl)
theorem dX0_look_10 : decode cX0_look 10 = .ok (.goto 15, 3) := dk_167 0 15 (dk_at dksX0_look_0 10 rfl rfl)
theorem dX0_look_13 : decode cX0_look 13 = .ok (.astore 4, 2) := dk_58 4 (dk_at dksX0_look_0 13 rfl rfl)
theorem dX0_look_15 : decode cX0_look 15 = .ok (.iconst 1, 1) := dk_4 (dk_at dksX0_look_0 15 rfl rfl)
theorem dX0_look_16 : decode cX0_look 16 = .ok (.ireturn, 1) := dk_172 (dk_at dksX0_look_0 16 rfl rfl)
theorem dX0_look_17 : decode cX0_look 17 = .ok (.astore 4, 2) := dk_58 4 (dk_at dksX0_look_0 17 rfl rfl)
theorem dX0_look_19 : decode cX0_look 19 = .ok (.iconst 2, 1) := dk_5 (dk_at dksX0_look_0 19 rfl rfl)
theorem dX0_look_20 : decode cX0_look 20 = .ok (.ireturn, 1) := dk_172 (dk_at dksX0_look_0 20 rfl rfl)
theorem dX0_look_21 : decode cX0_look 21 = .ok (.astore 4, 2) := dk_58 4 (dk_at dksX0_look_0 21 rfl rfl)
theorem dX0_look_23 : decode cX0_look 23 = .ok (.iconst 3, 1) := dk_6 (dk_at dksX0_look_0 23 rfl rfl)
theorem dX0_look_24 : decode cX0_look 24 = .ok (.ireturn, 1) := dk_172 (dk_at dksX0_look_1 0 rfl rfl)
theorem dX0_look_25 : decode cX0_look 25 = .ok (.iconst 0, 1) := dk_3 (dk_at dksX0_look_1 1 rfl rfl)
theorem dX0_look_26 : decode cX0_look 26 = .ok (.ireturn, 1) := dk_172 (dk_at dksX0_look_1 2 rfl rfl)
abbrev cX0_tray : ByteArray := method_35_code
def yX0_tray : MethodName := ⟨RX0, "tray", "(LNapkinDeeds;III)I"⟩
def dkwX0_tray_0 : List UInt8 := [42, 27, 28, 29, 182, 0, 116, 167, 0, 11, 58, 4, 4, 172, 58, 4, 5, 172, 3, 172]
abbrev dktX0_tray_0 : List UInt8 := dkwX0_tray_0 ++ []
theorem dksX0_tray_0 : cX0_tray.data.toList.drop 0 = dktX0_tray_0 := by decide +kernel
theorem dX0_tray_0 : decode cX0_tray 0 = .ok (.aload_n 0, 1) := dk_42 (dk_at dksX0_tray_0 0 rfl rfl)
theorem dX0_tray_1 : decode cX0_tray 1 = .ok (.iload_n 1, 1) := dk_27 (dk_at dksX0_tray_0 1 rfl rfl)
theorem dX0_tray_2 : decode cX0_tray 2 = .ok (.iload_n 2, 1) := dk_28 (dk_at dksX0_tray_0 2 rfl rfl)
theorem dX0_tray_3 : decode cX0_tray 3 = .ok (.iload_n 3, 1) := dk_29 (dk_at dksX0_tray_0 3 rfl rfl)
theorem dX0_tray_4 : decode cX0_tray 4 = .ok (.invokevirtual 116, 3) := dk_182 0 116 (dk_at dksX0_tray_0 4 rfl rfl)
theorem dX0_tray_7 : decode cX0_tray 7 = .ok (.goto 11, 3) := dk_167 0 11 (dk_at dksX0_tray_0 7 rfl rfl)
theorem dX0_tray_10 : decode cX0_tray 10 = .ok (.astore 4, 2) := dk_58 4 (dk_at dksX0_tray_0 10 rfl rfl)
theorem dX0_tray_12 : decode cX0_tray 12 = .ok (.iconst 1, 1) := dk_4 (dk_at dksX0_tray_0 12 rfl rfl)
theorem dX0_tray_13 : decode cX0_tray 13 = .ok (.ireturn, 1) := dk_172 (dk_at dksX0_tray_0 13 rfl rfl)
theorem dX0_tray_14 : decode cX0_tray 14 = .ok (.astore 4, 2) := dk_58 4 (dk_at dksX0_tray_0 14 rfl rfl)
theorem dX0_tray_16 : decode cX0_tray 16 = .ok (.iconst 2, 1) := dk_5 (dk_at dksX0_tray_0 16 rfl rfl)
theorem dX0_tray_17 : decode cX0_tray 17 = .ok (.ireturn, 1) := dk_172 (dk_at dksX0_tray_0 17 rfl rfl)
theorem dX0_tray_18 : decode cX0_tray 18 = .ok (.iconst 0, 1) := dk_3 (dk_at dksX0_tray_0 18 rfl rfl)
theorem dX0_tray_19 : decode cX0_tray 19 = .ok (.ireturn, 1) := dk_172 (dk_at dksX0_tray_0 19 rfl rfl)
abbrev cX0_write : ByteArray := method_36_code
def yX0_write : MethodName := ⟨RX0, "write", "(LNapkinDeeds;IIJ[J)I"⟩
def dkwX0_write_1 : List UInt8 := [6, 172, 3, 172]
abbrev dktX0_write_1 : List UInt8 := dkwX0_write_1 ++ []
def dkwX0_write_0 : List UInt8 := [25, 5, 3, 42, 27, 28, 33, 182, 0, 120, 80, 167, 0, 15, 58, 6, 4, 172, 58, 6, 5, 172, 58, 6]
abbrev dktX0_write_0 : List UInt8 := dkwX0_write_0 ++ dktX0_write_1
theorem dksX0_write_0 : cX0_write.data.toList.drop 0 = dktX0_write_0 := by decide +kernel
theorem dksX0_write_1 : cX0_write.data.toList.drop 24 = dktX0_write_1 := dk_seg dksX0_write_0 24 rfl rfl
theorem dX0_write_0 : decode cX0_write 0 = .ok (.aload 5, 2) := dk_25 5 (dk_at dksX0_write_0 0 rfl rfl)
theorem dX0_write_2 : decode cX0_write 2 = .ok (.iconst 0, 1) := dk_3 (dk_at dksX0_write_0 2 rfl rfl)
theorem dX0_write_3 : decode cX0_write 3 = .ok (.aload_n 0, 1) := dk_42 (dk_at dksX0_write_0 3 rfl rfl)
theorem dX0_write_4 : decode cX0_write 4 = .ok (.iload_n 1, 1) := dk_27 (dk_at dksX0_write_0 4 rfl rfl)
theorem dX0_write_5 : decode cX0_write 5 = .ok (.iload_n 2, 1) := dk_28 (dk_at dksX0_write_0 5 rfl rfl)
theorem dX0_write_6 : decode cX0_write 6 = .ok (.lload_n 3, 1) := dk_33 (dk_at dksX0_write_0 6 rfl rfl)
theorem dX0_write_7 : decode cX0_write 7 = .ok (.invokevirtual 120, 3) := dk_182 0 120 (dk_at dksX0_write_0 7 rfl rfl)
theorem dX0_write_10 : decode cX0_write 10 = .ok (.lastore, 1) := dk_80 (dk_at dksX0_write_0 10 rfl rfl)
theorem dX0_write_11 : decode cX0_write 11 = .ok (.goto 15, 3) := dk_167 0 15 (dk_at dksX0_write_0 11 rfl rfl)
theorem dX0_write_14 : decode cX0_write 14 = .ok (.astore 6, 2) := dk_58 6 (dk_at dksX0_write_0 14 rfl rfl)
theorem dX0_write_16 : decode cX0_write 16 = .ok (.iconst 1, 1) := dk_4 (dk_at dksX0_write_0 16 rfl rfl)
theorem dX0_write_17 : decode cX0_write 17 = .ok (.ireturn, 1) := dk_172 (dk_at dksX0_write_0 17 rfl rfl)
theorem dX0_write_18 : decode cX0_write 18 = .ok (.astore 6, 2) := dk_58 6 (dk_at dksX0_write_0 18 rfl rfl)
theorem dX0_write_20 : decode cX0_write 20 = .ok (.iconst 2, 1) := dk_5 (dk_at dksX0_write_0 20 rfl rfl)
theorem dX0_write_21 : decode cX0_write 21 = .ok (.ireturn, 1) := dk_172 (dk_at dksX0_write_0 21 rfl rfl)
theorem dX0_write_22 : decode cX0_write 22 = .ok (.astore 6, 2) := dk_58 6 (dk_at dksX0_write_0 22 rfl rfl)
theorem dX0_write_24 : decode cX0_write 24 = .ok (.iconst 3, 1) := dk_6 (dk_at dksX0_write_1 0 rfl rfl)
theorem dX0_write_25 : decode cX0_write 25 = .ok (.ireturn, 1) := dk_172 (dk_at dksX0_write_1 1 rfl rfl)
theorem dX0_write_26 : decode cX0_write 26 = .ok (.iconst 0, 1) := dk_3 (dk_at dksX0_write_1 2 rfl rfl)
theorem dX0_write_27 : decode cX0_write 27 = .ok (.ireturn, 1) := dk_172 (dk_at dksX0_write_1 3 rfl rfl)
abbrev cX0_copy : ByteArray := method_37_code
def yX0_copy : MethodName := ⟨RX0, "copy", "(LNapkinDeeds;I[J)I"⟩
def dkwX0_copy_0 : List UInt8 := [44, 3, 42, 27, 182, 0, 126, 133, 80, 167, 0, 9, 78, 4, 172, 78, 5, 172, 3, 172]
abbrev dktX0_copy_0 : List UInt8 := dkwX0_copy_0 ++ []
theorem dksX0_copy_0 : cX0_copy.data.toList.drop 0 = dktX0_copy_0 := by decide +kernel
theorem dX0_copy_0 : decode cX0_copy 0 = .ok (.aload_n 2, 1) := dk_44 (dk_at dksX0_copy_0 0 rfl rfl)
theorem dX0_copy_1 : decode cX0_copy 1 = .ok (.iconst 0, 1) := dk_3 (dk_at dksX0_copy_0 1 rfl rfl)
theorem dX0_copy_2 : decode cX0_copy 2 = .ok (.aload_n 0, 1) := dk_42 (dk_at dksX0_copy_0 2 rfl rfl)
theorem dX0_copy_3 : decode cX0_copy 3 = .ok (.iload_n 1, 1) := dk_27 (dk_at dksX0_copy_0 3 rfl rfl)
theorem dX0_copy_4 : decode cX0_copy 4 = .ok (.invokevirtual 126, 3) := dk_182 0 126 (dk_at dksX0_copy_0 4 rfl rfl)
theorem dX0_copy_7 : decode cX0_copy 7 = .ok (.i2l, 1) := dk_133 (dk_at dksX0_copy_0 7 rfl rfl)
theorem dX0_copy_8 : decode cX0_copy 8 = .ok (.lastore, 1) := dk_80 (dk_at dksX0_copy_0 8 rfl rfl)
theorem dX0_copy_9 : decode cX0_copy 9 = .ok (.goto 9, 3) := dk_167 0 9 (dk_at dksX0_copy_0 9 rfl rfl)
theorem dX0_copy_12 : decode cX0_copy 12 = .ok (.astore_n 3, 1) := dk_78 (dk_at dksX0_copy_0 12 rfl rfl)
theorem dX0_copy_13 : decode cX0_copy 13 = .ok (.iconst 1, 1) := dk_4 (dk_at dksX0_copy_0 13 rfl rfl)
theorem dX0_copy_14 : decode cX0_copy 14 = .ok (.ireturn, 1) := dk_172 (dk_at dksX0_copy_0 14 rfl rfl)
theorem dX0_copy_15 : decode cX0_copy 15 = .ok (.astore_n 3, 1) := dk_78 (dk_at dksX0_copy_0 15 rfl rfl)
theorem dX0_copy_16 : decode cX0_copy 16 = .ok (.iconst 2, 1) := dk_5 (dk_at dksX0_copy_0 16 rfl rfl)
theorem dX0_copy_17 : decode cX0_copy 17 = .ok (.ireturn, 1) := dk_172 (dk_at dksX0_copy_0 17 rfl rfl)
theorem dX0_copy_18 : decode cX0_copy 18 = .ok (.iconst 0, 1) := dk_3 (dk_at dksX0_copy_0 18 rfl rfl)
theorem dX0_copy_19 : decode cX0_copy 19 = .ok (.ireturn, 1) := dk_172 (dk_at dksX0_copy_0 19 rfl rfl)
abbrev cX0_image : ByteArray := method_38_code
def yX0_image : MethodName := ⟨RX0, "image", "(LNapkinDeeds;I)I"⟩
def dkwX0_image_0 : List UInt8 := [42, 27, 182, 0, 129, 167, 0, 6, 77, 4, 172, 3, 172]
abbrev dktX0_image_0 : List UInt8 := dkwX0_image_0 ++ []
theorem dksX0_image_0 : cX0_image.data.toList.drop 0 = dktX0_image_0 := by decide +kernel
theorem dX0_image_0 : decode cX0_image 0 = .ok (.aload_n 0, 1) := dk_42 (dk_at dksX0_image_0 0 rfl rfl)
theorem dX0_image_1 : decode cX0_image 1 = .ok (.iload_n 1, 1) := dk_27 (dk_at dksX0_image_0 1 rfl rfl)
theorem dX0_image_2 : decode cX0_image 2 = .ok (.invokevirtual 129, 3) := dk_182 0 129 (dk_at dksX0_image_0 2 rfl rfl)
theorem dX0_image_5 : decode cX0_image 5 = .ok (.goto 6, 3) := dk_167 0 6 (dk_at dksX0_image_0 5 rfl rfl)
theorem dX0_image_8 : decode cX0_image 8 = .ok (.astore_n 2, 1) := dk_77 (dk_at dksX0_image_0 8 rfl rfl)
theorem dX0_image_9 : decode cX0_image 9 = .ok (.iconst 1, 1) := dk_4 (dk_at dksX0_image_0 9 rfl rfl)
theorem dX0_image_10 : decode cX0_image 10 = .ok (.ireturn, 1) := dk_172 (dk_at dksX0_image_0 10 rfl rfl)
theorem dX0_image_11 : decode cX0_image 11 = .ok (.iconst 0, 1) := dk_3 (dk_at dksX0_image_0 11 rfl rfl)
theorem dX0_image_12 : decode cX0_image 12 = .ok (.ireturn, 1) := dk_172 (dk_at dksX0_image_0 12 rfl rfl)
abbrev cX0_restore : ByteArray := method_39_code
def yX0_restore : MethodName := ⟨RX0, "restore", "(LNapkinDeeds;I)I"⟩
def dkwX0_restore_0 : List UInt8 := [42, 27, 182, 0, 133, 167, 0, 9, 77, 4, 172, 77, 5, 172, 3, 172]
abbrev dktX0_restore_0 : List UInt8 := dkwX0_restore_0 ++ []
theorem dksX0_restore_0 : cX0_restore.data.toList.drop 0 = dktX0_restore_0 := by decide +kernel
theorem dX0_restore_0 : decode cX0_restore 0 = .ok (.aload_n 0, 1) := dk_42 (dk_at dksX0_restore_0 0 rfl rfl)
theorem dX0_restore_1 : decode cX0_restore 1 = .ok (.iload_n 1, 1) := dk_27 (dk_at dksX0_restore_0 1 rfl rfl)
theorem dX0_restore_2 : decode cX0_restore 2 = .ok (.invokevirtual 133, 3) := dk_182 0 133 (dk_at dksX0_restore_0 2 rfl rfl)
theorem dX0_restore_5 : decode cX0_restore 5 = .ok (.goto 9, 3) := dk_167 0 9 (dk_at dksX0_restore_0 5 rfl rfl)
theorem dX0_restore_8 : decode cX0_restore 8 = .ok (.astore_n 2, 1) := dk_77 (dk_at dksX0_restore_0 8 rfl rfl)
theorem dX0_restore_9 : decode cX0_restore 9 = .ok (.iconst 1, 1) := dk_4 (dk_at dksX0_restore_0 9 rfl rfl)
theorem dX0_restore_10 : decode cX0_restore 10 = .ok (.ireturn, 1) := dk_172 (dk_at dksX0_restore_0 10 rfl rfl)
theorem dX0_restore_11 : decode cX0_restore 11 = .ok (.astore_n 2, 1) := dk_77 (dk_at dksX0_restore_0 11 rfl rfl)
theorem dX0_restore_12 : decode cX0_restore 12 = .ok (.iconst 2, 1) := dk_5 (dk_at dksX0_restore_0 12 rfl rfl)
theorem dX0_restore_13 : decode cX0_restore 13 = .ok (.ireturn, 1) := dk_172 (dk_at dksX0_restore_0 13 rfl rfl)
theorem dX0_restore_14 : decode cX0_restore 14 = .ok (.iconst 0, 1) := dk_3 (dk_at dksX0_restore_0 14 rfl rfl)
theorem dX0_restore_15 : decode cX0_restore 15 = .ok (.ireturn, 1) := dk_172 (dk_at dksX0_restore_0 15 rfl rfl)
theorem q148 : (Jvm.Cond.initialized "NapkinDeedsLaw") ∈ lw_all := lw_g (lw_at lw_m1 0 rfl) rfl
theorem q219 : (Jvm.Cond.classLink "NapkinDeedsLaw" (8 : Nat) "NapkinDeeds") ∈ lw_all := lw_g (lw_at lw_m1 71 rfl) rfl
theorem q221 : (Jvm.Cond.methodLink "NapkinDeedsLaw" (136 : Nat) ({ cls := "NapkinDeeds", name := "<init>", desc := "()V" } : Jvm.MethodName)) ∈ lw_all := lw_g (lw_at lw_m1 73 rfl) rfl
theorem q428 : (Jvm.Cond.methodLink "NapkinDeedsLaw" (140 : Nat) ({ cls := "NapkinDeeds", name := "feed", desc := "(IIIII)I" } : Jvm.MethodName)) ∈ lw_all := lw_g (lw_at lw_m2 40 rfl) rfl
theorem q436 : (Jvm.Cond.methodLink "NapkinDeedsLaw" (154 : Nat) ({ cls := "NapkinDeeds", name := "fault", desc := "(I)I" } : Jvm.MethodName)) ∈ lw_all := lw_g (lw_at lw_m2 48 rfl) rfl
theorem q440 : (Jvm.Cond.methodLink "NapkinDeedsLaw" (180 : Nat) ({ cls := "NapkinDeeds", name := "worth", desc := "()I" } : Jvm.MethodName)) ∈ lw_all := lw_g (lw_at lw_m2 52 rfl) rfl
theorem q573 : (Jvm.Cond.methodLink "NapkinDeedsLaw" (184 : Nat) ({ cls := "NapkinDeeds", name := "holds", desc := "()Z" } : Jvm.MethodName)) ∈ lw_all := lw_g (lw_at lw_m2 185 rfl) rfl
theorem q617 : (Jvm.Cond.methodLink "NapkinDeedsLaw" (192 : Nat) ({ cls := "NapkinDeeds", name := "fold", desc := "(II)I" } : Jvm.MethodName)) ∈ lw_all := lw_g (lw_at lw_m2 229 rfl) rfl
theorem q754 : (Jvm.Cond.methodLink "NapkinDeedsLaw" (237 : Nat) ({ cls := "NapkinDeeds", name := "step", desc := "()I" } : Jvm.MethodName)) ∈ lw_all := lw_g (lw_at lw_m3 126 rfl) rfl
theorem q1044 : (Jvm.Cond.methodLink "NapkinDeedsLaw" (244 : Nat) ({ cls := "NapkinDeeds", name := "stacks", desc := "()I" } : Jvm.MethodName)) ∈ lw_all := lw_g (lw_at lw_m4 176 rfl) rfl
theorem q1060 : (Jvm.Cond.methodLink "NapkinDeedsLaw" (251 : Nat) ({ cls := "NapkinDeeds", name := "simple", desc := "()I" } : Jvm.MethodName)) ∈ lw_all := lw_g (lw_at lw_m4 192 rfl) rfl
theorem q1499 : (Jvm.Cond.methodLink "NapkinDeedsLaw" (261 : Nat) ({ cls := "NapkinDeeds", name := "patterns", desc := "()I" } : Jvm.MethodName)) ∈ lw_all := lw_g (lw_at lw_m6 151 rfl) rfl
theorem q1517 : (Jvm.Cond.methodLink "NapkinDeedsLaw" (265 : Nat) ({ cls := "NapkinDeeds", name := "refuse", desc := "()I" } : Jvm.MethodName)) ∈ lw_all := lw_g (lw_at lw_m6 169 rfl) rfl
theorem q1522 : (Jvm.Cond.methodLink "NapkinDeedsLaw" (307 : Nat) ({ cls := "NapkinDeeds", name := "count", desc := "(I)I" } : Jvm.MethodName)) ∈ lw_all := lw_g (lw_at lw_m6 174 rfl) rfl
theorem q1526 : (Jvm.Cond.methodLink "NapkinDeedsLaw" (145 : Nat) ({ cls := "NapkinDeedsLaw", name := "napkin", desc := "(LNapkinDeeds;I[J)I" } : Jvm.MethodName)) ∈ lw_all := lw_g (lw_at lw_m6 178 rfl) rfl
theorem q1527 : (Jvm.Cond.static ({ cls := "NapkinDeedsLaw", name := "napkin", desc := "(LNapkinDeeds;I[J)I" } : Jvm.MethodName)) ∈ lw_all := lw_g (lw_at lw_m6 179 rfl) rfl
theorem q1528 : (Jvm.Cond.codeWith ({ cls := "NapkinDeedsLaw", name := "napkin", desc := "(LNapkinDeeds;I[J)I" } : Jvm.MethodName) method_3_code (4 : Nat) (Option.some Jvm.ClassFile.FieldType.int) [((0 : Nat), (9 : Nat), (12 : Nat), (13 : Nat))]) ∈ lw_all := lw_g (lw_at lw_m6 180 rfl) rfl
theorem q1529 : (Jvm.Cond.classLink "NapkinDeedsLaw" (13 : Nat) "java/lang/IllegalArgumentException") ∈ lw_all := lw_g (lw_at lw_m6 181 rfl) rfl
theorem q1530 : (Jvm.Cond.methodLink "NapkinDeedsLaw" (7 : Nat) ({ cls := "NapkinDeeds", name := "napkin", desc := "(I)I" } : Jvm.MethodName)) ∈ lw_all := lw_g (lw_at lw_m6 182 rfl) rfl
theorem q1928 : (Jvm.Cond.methodLink "NapkinDeedsLaw" (158 : Nat) ({ cls := "NapkinDeedsLaw", name := "cell", desc := "(LNapkinDeeds;II[J)I" } : Jvm.MethodName)) ∈ lw_all := lw_g (lw_at lw_m8 100 rfl) rfl
theorem q1929 : (Jvm.Cond.static ({ cls := "NapkinDeedsLaw", name := "cell", desc := "(LNapkinDeeds;II[J)I" } : Jvm.MethodName)) ∈ lw_all := lw_g (lw_at lw_m8 101 rfl) rfl
theorem q1930 : (Jvm.Cond.codeWith ({ cls := "NapkinDeedsLaw", name := "cell", desc := "(LNapkinDeeds;II[J)I" } : Jvm.MethodName) method_4_code (5 : Nat) (Option.some Jvm.ClassFile.FieldType.int) [((0 : Nat), (10 : Nat), (13 : Nat), (19 : Nat)), ((0 : Nat), (10 : Nat), (17 : Nat), (13 : Nat))]) ∈ lw_all := lw_g (lw_at lw_m8 102 rfl) rfl
theorem q1931 : (Jvm.Cond.classLink "NapkinDeedsLaw" (19 : Nat) "java/util/NoSuchElementException") ∈ lw_all := lw_g (lw_at lw_m8 103 rfl) rfl
theorem q1932 : (Jvm.Cond.methodLink "NapkinDeedsLaw" (15 : Nat) ({ cls := "NapkinDeeds", name := "cell", desc := "(II)I" } : Jvm.MethodName)) ∈ lw_all := lw_g (lw_at lw_m8 104 rfl) rfl
theorem q1963 : (Jvm.Cond.methodLink "NapkinDeedsLaw" (162 : Nat) ({ cls := "NapkinDeedsLaw", name := "high", desc := "(LNapkinDeeds;I[J)I" } : Jvm.MethodName)) ∈ lw_all := lw_g (lw_at lw_m8 135 rfl) rfl
theorem q1964 : (Jvm.Cond.static ({ cls := "NapkinDeedsLaw", name := "high", desc := "(LNapkinDeeds;I[J)I" } : Jvm.MethodName)) ∈ lw_all := lw_g (lw_at lw_m8 136 rfl) rfl
theorem q1965 : (Jvm.Cond.codeWith ({ cls := "NapkinDeedsLaw", name := "high", desc := "(LNapkinDeeds;I[J)I" } : Jvm.MethodName) method_5_code (4 : Nat) (Option.some Jvm.ClassFile.FieldType.int) [((0 : Nat), (9 : Nat), (12 : Nat), (19 : Nat))]) ∈ lw_all := lw_g (lw_at lw_m8 137 rfl) rfl
theorem q1966 : (Jvm.Cond.methodLink "NapkinDeedsLaw" (21 : Nat) ({ cls := "NapkinDeeds", name := "high", desc := "(I)I" } : Jvm.MethodName)) ∈ lw_all := lw_g (lw_at lw_m8 138 rfl) rfl
theorem q1974 : (Jvm.Cond.methodLink "NapkinDeedsLaw" (165 : Nat) ({ cls := "NapkinDeedsLaw", name := "layer", desc := "(LNapkinDeeds;II[J)I" } : Jvm.MethodName)) ∈ lw_all := lw_g (lw_at lw_m8 146 rfl) rfl
theorem q1975 : (Jvm.Cond.static ({ cls := "NapkinDeedsLaw", name := "layer", desc := "(LNapkinDeeds;II[J)I" } : Jvm.MethodName)) ∈ lw_all := lw_g (lw_at lw_m8 147 rfl) rfl
theorem q1976 : (Jvm.Cond.codeWith ({ cls := "NapkinDeedsLaw", name := "layer", desc := "(LNapkinDeeds;II[J)I" } : Jvm.MethodName) method_6_code (5 : Nat) (Option.some Jvm.ClassFile.FieldType.int) [((0 : Nat), (10 : Nat), (13 : Nat), (19 : Nat)), ((0 : Nat), (10 : Nat), (17 : Nat), (13 : Nat))]) ∈ lw_all := lw_g (lw_at lw_m8 148 rfl) rfl
theorem q1977 : (Jvm.Cond.methodLink "NapkinDeedsLaw" (24 : Nat) ({ cls := "NapkinDeeds", name := "layer", desc := "(II)I" } : Jvm.MethodName)) ∈ lw_all := lw_g (lw_at lw_m8 149 rfl) rfl
theorem q1981 : (Jvm.Cond.methodLink "NapkinDeedsLaw" (168 : Nat) ({ cls := "NapkinDeedsLaw", name := "above", desc := "(LNapkinDeeds;I[J)I" } : Jvm.MethodName)) ∈ lw_all := lw_g (lw_at lw_m8 153 rfl) rfl
theorem q1982 : (Jvm.Cond.static ({ cls := "NapkinDeedsLaw", name := "above", desc := "(LNapkinDeeds;I[J)I" } : Jvm.MethodName)) ∈ lw_all := lw_g (lw_at lw_m8 154 rfl) rfl
theorem q1983 : (Jvm.Cond.codeWith ({ cls := "NapkinDeedsLaw", name := "above", desc := "(LNapkinDeeds;I[J)I" } : Jvm.MethodName) method_7_code (4 : Nat) (Option.some Jvm.ClassFile.FieldType.int) [((0 : Nat), (9 : Nat), (12 : Nat), (19 : Nat))]) ∈ lw_all := lw_g (lw_at lw_m8 155 rfl) rfl
theorem q1984 : (Jvm.Cond.methodLink "NapkinDeedsLaw" (27 : Nat) ({ cls := "NapkinDeeds", name := "above", desc := "(I)I" } : Jvm.MethodName)) ∈ lw_all := lw_g (lw_at lw_m8 156 rfl) rfl
theorem q1988 : (Jvm.Cond.methodLink "NapkinDeedsLaw" (171 : Nat) ({ cls := "NapkinDeedsLaw", name := "beneath", desc := "(LNapkinDeeds;I[J)I" } : Jvm.MethodName)) ∈ lw_all := lw_g (lw_at lw_m8 160 rfl) rfl
theorem q1989 : (Jvm.Cond.static ({ cls := "NapkinDeedsLaw", name := "beneath", desc := "(LNapkinDeeds;I[J)I" } : Jvm.MethodName)) ∈ lw_all := lw_g (lw_at lw_m8 161 rfl) rfl
theorem q1990 : (Jvm.Cond.codeWith ({ cls := "NapkinDeedsLaw", name := "beneath", desc := "(LNapkinDeeds;I[J)I" } : Jvm.MethodName) method_8_code (4 : Nat) (Option.some Jvm.ClassFile.FieldType.int) [((0 : Nat), (9 : Nat), (12 : Nat), (19 : Nat))]) ∈ lw_all := lw_g (lw_at lw_m8 162 rfl) rfl
theorem q1991 : (Jvm.Cond.methodLink "NapkinDeedsLaw" (30 : Nat) ({ cls := "NapkinDeeds", name := "beneath", desc := "(I)I" } : Jvm.MethodName)) ∈ lw_all := lw_g (lw_at lw_m8 163 rfl) rfl
theorem q1995 : (Jvm.Cond.methodLink "NapkinDeedsLaw" (174 : Nat) ({ cls := "NapkinDeedsLaw", name := "crease", desc := "(LNapkinDeeds;I[J)I" } : Jvm.MethodName)) ∈ lw_all := lw_g (lw_at lw_m8 167 rfl) rfl
theorem q1996 : (Jvm.Cond.static ({ cls := "NapkinDeedsLaw", name := "crease", desc := "(LNapkinDeeds;I[J)I" } : Jvm.MethodName)) ∈ lw_all := lw_g (lw_at lw_m8 168 rfl) rfl
theorem q1997 : (Jvm.Cond.codeWith ({ cls := "NapkinDeedsLaw", name := "crease", desc := "(LNapkinDeeds;I[J)I" } : Jvm.MethodName) method_9_code (4 : Nat) (Option.some Jvm.ClassFile.FieldType.int) [((0 : Nat), (9 : Nat), (12 : Nat), (19 : Nat))]) ∈ lw_all := lw_g (lw_at lw_m8 169 rfl) rfl
theorem q1998 : (Jvm.Cond.methodLink "NapkinDeedsLaw" (33 : Nat) ({ cls := "NapkinDeeds", name := "crease", desc := "(I)I" } : Jvm.MethodName)) ∈ lw_all := lw_g (lw_at lw_m8 170 rfl) rfl
theorem q2003 : (Jvm.Cond.methodLink "NapkinDeedsLaw" (177 : Nat) ({ cls := "NapkinDeedsLaw", name := "folded", desc := "(LNapkinDeeds;I[J)I" } : Jvm.MethodName)) ∈ lw_all := lw_g (lw_at lw_m8 175 rfl) rfl
theorem q2004 : (Jvm.Cond.static ({ cls := "NapkinDeedsLaw", name := "folded", desc := "(LNapkinDeeds;I[J)I" } : Jvm.MethodName)) ∈ lw_all := lw_g (lw_at lw_m8 176 rfl) rfl
theorem q2005 : (Jvm.Cond.codeWith ({ cls := "NapkinDeedsLaw", name := "folded", desc := "(LNapkinDeeds;I[J)I" } : Jvm.MethodName) method_10_code (4 : Nat) (Option.some Jvm.ClassFile.FieldType.int) [((0 : Nat), (9 : Nat), (12 : Nat), (13 : Nat))]) ∈ lw_all := lw_g (lw_at lw_m8 177 rfl) rfl
theorem q2006 : (Jvm.Cond.methodLink "NapkinDeedsLaw" (36 : Nat) ({ cls := "NapkinDeeds", name := "folded", desc := "(I)I" } : Jvm.MethodName)) ∈ lw_all := lw_g (lw_at lw_m8 178 rfl) rfl
theorem q2010 : (Jvm.Cond.methodLink "NapkinDeedsLaw" (189 : Nat) ({ cls := "NapkinDeedsLaw", name := "likes", desc := "(LNapkinDeeds;I[J)I" } : Jvm.MethodName)) ∈ lw_all := lw_g (lw_at lw_m8 182 rfl) rfl
theorem q2011 : (Jvm.Cond.static ({ cls := "NapkinDeedsLaw", name := "likes", desc := "(LNapkinDeeds;I[J)I" } : Jvm.MethodName)) ∈ lw_all := lw_g (lw_at lw_m8 183 rfl) rfl
theorem q2012 : (Jvm.Cond.codeWith ({ cls := "NapkinDeedsLaw", name := "likes", desc := "(LNapkinDeeds;I[J)I" } : Jvm.MethodName) method_11_code (4 : Nat) (Option.some Jvm.ClassFile.FieldType.int) [((0 : Nat), (9 : Nat), (12 : Nat), (19 : Nat))]) ∈ lw_all := lw_g (lw_at lw_m8 184 rfl) rfl
theorem q2013 : (Jvm.Cond.methodLink "NapkinDeedsLaw" (39 : Nat) ({ cls := "NapkinDeeds", name := "likes", desc := "(I)I" } : Jvm.MethodName)) ∈ lw_all := lw_g (lw_at lw_m8 185 rfl) rfl
theorem q2017 : (Jvm.Cond.methodLink "NapkinDeedsLaw" (196 : Nat) ({ cls := "NapkinDeedsLaw", name := "unfold", desc := "(LNapkinDeeds;[J)I" } : Jvm.MethodName)) ∈ lw_all := lw_g (lw_at lw_m8 189 rfl) rfl
theorem q2018 : (Jvm.Cond.static ({ cls := "NapkinDeedsLaw", name := "unfold", desc := "(LNapkinDeeds;[J)I" } : Jvm.MethodName)) ∈ lw_all := lw_g (lw_at lw_m8 190 rfl) rfl
theorem q2019 : (Jvm.Cond.codeWith ({ cls := "NapkinDeedsLaw", name := "unfold", desc := "(LNapkinDeeds;[J)I" } : Jvm.MethodName) method_12_code (3 : Nat) (Option.some Jvm.ClassFile.FieldType.int) [((0 : Nat), (8 : Nat), (11 : Nat), (46 : Nat))]) ∈ lw_all := lw_g (lw_at lw_m8 191 rfl) rfl
theorem q2020 : (Jvm.Cond.classLink "NapkinDeedsLaw" (46 : Nat) "java/lang/IllegalStateException") ∈ lw_all := lw_g (lw_at lw_m8 192 rfl) rfl
theorem q2021 : (Jvm.Cond.methodLink "NapkinDeedsLaw" (42 : Nat) ({ cls := "NapkinDeeds", name := "unfold", desc := "()I" } : Jvm.MethodName)) ∈ lw_all := lw_g (lw_at lw_m8 193 rfl) rfl
theorem q2043 : (Jvm.Cond.methodLink "NapkinDeedsLaw" (200 : Nat) ({ cls := "NapkinDeedsLaw", name := "shake", desc := "(LNapkinDeeds;[J)I" } : Jvm.MethodName)) ∈ lw_all := lw_g (lw_at lw_m8 215 rfl) rfl
theorem q2044 : (Jvm.Cond.static ({ cls := "NapkinDeedsLaw", name := "shake", desc := "(LNapkinDeeds;[J)I" } : Jvm.MethodName)) ∈ lw_all := lw_g (lw_at lw_m8 216 rfl) rfl
theorem q2045 : (Jvm.Cond.codeWith ({ cls := "NapkinDeedsLaw", name := "shake", desc := "(LNapkinDeeds;[J)I" } : Jvm.MethodName) method_13_code (3 : Nat) (Option.some Jvm.ClassFile.FieldType.int) [((0 : Nat), (8 : Nat), (11 : Nat), (46 : Nat))]) ∈ lw_all := lw_g (lw_at lw_m8 217 rfl) rfl
theorem q2046 : (Jvm.Cond.methodLink "NapkinDeedsLaw" (48 : Nat) ({ cls := "NapkinDeeds", name := "shake", desc := "()I" } : Jvm.MethodName)) ∈ lw_all := lw_g (lw_at lw_m8 218 rfl) rfl
theorem q2050 : (Jvm.Cond.methodLink "NapkinDeedsLaw" (203 : Nat) ({ cls := "NapkinDeedsLaw", name := "amend", desc := "(LNapkinDeeds;III[J)I" } : Jvm.MethodName)) ∈ lw_all := lw_g (lw_at lw_m8 222 rfl) rfl
theorem q2051 : (Jvm.Cond.static ({ cls := "NapkinDeedsLaw", name := "amend", desc := "(LNapkinDeeds;III[J)I" } : Jvm.MethodName)) ∈ lw_all := lw_g (lw_at lw_m8 223 rfl) rfl
theorem q2052 : (Jvm.Cond.codeWith ({ cls := "NapkinDeedsLaw", name := "amend", desc := "(LNapkinDeeds;III[J)I" } : Jvm.MethodName) method_14_code (6 : Nat) (Option.some Jvm.ClassFile.FieldType.int) [((0 : Nat), (12 : Nat), (15 : Nat), (19 : Nat)), ((0 : Nat), (12 : Nat), (19 : Nat), (13 : Nat))]) ∈ lw_all := lw_g (lw_at lw_m8 224 rfl) rfl
theorem q2053 : (Jvm.Cond.methodLink "NapkinDeedsLaw" (51 : Nat) ({ cls := "NapkinDeeds", name := "amend", desc := "(III)I" } : Jvm.MethodName)) ∈ lw_all := lw_g (lw_at lw_m8 225 rfl) rfl
theorem q2061 : (Jvm.Cond.methodLink "NapkinDeedsLaw" (207 : Nat) ({ cls := "NapkinDeedsLaw", name := "undo", desc := "(LNapkinDeeds;I[J)I" } : Jvm.MethodName)) ∈ lw_all := lw_g (lw_at lw_m8 233 rfl) rfl
theorem q2062 : (Jvm.Cond.static ({ cls := "NapkinDeedsLaw", name := "undo", desc := "(LNapkinDeeds;I[J)I" } : Jvm.MethodName)) ∈ lw_all := lw_g (lw_at lw_m8 234 rfl) rfl
theorem q2063 : (Jvm.Cond.codeWith ({ cls := "NapkinDeedsLaw", name := "undo", desc := "(LNapkinDeeds;I[J)I" } : Jvm.MethodName) method_15_code (4 : Nat) (Option.some Jvm.ClassFile.FieldType.int) [((0 : Nat), (9 : Nat), (12 : Nat), (13 : Nat))]) ∈ lw_all := lw_g (lw_at lw_m8 235 rfl) rfl
theorem q2064 : (Jvm.Cond.methodLink "NapkinDeedsLaw" (55 : Nat) ({ cls := "NapkinDeeds", name := "undo", desc := "(I)I" } : Jvm.MethodName)) ∈ lw_all := lw_g (lw_at lw_m8 236 rfl) rfl
theorem q2069 : (Jvm.Cond.methodLink "NapkinDeedsLaw" (210 : Nat) ({ cls := "NapkinDeedsLaw", name := "judge", desc := "(LNapkinDeeds;II[J)I" } : Jvm.MethodName)) ∈ lw_all := lw_g (lw_at lw_m9 1 rfl) rfl
theorem q2070 : (Jvm.Cond.static ({ cls := "NapkinDeedsLaw", name := "judge", desc := "(LNapkinDeeds;II[J)I" } : Jvm.MethodName)) ∈ lw_all := lw_g (lw_at lw_m9 2 rfl) rfl
theorem q2071 : (Jvm.Cond.codeWith ({ cls := "NapkinDeedsLaw", name := "judge", desc := "(LNapkinDeeds;II[J)I" } : Jvm.MethodName) method_16_code (5 : Nat) (Option.some Jvm.ClassFile.FieldType.int) [((0 : Nat), (10 : Nat), (13 : Nat), (19 : Nat)), ((0 : Nat), (10 : Nat), (17 : Nat), (46 : Nat)), ((0 : Nat), (10 : Nat), (21 : Nat), (13 : Nat))]) ∈ lw_all := lw_g (lw_at lw_m9 3 rfl) rfl
theorem q2072 : (Jvm.Cond.methodLink "NapkinDeedsLaw" (58 : Nat) ({ cls := "NapkinDeeds", name := "judge", desc := "(II)I" } : Jvm.MethodName)) ∈ lw_all := lw_g (lw_at lw_m9 4 rfl) rfl
theorem q2096 : (Jvm.Cond.methodLink "NapkinDeedsLaw" (213 : Nat) ({ cls := "NapkinDeedsLaw", name := "perform", desc := "(LNapkinDeeds;I[J)I" } : Jvm.MethodName)) ∈ lw_all := lw_g (lw_at lw_m9 28 rfl) rfl
theorem q2097 : (Jvm.Cond.static ({ cls := "NapkinDeedsLaw", name := "perform", desc := "(LNapkinDeeds;I[J)I" } : Jvm.MethodName)) ∈ lw_all := lw_g (lw_at lw_m9 29 rfl) rfl
theorem q2098 : (Jvm.Cond.codeWith ({ cls := "NapkinDeedsLaw", name := "perform", desc := "(LNapkinDeeds;I[J)I" } : Jvm.MethodName) method_17_code (4 : Nat) (Option.some Jvm.ClassFile.FieldType.int) [((0 : Nat), (9 : Nat), (12 : Nat), (19 : Nat)), ((0 : Nat), (9 : Nat), (15 : Nat), (46 : Nat))]) ∈ lw_all := lw_g (lw_at lw_m9 30 rfl) rfl
theorem q2099 : (Jvm.Cond.methodLink "NapkinDeedsLaw" (61 : Nat) ({ cls := "NapkinDeeds", name := "perform", desc := "(I)I" } : Jvm.MethodName)) ∈ lw_all := lw_g (lw_at lw_m9 31 rfl) rfl
theorem q2103 : (Jvm.Cond.methodLink "NapkinDeedsLaw" (216 : Nat) ({ cls := "NapkinDeedsLaw", name := "evening", desc := "(LNapkinDeeds;II[J)I" } : Jvm.MethodName)) ∈ lw_all := lw_g (lw_at lw_m9 35 rfl) rfl
theorem q2104 : (Jvm.Cond.static ({ cls := "NapkinDeedsLaw", name := "evening", desc := "(LNapkinDeeds;II[J)I" } : Jvm.MethodName)) ∈ lw_all := lw_g (lw_at lw_m9 36 rfl) rfl
theorem q2105 : (Jvm.Cond.codeWith ({ cls := "NapkinDeedsLaw", name := "evening", desc := "(LNapkinDeeds;II[J)I" } : Jvm.MethodName) method_18_code (5 : Nat) (Option.some Jvm.ClassFile.FieldType.int) [((0 : Nat), (10 : Nat), (13 : Nat), (13 : Nat))]) ∈ lw_all := lw_g (lw_at lw_m9 37 rfl) rfl
theorem q2106 : (Jvm.Cond.methodLink "NapkinDeedsLaw" (64 : Nat) ({ cls := "NapkinDeeds", name := "evening", desc := "(II)I" } : Jvm.MethodName)) ∈ lw_all := lw_g (lw_at lw_m9 38 rfl) rfl
theorem q2120 : (Jvm.Cond.methodLink "NapkinDeedsLaw" (219 : Nat) ({ cls := "NapkinDeedsLaw", name := "rows", desc := "(LNapkinDeeds;I[J)I" } : Jvm.MethodName)) ∈ lw_all := lw_g (lw_at lw_m9 52 rfl) rfl
theorem q2121 : (Jvm.Cond.static ({ cls := "NapkinDeedsLaw", name := "rows", desc := "(LNapkinDeeds;I[J)I" } : Jvm.MethodName)) ∈ lw_all := lw_g (lw_at lw_m9 53 rfl) rfl
theorem q2122 : (Jvm.Cond.codeWith ({ cls := "NapkinDeedsLaw", name := "rows", desc := "(LNapkinDeeds;I[J)I" } : Jvm.MethodName) method_19_code (4 : Nat) (Option.some Jvm.ClassFile.FieldType.int) [((0 : Nat), (9 : Nat), (12 : Nat), (13 : Nat))]) ∈ lw_all := lw_g (lw_at lw_m9 54 rfl) rfl
theorem q2123 : (Jvm.Cond.methodLink "NapkinDeedsLaw" (67 : Nat) ({ cls := "NapkinDeeds", name := "rows", desc := "(I)I" } : Jvm.MethodName)) ∈ lw_all := lw_g (lw_at lw_m9 55 rfl) rfl
theorem q2160 : (Jvm.Cond.methodLink "NapkinDeedsLaw" (222 : Nat) ({ cls := "NapkinDeedsLaw", name := "looks", desc := "(LNapkinDeeds;I[J)I" } : Jvm.MethodName)) ∈ lw_all := lw_g (lw_at lw_m9 92 rfl) rfl
theorem q2161 : (Jvm.Cond.static ({ cls := "NapkinDeedsLaw", name := "looks", desc := "(LNapkinDeeds;I[J)I" } : Jvm.MethodName)) ∈ lw_all := lw_g (lw_at lw_m9 93 rfl) rfl
theorem q2162 : (Jvm.Cond.codeWith ({ cls := "NapkinDeedsLaw", name := "looks", desc := "(LNapkinDeeds;I[J)I" } : Jvm.MethodName) method_20_code (4 : Nat) (Option.some Jvm.ClassFile.FieldType.int) [((0 : Nat), (9 : Nat), (12 : Nat), (13 : Nat))]) ∈ lw_all := lw_g (lw_at lw_m9 94 rfl) rfl
theorem q2163 : (Jvm.Cond.methodLink "NapkinDeedsLaw" (70 : Nat) ({ cls := "NapkinDeeds", name := "looks", desc := "(I)I" } : Jvm.MethodName)) ∈ lw_all := lw_g (lw_at lw_m9 95 rfl) rfl
theorem q2181 : (Jvm.Cond.methodLink "NapkinDeedsLaw" (225 : Nat) ({ cls := "NapkinDeedsLaw", name := "soonest", desc := "(LNapkinDeeds;I[J)I" } : Jvm.MethodName)) ∈ lw_all := lw_g (lw_at lw_m9 113 rfl) rfl
theorem q2182 : (Jvm.Cond.static ({ cls := "NapkinDeedsLaw", name := "soonest", desc := "(LNapkinDeeds;I[J)I" } : Jvm.MethodName)) ∈ lw_all := lw_g (lw_at lw_m9 114 rfl) rfl
theorem q2183 : (Jvm.Cond.codeWith ({ cls := "NapkinDeedsLaw", name := "soonest", desc := "(LNapkinDeeds;I[J)I" } : Jvm.MethodName) method_21_code (4 : Nat) (Option.some Jvm.ClassFile.FieldType.int) [((0 : Nat), (9 : Nat), (12 : Nat), (13 : Nat))]) ∈ lw_all := lw_g (lw_at lw_m9 115 rfl) rfl
theorem q2184 : (Jvm.Cond.methodLink "NapkinDeedsLaw" (73 : Nat) ({ cls := "NapkinDeeds", name := "soonest", desc := "(I)I" } : Jvm.MethodName)) ∈ lw_all := lw_g (lw_at lw_m9 116 rfl) rfl
theorem q2250 : (Jvm.Cond.methodLink "NapkinDeedsLaw" (228 : Nat) ({ cls := "NapkinDeedsLaw", name := "holding", desc := "(LNapkinDeeds;I[J)I" } : Jvm.MethodName)) ∈ lw_all := lw_g (lw_at lw_m9 182 rfl) rfl
theorem q2251 : (Jvm.Cond.static ({ cls := "NapkinDeedsLaw", name := "holding", desc := "(LNapkinDeeds;I[J)I" } : Jvm.MethodName)) ∈ lw_all := lw_g (lw_at lw_m9 183 rfl) rfl
theorem q2252 : (Jvm.Cond.codeWith ({ cls := "NapkinDeedsLaw", name := "holding", desc := "(LNapkinDeeds;I[J)I" } : Jvm.MethodName) method_22_code (4 : Nat) (Option.some Jvm.ClassFile.FieldType.int) [((0 : Nat), (9 : Nat), (12 : Nat), (13 : Nat))]) ∈ lw_all := lw_g (lw_at lw_m9 184 rfl) rfl
theorem q2253 : (Jvm.Cond.methodLink "NapkinDeedsLaw" (76 : Nat) ({ cls := "NapkinDeeds", name := "holding", desc := "(I)I" } : Jvm.MethodName)) ∈ lw_all := lw_g (lw_at lw_m9 185 rfl) rfl
theorem q2271 : (Jvm.Cond.methodLink "NapkinDeedsLaw" (231 : Nat) ({ cls := "NapkinDeedsLaw", name := "best", desc := "(LNapkinDeeds;II[J)I" } : Jvm.MethodName)) ∈ lw_all := lw_g (lw_at lw_m9 203 rfl) rfl
theorem q2272 : (Jvm.Cond.static ({ cls := "NapkinDeedsLaw", name := "best", desc := "(LNapkinDeeds;II[J)I" } : Jvm.MethodName)) ∈ lw_all := lw_g (lw_at lw_m9 204 rfl) rfl
theorem q2273 : (Jvm.Cond.codeWith ({ cls := "NapkinDeedsLaw", name := "best", desc := "(LNapkinDeeds;II[J)I" } : Jvm.MethodName) method_23_code (5 : Nat) (Option.some Jvm.ClassFile.FieldType.int) [((0 : Nat), (10 : Nat), (13 : Nat), (13 : Nat))]) ∈ lw_all := lw_g (lw_at lw_m9 205 rfl) rfl
theorem q2274 : (Jvm.Cond.methodLink "NapkinDeedsLaw" (79 : Nat) ({ cls := "NapkinDeeds", name := "best", desc := "(II)I" } : Jvm.MethodName)) ∈ lw_all := lw_g (lw_at lw_m9 206 rfl) rfl
theorem q2278 : (Jvm.Cond.methodLink "NapkinDeedsLaw" (234 : Nat) ({ cls := "NapkinDeedsLaw", name := "reads", desc := "(LNapkinDeeds;II[J)I" } : Jvm.MethodName)) ∈ lw_all := lw_g (lw_at lw_m9 210 rfl) rfl
theorem q2279 : (Jvm.Cond.static ({ cls := "NapkinDeedsLaw", name := "reads", desc := "(LNapkinDeeds;II[J)I" } : Jvm.MethodName)) ∈ lw_all := lw_g (lw_at lw_m9 211 rfl) rfl
theorem q2280 : (Jvm.Cond.codeWith ({ cls := "NapkinDeedsLaw", name := "reads", desc := "(LNapkinDeeds;II[J)I" } : Jvm.MethodName) method_24_code (5 : Nat) (Option.some Jvm.ClassFile.FieldType.int) [((0 : Nat), (10 : Nat), (13 : Nat), (19 : Nat)), ((0 : Nat), (10 : Nat), (17 : Nat), (46 : Nat)), ((0 : Nat), (10 : Nat), (21 : Nat), (13 : Nat))]) ∈ lw_all := lw_g (lw_at lw_m9 212 rfl) rfl
theorem q2281 : (Jvm.Cond.methodLink "NapkinDeedsLaw" (82 : Nat) ({ cls := "NapkinDeeds", name := "reads", desc := "(II)I" } : Jvm.MethodName)) ∈ lw_all := lw_g (lw_at lw_m9 213 rfl) rfl
theorem q2310 : (Jvm.Cond.methodLink "NapkinDeedsLaw" (241 : Nat) ({ cls := "NapkinDeedsLaw", name := "stands", desc := "(LNapkinDeeds;I[J)I" } : Jvm.MethodName)) ∈ lw_all := lw_g (lw_at lw_m10 2 rfl) rfl
theorem q2311 : (Jvm.Cond.static ({ cls := "NapkinDeedsLaw", name := "stands", desc := "(LNapkinDeeds;I[J)I" } : Jvm.MethodName)) ∈ lw_all := lw_g (lw_at lw_m10 3 rfl) rfl
theorem q2312 : (Jvm.Cond.codeWith ({ cls := "NapkinDeedsLaw", name := "stands", desc := "(LNapkinDeeds;I[J)I" } : Jvm.MethodName) method_25_code (4 : Nat) (Option.some Jvm.ClassFile.FieldType.int) [((0 : Nat), (16 : Nat), (19 : Nat), (19 : Nat)), ((0 : Nat), (16 : Nat), (22 : Nat), (46 : Nat)), ((0 : Nat), (16 : Nat), (25 : Nat), (13 : Nat))]) ∈ lw_all := lw_g (lw_at lw_m10 4 rfl) rfl
theorem q2313 : (Jvm.Cond.methodLink "NapkinDeedsLaw" (85 : Nat) ({ cls := "NapkinDeeds", name := "stands", desc := "(I)Z" } : Jvm.MethodName)) ∈ lw_all := lw_g (lw_at lw_m10 5 rfl) rfl
theorem q2321 : (Jvm.Cond.methodLink "NapkinDeedsLaw" (248 : Nat) ({ cls := "NapkinDeedsLaw", name := "stack", desc := "(LNapkinDeeds;I[J)I" } : Jvm.MethodName)) ∈ lw_all := lw_g (lw_at lw_m10 13 rfl) rfl
theorem q2322 : (Jvm.Cond.static ({ cls := "NapkinDeedsLaw", name := "stack", desc := "(LNapkinDeeds;I[J)I" } : Jvm.MethodName)) ∈ lw_all := lw_g (lw_at lw_m10 14 rfl) rfl
theorem q2323 : (Jvm.Cond.codeWith ({ cls := "NapkinDeedsLaw", name := "stack", desc := "(LNapkinDeeds;I[J)I" } : Jvm.MethodName) method_26_code (4 : Nat) (Option.some Jvm.ClassFile.FieldType.int) [((0 : Nat), (9 : Nat), (12 : Nat), (19 : Nat)), ((0 : Nat), (9 : Nat), (15 : Nat), (46 : Nat)), ((0 : Nat), (9 : Nat), (18 : Nat), (13 : Nat))]) ∈ lw_all := lw_g (lw_at lw_m10 15 rfl) rfl
theorem q2324 : (Jvm.Cond.methodLink "NapkinDeedsLaw" (89 : Nat) ({ cls := "NapkinDeeds", name := "stack", desc := "(I)I" } : Jvm.MethodName)) ∈ lw_all := lw_g (lw_at lw_m10 16 rfl) rfl
theorem q2348 : (Jvm.Cond.methodLink "NapkinDeedsLaw" (255 : Nat) ({ cls := "NapkinDeedsLaw", name := "made", desc := "(LNapkinDeeds;I[J)I" } : Jvm.MethodName)) ∈ lw_all := lw_g (lw_at lw_m10 40 rfl) rfl
theorem q2349 : (Jvm.Cond.static ({ cls := "NapkinDeedsLaw", name := "made", desc := "(LNapkinDeeds;I[J)I" } : Jvm.MethodName)) ∈ lw_all := lw_g (lw_at lw_m10 41 rfl) rfl
theorem q2350 : (Jvm.Cond.codeWith ({ cls := "NapkinDeedsLaw", name := "made", desc := "(LNapkinDeeds;I[J)I" } : Jvm.MethodName) method_27_code (4 : Nat) (Option.some Jvm.ClassFile.FieldType.int) [((0 : Nat), (9 : Nat), (12 : Nat), (19 : Nat)), ((0 : Nat), (9 : Nat), (15 : Nat), (46 : Nat)), ((0 : Nat), (9 : Nat), (18 : Nat), (13 : Nat))]) ∈ lw_all := lw_g (lw_at lw_m10 42 rfl) rfl
theorem q2351 : (Jvm.Cond.methodLink "NapkinDeedsLaw" (92 : Nat) ({ cls := "NapkinDeeds", name := "made", desc := "(I)I" } : Jvm.MethodName)) ∈ lw_all := lw_g (lw_at lw_m10 43 rfl) rfl
theorem q2377 : (Jvm.Cond.methodLink "NapkinDeedsLaw" (258 : Nat) ({ cls := "NapkinDeedsLaw", name := "madeBy", desc := "(LNapkinDeeds;II[J)I" } : Jvm.MethodName)) ∈ lw_all := lw_g (lw_at lw_m10 69 rfl) rfl
theorem q2378 : (Jvm.Cond.static ({ cls := "NapkinDeedsLaw", name := "madeBy", desc := "(LNapkinDeeds;II[J)I" } : Jvm.MethodName)) ∈ lw_all := lw_g (lw_at lw_m10 70 rfl) rfl
theorem q2379 : (Jvm.Cond.codeWith ({ cls := "NapkinDeedsLaw", name := "madeBy", desc := "(LNapkinDeeds;II[J)I" } : Jvm.MethodName) method_28_code (5 : Nat) (Option.some Jvm.ClassFile.FieldType.int) [((0 : Nat), (10 : Nat), (13 : Nat), (19 : Nat)), ((0 : Nat), (10 : Nat), (17 : Nat), (46 : Nat)), ((0 : Nat), (10 : Nat), (21 : Nat), (13 : Nat))]) ∈ lw_all := lw_g (lw_at lw_m10 71 rfl) rfl
theorem q2380 : (Jvm.Cond.methodLink "NapkinDeedsLaw" (95 : Nat) ({ cls := "NapkinDeeds", name := "madeBy", desc := "(II)I" } : Jvm.MethodName)) ∈ lw_all := lw_g (lw_at lw_m10 72 rfl) rfl
theorem q2405 : (Jvm.Cond.methodLink "NapkinDeedsLaw" (269 : Nat) ({ cls := "NapkinDeedsLaw", name := "fairest", desc := "(LNapkinDeeds;II[J)I" } : Jvm.MethodName)) ∈ lw_all := lw_g (lw_at lw_m10 97 rfl) rfl
theorem q2406 : (Jvm.Cond.static ({ cls := "NapkinDeedsLaw", name := "fairest", desc := "(LNapkinDeeds;II[J)I" } : Jvm.MethodName)) ∈ lw_all := lw_g (lw_at lw_m10 98 rfl) rfl
theorem q2407 : (Jvm.Cond.codeWith ({ cls := "NapkinDeedsLaw", name := "fairest", desc := "(LNapkinDeeds;II[J)I" } : Jvm.MethodName) method_29_code (5 : Nat) (Option.some Jvm.ClassFile.FieldType.int) [((0 : Nat), (10 : Nat), (13 : Nat), (13 : Nat))]) ∈ lw_all := lw_g (lw_at lw_m10 99 rfl) rfl
theorem q2408 : (Jvm.Cond.methodLink "NapkinDeedsLaw" (98 : Nat) ({ cls := "NapkinDeeds", name := "fairest", desc := "(II)I" } : Jvm.MethodName)) ∈ lw_all := lw_g (lw_at lw_m10 100 rfl) rfl
theorem q2428 : (Jvm.Cond.methodLink "NapkinDeedsLaw" (272 : Nat) ({ cls := "NapkinDeedsLaw", name := "better", desc := "(LNapkinDeeds;I[J)I" } : Jvm.MethodName)) ∈ lw_all := lw_g (lw_at lw_m10 120 rfl) rfl
theorem q2429 : (Jvm.Cond.static ({ cls := "NapkinDeedsLaw", name := "better", desc := "(LNapkinDeeds;I[J)I" } : Jvm.MethodName)) ∈ lw_all := lw_g (lw_at lw_m10 121 rfl) rfl
theorem q2430 : (Jvm.Cond.codeWith ({ cls := "NapkinDeedsLaw", name := "better", desc := "(LNapkinDeeds;I[J)I" } : Jvm.MethodName) method_30_code (4 : Nat) (Option.some Jvm.ClassFile.FieldType.int) [((0 : Nat), (9 : Nat), (12 : Nat), (13 : Nat))]) ∈ lw_all := lw_g (lw_at lw_m10 122 rfl) rfl
theorem q2431 : (Jvm.Cond.methodLink "NapkinDeedsLaw" (101 : Nat) ({ cls := "NapkinDeeds", name := "better", desc := "(I)I" } : Jvm.MethodName)) ∈ lw_all := lw_g (lw_at lw_m10 123 rfl) rfl
theorem q2456 : (Jvm.Cond.methodLink "NapkinDeedsLaw" (275 : Nat) ({ cls := "NapkinDeedsLaw", name := "keenest", desc := "(LNapkinDeeds;I[J)I" } : Jvm.MethodName)) ∈ lw_all := lw_g (lw_at lw_m10 148 rfl) rfl
theorem q2457 : (Jvm.Cond.static ({ cls := "NapkinDeedsLaw", name := "keenest", desc := "(LNapkinDeeds;I[J)I" } : Jvm.MethodName)) ∈ lw_all := lw_g (lw_at lw_m10 149 rfl) rfl
theorem q2458 : (Jvm.Cond.codeWith ({ cls := "NapkinDeedsLaw", name := "keenest", desc := "(LNapkinDeeds;I[J)I" } : Jvm.MethodName) method_31_code (4 : Nat) (Option.some Jvm.ClassFile.FieldType.int) [((0 : Nat), (9 : Nat), (12 : Nat), (13 : Nat))]) ∈ lw_all := lw_g (lw_at lw_m10 150 rfl) rfl
theorem q2459 : (Jvm.Cond.methodLink "NapkinDeedsLaw" (104 : Nat) ({ cls := "NapkinDeeds", name := "keenest", desc := "(I)I" } : Jvm.MethodName)) ∈ lw_all := lw_g (lw_at lw_m10 151 rfl) rfl
theorem q2482 : (Jvm.Cond.methodLink "NapkinDeedsLaw" (278 : Nat) ({ cls := "NapkinDeedsLaw", name := "seen", desc := "(LNapkinDeeds;II[J)I" } : Jvm.MethodName)) ∈ lw_all := lw_g (lw_at lw_m10 174 rfl) rfl
theorem q2483 : (Jvm.Cond.static ({ cls := "NapkinDeedsLaw", name := "seen", desc := "(LNapkinDeeds;II[J)I" } : Jvm.MethodName)) ∈ lw_all := lw_g (lw_at lw_m10 175 rfl) rfl
theorem q2484 : (Jvm.Cond.codeWith ({ cls := "NapkinDeedsLaw", name := "seen", desc := "(LNapkinDeeds;II[J)I" } : Jvm.MethodName) method_32_code (5 : Nat) (Option.some Jvm.ClassFile.FieldType.int) [((0 : Nat), (10 : Nat), (13 : Nat), (19 : Nat)), ((0 : Nat), (10 : Nat), (17 : Nat), (46 : Nat)), ((0 : Nat), (10 : Nat), (21 : Nat), (13 : Nat))]) ∈ lw_all := lw_g (lw_at lw_m10 176 rfl) rfl
theorem q2485 : (Jvm.Cond.methodLink "NapkinDeedsLaw" (107 : Nat) ({ cls := "NapkinDeeds", name := "seen", desc := "(II)I" } : Jvm.MethodName)) ∈ lw_all := lw_g (lw_at lw_m10 177 rfl) rfl
theorem q2530 : (Jvm.Cond.methodLink "NapkinDeedsLaw" (281 : Nat) ({ cls := "NapkinDeedsLaw", name := "sure", desc := "(LNapkinDeeds;II[J)I" } : Jvm.MethodName)) ∈ lw_all := lw_g (lw_at lw_m10 222 rfl) rfl
theorem q2531 : (Jvm.Cond.static ({ cls := "NapkinDeedsLaw", name := "sure", desc := "(LNapkinDeeds;II[J)I" } : Jvm.MethodName)) ∈ lw_all := lw_g (lw_at lw_m10 223 rfl) rfl
theorem q2532 : (Jvm.Cond.codeWith ({ cls := "NapkinDeedsLaw", name := "sure", desc := "(LNapkinDeeds;II[J)I" } : Jvm.MethodName) method_33_code (5 : Nat) (Option.some Jvm.ClassFile.FieldType.int) [((0 : Nat), (10 : Nat), (13 : Nat), (19 : Nat)), ((0 : Nat), (10 : Nat), (17 : Nat), (46 : Nat)), ((0 : Nat), (10 : Nat), (21 : Nat), (13 : Nat))]) ∈ lw_all := lw_g (lw_at lw_m10 224 rfl) rfl
theorem q2533 : (Jvm.Cond.methodLink "NapkinDeedsLaw" (110 : Nat) ({ cls := "NapkinDeeds", name := "sure", desc := "(II)I" } : Jvm.MethodName)) ∈ lw_all := lw_g (lw_at lw_m10 225 rfl) rfl
theorem q2537 : (Jvm.Cond.methodLink "NapkinDeedsLaw" (284 : Nat) ({ cls := "NapkinDeedsLaw", name := "look", desc := "(LNapkinDeeds;II[J)I" } : Jvm.MethodName)) ∈ lw_all := lw_g (lw_at lw_m10 229 rfl) rfl
theorem q2538 : (Jvm.Cond.static ({ cls := "NapkinDeedsLaw", name := "look", desc := "(LNapkinDeeds;II[J)I" } : Jvm.MethodName)) ∈ lw_all := lw_g (lw_at lw_m10 230 rfl) rfl
theorem q2539 : (Jvm.Cond.codeWith ({ cls := "NapkinDeedsLaw", name := "look", desc := "(LNapkinDeeds;II[J)I" } : Jvm.MethodName) method_34_code (5 : Nat) (Option.some Jvm.ClassFile.FieldType.int) [((0 : Nat), (10 : Nat), (13 : Nat), (19 : Nat)), ((0 : Nat), (10 : Nat), (17 : Nat), (46 : Nat)), ((0 : Nat), (10 : Nat), (21 : Nat), (13 : Nat))]) ∈ lw_all := lw_g (lw_at lw_m10 231 rfl) rfl
theorem q2540 : (Jvm.Cond.methodLink "NapkinDeedsLaw" (113 : Nat) ({ cls := "NapkinDeeds", name := "look", desc := "(II)I" } : Jvm.MethodName)) ∈ lw_all := lw_g (lw_at lw_m10 232 rfl) rfl
theorem q2544 : (Jvm.Cond.methodLink "NapkinDeedsLaw" (287 : Nat) ({ cls := "NapkinDeedsLaw", name := "tray", desc := "(LNapkinDeeds;III)I" } : Jvm.MethodName)) ∈ lw_all := lw_g (lw_at lw_m10 236 rfl) rfl
theorem q2545 : (Jvm.Cond.static ({ cls := "NapkinDeedsLaw", name := "tray", desc := "(LNapkinDeeds;III)I" } : Jvm.MethodName)) ∈ lw_all := lw_g (lw_at lw_m10 237 rfl) rfl
theorem q2546 : (Jvm.Cond.codeWith ({ cls := "NapkinDeedsLaw", name := "tray", desc := "(LNapkinDeeds;III)I" } : Jvm.MethodName) method_35_code (5 : Nat) (Option.some Jvm.ClassFile.FieldType.int) [((0 : Nat), (7 : Nat), (10 : Nat), (19 : Nat)), ((0 : Nat), (7 : Nat), (14 : Nat), (13 : Nat))]) ∈ lw_all := lw_g (lw_at lw_m10 238 rfl) rfl
theorem q2547 : (Jvm.Cond.methodLink "NapkinDeedsLaw" (116 : Nat) ({ cls := "NapkinDeeds", name := "tray", desc := "(III)V" } : Jvm.MethodName)) ∈ lw_all := lw_g (lw_at lw_m10 239 rfl) rfl
theorem q2560 : (Jvm.Cond.methodLink "NapkinDeedsLaw" (293 : Nat) ({ cls := "NapkinDeedsLaw", name := "write", desc := "(LNapkinDeeds;IIJ[J)I" } : Jvm.MethodName)) ∈ lw_all := lw_g (lw_at lw_m11 12 rfl) rfl
theorem q2561 : (Jvm.Cond.static ({ cls := "NapkinDeedsLaw", name := "write", desc := "(LNapkinDeeds;IIJ[J)I" } : Jvm.MethodName)) ∈ lw_all := lw_g (lw_at lw_m11 13 rfl) rfl
theorem q2562 : (Jvm.Cond.codeWith ({ cls := "NapkinDeedsLaw", name := "write", desc := "(LNapkinDeeds;IIJ[J)I" } : Jvm.MethodName) method_36_code (7 : Nat) (Option.some Jvm.ClassFile.FieldType.int) [((0 : Nat), (11 : Nat), (14 : Nat), (19 : Nat)), ((0 : Nat), (11 : Nat), (18 : Nat), (46 : Nat)), ((0 : Nat), (11 : Nat), (22 : Nat), (124 : Nat))]) ∈ lw_all := lw_g (lw_at lw_m11 14 rfl) rfl
theorem q2563 : (Jvm.Cond.classLink "NapkinDeedsLaw" (124 : Nat) "java/lang/IndexOutOfBoundsException") ∈ lw_all := lw_g (lw_at lw_m11 15 rfl) rfl
theorem q2566 : (Jvm.Cond.methodLink "NapkinDeedsLaw" (120 : Nat) ({ cls := "NapkinDeeds", name := "write", desc := "(IIJ)J" } : Jvm.MethodName)) ∈ lw_all := lw_g (lw_at lw_m11 18 rfl) rfl
theorem q2609 : (Jvm.Cond.methodLink "NapkinDeedsLaw" (297 : Nat) ({ cls := "NapkinDeedsLaw", name := "copy", desc := "(LNapkinDeeds;I[J)I" } : Jvm.MethodName)) ∈ lw_all := lw_g (lw_at lw_m11 61 rfl) rfl
theorem q2610 : (Jvm.Cond.static ({ cls := "NapkinDeedsLaw", name := "copy", desc := "(LNapkinDeeds;I[J)I" } : Jvm.MethodName)) ∈ lw_all := lw_g (lw_at lw_m11 62 rfl) rfl
theorem q2611 : (Jvm.Cond.codeWith ({ cls := "NapkinDeedsLaw", name := "copy", desc := "(LNapkinDeeds;I[J)I" } : Jvm.MethodName) method_37_code (4 : Nat) (Option.some Jvm.ClassFile.FieldType.int) [((0 : Nat), (9 : Nat), (12 : Nat), (19 : Nat)), ((0 : Nat), (9 : Nat), (15 : Nat), (46 : Nat))]) ∈ lw_all := lw_g (lw_at lw_m11 63 rfl) rfl
theorem q2612 : (Jvm.Cond.methodLink "NapkinDeedsLaw" (126 : Nat) ({ cls := "NapkinDeeds", name := "copy", desc := "(I)I" } : Jvm.MethodName)) ∈ lw_all := lw_g (lw_at lw_m11 64 rfl) rfl
theorem q2616 : (Jvm.Cond.methodLink "NapkinDeedsLaw" (300 : Nat) ({ cls := "NapkinDeedsLaw", name := "image", desc := "(LNapkinDeeds;I)I" } : Jvm.MethodName)) ∈ lw_all := lw_g (lw_at lw_m11 68 rfl) rfl
theorem q2617 : (Jvm.Cond.static ({ cls := "NapkinDeedsLaw", name := "image", desc := "(LNapkinDeeds;I)I" } : Jvm.MethodName)) ∈ lw_all := lw_g (lw_at lw_m11 69 rfl) rfl
theorem q2618 : (Jvm.Cond.codeWith ({ cls := "NapkinDeedsLaw", name := "image", desc := "(LNapkinDeeds;I)I" } : Jvm.MethodName) method_38_code (3 : Nat) (Option.some Jvm.ClassFile.FieldType.int) [((0 : Nat), (5 : Nat), (8 : Nat), (19 : Nat))]) ∈ lw_all := lw_g (lw_at lw_m11 70 rfl) rfl
theorem q2619 : (Jvm.Cond.methodLink "NapkinDeedsLaw" (129 : Nat) ({ cls := "NapkinDeeds", name := "image", desc := "(I)V" } : Jvm.MethodName)) ∈ lw_all := lw_g (lw_at lw_m11 71 rfl) rfl
theorem q2698 : (Jvm.Cond.methodLink "NapkinDeedsLaw" (304 : Nat) ({ cls := "NapkinDeedsLaw", name := "restore", desc := "(LNapkinDeeds;I)I" } : Jvm.MethodName)) ∈ lw_all := lw_g (lw_at lw_m11 150 rfl) rfl
theorem q2699 : (Jvm.Cond.static ({ cls := "NapkinDeedsLaw", name := "restore", desc := "(LNapkinDeeds;I)I" } : Jvm.MethodName)) ∈ lw_all := lw_g (lw_at lw_m11 151 rfl) rfl
theorem q2700 : (Jvm.Cond.codeWith ({ cls := "NapkinDeedsLaw", name := "restore", desc := "(LNapkinDeeds;I)I" } : Jvm.MethodName) method_39_code (3 : Nat) (Option.some Jvm.ClassFile.FieldType.int) [((0 : Nat), (5 : Nat), (8 : Nat), (19 : Nat)), ((0 : Nat), (5 : Nat), (11 : Nat), (46 : Nat))]) ∈ lw_all := lw_g (lw_at lw_m11 152 rfl) rfl
theorem q2701 : (Jvm.Cond.methodLink "NapkinDeedsLaw" (133 : Nat) ({ cls := "NapkinDeeds", name := "restore", desc := "(I)V" } : Jvm.MethodName)) ∈ lw_all := lw_g (lw_at lw_m11 153 rfl) rfl
theorem q2709 : (Jvm.Cond.classLink "NapkinDeedsLaw" (137 : Nat) "NapkinDeedsModel") ∈ lw_all := lw_g (lw_at lw_m11 161 rfl) rfl
theorem q2711 : (Jvm.Cond.methodLink "NapkinDeedsLaw" (139 : Nat) ({ cls := "NapkinDeedsModel", name := "<init>", desc := "()V" } : Jvm.MethodName)) ∈ lw_all := lw_g (lw_at lw_m11 163 rfl) rfl
theorem q2847 : (Jvm.Cond.methodLink "NapkinDeedsLaw" (151 : Nat) ({ cls := "NapkinDeedsModel", name := "thrown", desc := "()I" } : Jvm.MethodName)) ∈ lw_all := lw_g (lw_at lw_m12 59 rfl) rfl
theorem q2851 : (Jvm.Cond.methodLink "NapkinDeedsLaw" (144 : Nat) ({ cls := "NapkinDeedsModel", name := "feed", desc := "(IIIII)I" } : Jvm.MethodName)) ∈ lw_all := lw_g (lw_at lw_m12 63 rfl) rfl
theorem q2855 : (Jvm.Cond.methodLink "NapkinDeedsLaw" (150 : Nat) ({ cls := "NapkinDeedsModel", name := "napkin", desc := "(I)I" } : Jvm.MethodName)) ∈ lw_all := lw_g (lw_at lw_m12 67 rfl) rfl
theorem q2989 : (Jvm.Cond.methodLink "NapkinDeedsLaw" (157 : Nat) ({ cls := "NapkinDeedsModel", name := "fault", desc := "(I)I" } : Jvm.MethodName)) ∈ lw_all := lw_g (lw_at lw_m12 201 rfl) rfl
theorem q2993 : (Jvm.Cond.methodLink "NapkinDeedsLaw" (161 : Nat) ({ cls := "NapkinDeedsModel", name := "cell", desc := "(II)I" } : Jvm.MethodName)) ∈ lw_all := lw_g (lw_at lw_m12 205 rfl) rfl
theorem q3039 : (Jvm.Cond.methodLink "NapkinDeedsLaw" (164 : Nat) ({ cls := "NapkinDeedsModel", name := "high", desc := "(I)I" } : Jvm.MethodName)) ∈ lw_all := lw_g (lw_at lw_m13 11 rfl) rfl
theorem q3047 : (Jvm.Cond.methodLink "NapkinDeedsLaw" (167 : Nat) ({ cls := "NapkinDeedsModel", name := "layer", desc := "(II)I" } : Jvm.MethodName)) ∈ lw_all := lw_g (lw_at lw_m13 19 rfl) rfl
theorem q3051 : (Jvm.Cond.methodLink "NapkinDeedsLaw" (170 : Nat) ({ cls := "NapkinDeedsModel", name := "above", desc := "(I)I" } : Jvm.MethodName)) ∈ lw_all := lw_g (lw_at lw_m13 23 rfl) rfl
theorem q3063 : (Jvm.Cond.methodLink "NapkinDeedsLaw" (173 : Nat) ({ cls := "NapkinDeedsModel", name := "beneath", desc := "(I)I" } : Jvm.MethodName)) ∈ lw_all := lw_g (lw_at lw_m13 35 rfl) rfl
theorem q3071 : (Jvm.Cond.methodLink "NapkinDeedsLaw" (176 : Nat) ({ cls := "NapkinDeedsModel", name := "crease", desc := "(I)I" } : Jvm.MethodName)) ∈ lw_all := lw_g (lw_at lw_m13 43 rfl) rfl
theorem q3080 : (Jvm.Cond.methodLink "NapkinDeedsLaw" (179 : Nat) ({ cls := "NapkinDeedsModel", name := "folded", desc := "(I)I" } : Jvm.MethodName)) ∈ lw_all := lw_g (lw_at lw_m13 52 rfl) rfl
theorem q3084 : (Jvm.Cond.methodLink "NapkinDeedsLaw" (183 : Nat) ({ cls := "NapkinDeedsModel", name := "worth", desc := "()I" } : Jvm.MethodName)) ∈ lw_all := lw_g (lw_at lw_m13 56 rfl) rfl
theorem q3126 : (Jvm.Cond.methodLink "NapkinDeedsLaw" (188 : Nat) ({ cls := "NapkinDeedsModel", name := "holds", desc := "()Z" } : Jvm.MethodName)) ∈ lw_all := lw_g (lw_at lw_m13 98 rfl) rfl
theorem q3134 : (Jvm.Cond.methodLink "NapkinDeedsLaw" (191 : Nat) ({ cls := "NapkinDeedsModel", name := "likes", desc := "(I)I" } : Jvm.MethodName)) ∈ lw_all := lw_g (lw_at lw_m13 106 rfl) rfl
theorem q3142 : (Jvm.Cond.methodLink "NapkinDeedsLaw" (195 : Nat) ({ cls := "NapkinDeedsModel", name := "fold", desc := "(II)I" } : Jvm.MethodName)) ∈ lw_all := lw_g (lw_at lw_m13 114 rfl) rfl
theorem q3159 : (Jvm.Cond.methodLink "NapkinDeedsLaw" (199 : Nat) ({ cls := "NapkinDeedsModel", name := "unfold", desc := "()I" } : Jvm.MethodName)) ∈ lw_all := lw_g (lw_at lw_m13 131 rfl) rfl
theorem q3163 : (Jvm.Cond.methodLink "NapkinDeedsLaw" (202 : Nat) ({ cls := "NapkinDeedsModel", name := "shake", desc := "()I" } : Jvm.MethodName)) ∈ lw_all := lw_g (lw_at lw_m13 135 rfl) rfl
theorem q3167 : (Jvm.Cond.methodLink "NapkinDeedsLaw" (206 : Nat) ({ cls := "NapkinDeedsModel", name := "amend", desc := "(III)I" } : Jvm.MethodName)) ∈ lw_all := lw_g (lw_at lw_m13 139 rfl) rfl
theorem q3172 : (Jvm.Cond.methodLink "NapkinDeedsLaw" (209 : Nat) ({ cls := "NapkinDeedsModel", name := "undo", desc := "(I)I" } : Jvm.MethodName)) ∈ lw_all := lw_g (lw_at lw_m13 144 rfl) rfl
theorem q3177 : (Jvm.Cond.methodLink "NapkinDeedsLaw" (212 : Nat) ({ cls := "NapkinDeedsModel", name := "judge", desc := "(II)I" } : Jvm.MethodName)) ∈ lw_all := lw_g (lw_at lw_m13 149 rfl) rfl
theorem q3211 : (Jvm.Cond.methodLink "NapkinDeedsLaw" (215 : Nat) ({ cls := "NapkinDeedsModel", name := "perform", desc := "(I)I" } : Jvm.MethodName)) ∈ lw_all := lw_g (lw_at lw_m13 183 rfl) rfl
theorem q3215 : (Jvm.Cond.methodLink "NapkinDeedsLaw" (218 : Nat) ({ cls := "NapkinDeedsModel", name := "evening", desc := "(II)I" } : Jvm.MethodName)) ∈ lw_all := lw_g (lw_at lw_m13 187 rfl) rfl
theorem q3229 : (Jvm.Cond.methodLink "NapkinDeedsLaw" (221 : Nat) ({ cls := "NapkinDeedsModel", name := "rows", desc := "(I)I" } : Jvm.MethodName)) ∈ lw_all := lw_g (lw_at lw_m13 201 rfl) rfl
theorem q3306 : (Jvm.Cond.methodLink "NapkinDeedsLaw" (224 : Nat) ({ cls := "NapkinDeedsModel", name := "looks", desc := "(I)I" } : Jvm.MethodName)) ∈ lw_all := lw_g (lw_at lw_m14 38 rfl) rfl
theorem q3319 : (Jvm.Cond.methodLink "NapkinDeedsLaw" (227 : Nat) ({ cls := "NapkinDeedsModel", name := "soonest", desc := "(I)I" } : Jvm.MethodName)) ∈ lw_all := lw_g (lw_at lw_m14 51 rfl) rfl
theorem q3331 : (Jvm.Cond.methodLink "NapkinDeedsLaw" (230 : Nat) ({ cls := "NapkinDeedsModel", name := "holding", desc := "(I)I" } : Jvm.MethodName)) ∈ lw_all := lw_g (lw_at lw_m14 63 rfl) rfl
theorem q3335 : (Jvm.Cond.methodLink "NapkinDeedsLaw" (233 : Nat) ({ cls := "NapkinDeedsModel", name := "best", desc := "(II)I" } : Jvm.MethodName)) ∈ lw_all := lw_g (lw_at lw_m14 67 rfl) rfl
theorem q3347 : (Jvm.Cond.methodLink "NapkinDeedsLaw" (236 : Nat) ({ cls := "NapkinDeedsModel", name := "reads", desc := "(II)I" } : Jvm.MethodName)) ∈ lw_all := lw_g (lw_at lw_m14 79 rfl) rfl
theorem q3356 : (Jvm.Cond.methodLink "NapkinDeedsLaw" (240 : Nat) ({ cls := "NapkinDeedsModel", name := "step", desc := "()I" } : Jvm.MethodName)) ∈ lw_all := lw_g (lw_at lw_m14 88 rfl) rfl
theorem q3360 : (Jvm.Cond.methodLink "NapkinDeedsLaw" (243 : Nat) ({ cls := "NapkinDeedsModel", name := "stands", desc := "(I)Z" } : Jvm.MethodName)) ∈ lw_all := lw_g (lw_at lw_m14 92 rfl) rfl
theorem q3375 : (Jvm.Cond.methodLink "NapkinDeedsLaw" (247 : Nat) ({ cls := "NapkinDeedsModel", name := "stacks", desc := "()I" } : Jvm.MethodName)) ∈ lw_all := lw_g (lw_at lw_m14 107 rfl) rfl
theorem q3386 : (Jvm.Cond.methodLink "NapkinDeedsLaw" (250 : Nat) ({ cls := "NapkinDeedsModel", name := "stack", desc := "(I)I" } : Jvm.MethodName)) ∈ lw_all := lw_g (lw_at lw_m14 118 rfl) rfl
theorem q3390 : (Jvm.Cond.methodLink "NapkinDeedsLaw" (254 : Nat) ({ cls := "NapkinDeedsModel", name := "simple", desc := "()I" } : Jvm.MethodName)) ∈ lw_all := lw_g (lw_at lw_m14 122 rfl) rfl
theorem q3398 : (Jvm.Cond.methodLink "NapkinDeedsLaw" (257 : Nat) ({ cls := "NapkinDeedsModel", name := "made", desc := "(I)I" } : Jvm.MethodName)) ∈ lw_all := lw_g (lw_at lw_m14 130 rfl) rfl
theorem q3407 : (Jvm.Cond.methodLink "NapkinDeedsLaw" (260 : Nat) ({ cls := "NapkinDeedsModel", name := "madeBy", desc := "(II)I" } : Jvm.MethodName)) ∈ lw_all := lw_g (lw_at lw_m14 139 rfl) rfl
theorem q3411 : (Jvm.Cond.methodLink "NapkinDeedsLaw" (264 : Nat) ({ cls := "NapkinDeedsModel", name := "patterns", desc := "()I" } : Jvm.MethodName)) ∈ lw_all := lw_g (lw_at lw_m14 143 rfl) rfl
theorem q3415 : (Jvm.Cond.methodLink "NapkinDeedsLaw" (268 : Nat) ({ cls := "NapkinDeedsModel", name := "refuse", desc := "()I" } : Jvm.MethodName)) ∈ lw_all := lw_g (lw_at lw_m14 147 rfl) rfl
theorem q3423 : (Jvm.Cond.methodLink "NapkinDeedsLaw" (271 : Nat) ({ cls := "NapkinDeedsModel", name := "fairest", desc := "(II)I" } : Jvm.MethodName)) ∈ lw_all := lw_g (lw_at lw_m14 155 rfl) rfl
theorem q3427 : (Jvm.Cond.methodLink "NapkinDeedsLaw" (274 : Nat) ({ cls := "NapkinDeedsModel", name := "better", desc := "(I)I" } : Jvm.MethodName)) ∈ lw_all := lw_g (lw_at lw_m14 159 rfl) rfl
theorem q3431 : (Jvm.Cond.methodLink "NapkinDeedsLaw" (277 : Nat) ({ cls := "NapkinDeedsModel", name := "keenest", desc := "(I)I" } : Jvm.MethodName)) ∈ lw_all := lw_g (lw_at lw_m14 163 rfl) rfl
theorem q3435 : (Jvm.Cond.methodLink "NapkinDeedsLaw" (280 : Nat) ({ cls := "NapkinDeedsModel", name := "seen", desc := "(II)I" } : Jvm.MethodName)) ∈ lw_all := lw_g (lw_at lw_m14 167 rfl) rfl
theorem q3447 : (Jvm.Cond.methodLink "NapkinDeedsLaw" (283 : Nat) ({ cls := "NapkinDeedsModel", name := "sure", desc := "(II)I" } : Jvm.MethodName)) ∈ lw_all := lw_g (lw_at lw_m14 179 rfl) rfl
theorem q3451 : (Jvm.Cond.methodLink "NapkinDeedsLaw" (286 : Nat) ({ cls := "NapkinDeedsModel", name := "look", desc := "(II)I" } : Jvm.MethodName)) ∈ lw_all := lw_g (lw_at lw_m14 183 rfl) rfl
theorem q3455 : (Jvm.Cond.methodLink "NapkinDeedsLaw" (290 : Nat) ({ cls := "NapkinDeedsModel", name := "tray", desc := "(III)V" } : Jvm.MethodName)) ∈ lw_all := lw_g (lw_at lw_m14 187 rfl) rfl
theorem q3459 : (Jvm.Cond.methodLink "NapkinDeedsLaw" (296 : Nat) ({ cls := "NapkinDeedsModel", name := "write", desc := "(IIJ)J" } : Jvm.MethodName)) ∈ lw_all := lw_g (lw_at lw_m14 191 rfl) rfl
theorem q3467 : (Jvm.Cond.methodLink "NapkinDeedsLaw" (299 : Nat) ({ cls := "NapkinDeedsModel", name := "copy", desc := "(I)I" } : Jvm.MethodName)) ∈ lw_all := lw_g (lw_at lw_m14 199 rfl) rfl
theorem q3471 : (Jvm.Cond.methodLink "NapkinDeedsLaw" (303 : Nat) ({ cls := "NapkinDeedsModel", name := "image", desc := "(I)V" } : Jvm.MethodName)) ∈ lw_all := lw_g (lw_at lw_m14 203 rfl) rfl
theorem q3475 : (Jvm.Cond.methodLink "NapkinDeedsLaw" (306 : Nat) ({ cls := "NapkinDeedsModel", name := "restore", desc := "(I)V" } : Jvm.MethodName)) ∈ lw_all := lw_g (lw_at lw_m14 207 rfl) rfl
theorem q3479 : (Jvm.Cond.methodLink "NapkinDeedsLaw" (310 : Nat) ({ cls := "NapkinDeedsModel", name := "count", desc := "(I)I" } : Jvm.MethodName)) ∈ lw_all := lw_g (lw_at lw_m14 211 rfl) rfl
theorem q3483 : (Jvm.Cond.constantLong "NapkinDeedsLaw" (291 : Nat) (4294967295 : Int64)) ∈ lw_all := lw_g (lw_at lw_m14 215 rfl) rfl
/-! the law's own entry -/
set_option maxRecDepth 100000
abbrev cL_law : ByteArray := code
def dkwL_law_109 : List UInt8 := [167, 245, 107, 4, 172]
abbrev dktL_law_109 : List UInt8 := dkwL_law_109 ++ []
def dkwL_law_108 : List UInt8 := [4, 96, 46, 182, 1, 51, 44, 42, 21, 4, 4, 96, 46, 182, 1, 54, 159, 0, 5, 3, 172, 132, 4, 6]
abbrev dktL_law_108 : List UInt8 := dkwL_law_108 ++ dktL_law_109
def dkwL_law_107 : List UInt8 := [4, 96, 46, 182, 1, 50, 44, 182, 0, 151, 21, 5, 159, 0, 5, 3, 172, 167, 0, 28, 43, 42, 21, 4]
abbrev dktL_law_107 : List UInt8 := dkwL_law_107 ++ dktL_law_108
def dkwL_law_106 : List UInt8 := [159, 0, 5, 3, 172, 167, 0, 64, 43, 42, 21, 4, 4, 96, 46, 184, 1, 48, 54, 5, 44, 42, 21, 4]
abbrev dktL_law_106 : List UInt8 := dkwL_law_106 ++ dktL_law_107
def dkwL_law_105 : List UInt8 := [4, 96, 46, 184, 1, 44, 54, 5, 44, 42, 21, 4, 4, 96, 46, 182, 1, 47, 44, 182, 0, 151, 21, 5]
abbrev dktL_law_105 : List UInt8 := dkwL_law_105 ++ dktL_law_106
def dkwL_law_104 : List UInt8 := [21, 5, 154, 0, 15, 45, 3, 47, 21, 6, 133, 148, 153, 0, 5, 3, 172, 167, 0, 100, 43, 42, 21, 4]
abbrev dktL_law_104 : List UInt8 := dkwL_law_104 ++ dktL_law_105
def dkwL_law_103 : List UInt8 := [44, 42, 21, 4, 4, 96, 46, 182, 1, 43, 54, 6, 44, 182, 0, 151, 21, 5, 159, 0, 5, 3, 172]
abbrev dktL_law_103 : List UInt8 := dkwL_law_103 ++ dktL_law_104
def dkwL_law_102 : List UInt8 := [22, 6, 148, 153, 0, 5, 3, 172, 167, 0, 156, 43, 42, 21, 4, 4, 96, 46, 45, 184, 1, 41, 54, 5]
abbrev dktL_law_102 : List UInt8 := dkwL_law_102 ++ dktL_law_103
def dkwL_law_101 : List UInt8 := [182, 1, 40, 55, 6, 44, 182, 0, 151, 21, 5, 159, 0, 5, 3, 172, 21, 5, 154, 0, 14, 45, 3, 47]
abbrev dktL_law_101 : List UInt8 := dkwL_law_101 ++ dktL_law_102
def dkwL_law_100 : List UInt8 := [96, 46, 42, 21, 4, 6, 96, 46, 133, 16, 32, 121, 42, 21, 4, 7, 96, 46, 133, 20, 1, 35, 127, 129]
abbrev dktL_law_100 : List UInt8 := dkwL_law_100 ++ dktL_law_101
def dkwL_law_99 : List UInt8 := [46, 133, 20, 1, 35, 127, 129, 45, 184, 1, 37, 54, 5, 44, 42, 21, 4, 4, 96, 46, 42, 21, 4, 5]
abbrev dktL_law_99 : List UInt8 := dkwL_law_99 ++ dktL_law_100
def dkwL_law_98 : List UInt8 := [4, 96, 46, 42, 21, 4, 5, 96, 46, 42, 21, 4, 6, 96, 46, 133, 16, 32, 121, 42, 21, 4, 7, 96]
abbrev dktL_law_98 : List UInt8 := dkwL_law_98 ++ dktL_law_99
def dkwL_law_97 : List UInt8 := [6, 96, 46, 182, 1, 34, 44, 182, 0, 151, 21, 5, 159, 0, 5, 3, 172, 167, 1, 11, 43, 42, 21, 4]
abbrev dktL_law_97 : List UInt8 := dkwL_law_97 ++ dktL_law_98
def dkwL_law_96 : List UInt8 := [6, 96, 46, 184, 1, 31, 54, 5, 44, 42, 21, 4, 4, 96, 46, 42, 21, 4, 5, 96, 46, 42, 21, 4]
abbrev dktL_law_96 : List UInt8 := dkwL_law_96 ++ dktL_law_97
def dkwL_law_95 : List UInt8 := [153, 0, 5, 3, 172, 167, 1, 71, 43, 42, 21, 4, 4, 96, 46, 42, 21, 4, 5, 96, 46, 42, 21, 4]
abbrev dktL_law_95 : List UInt8 := dkwL_law_95 ++ dktL_law_96
def dkwL_law_94 : List UInt8 := [182, 0, 151, 21, 5, 159, 0, 5, 3, 172, 21, 5, 154, 0, 15, 45, 3, 47, 21, 6, 133, 148]
abbrev dktL_law_94 : List UInt8 := dkwL_law_94 ++ dktL_law_95
def dkwL_law_93 : List UInt8 := [184, 1, 28, 54, 5, 44, 42, 21, 4, 4, 96, 46, 42, 21, 4, 5, 96, 46, 182, 1, 30, 54, 6, 44]
abbrev dktL_law_93 : List UInt8 := dkwL_law_93 ++ dktL_law_94
def dkwL_law_92 : List UInt8 := [153, 0, 5, 3, 172, 167, 1, 139, 43, 42, 21, 4, 4, 96, 46, 42, 21, 4, 5, 96, 46, 45]
abbrev dktL_law_92 : List UInt8 := dkwL_law_92 ++ dktL_law_93
def dkwL_law_91 : List UInt8 := [182, 0, 151, 21, 5, 159, 0, 5, 3, 172, 21, 5, 154, 0, 15, 45, 3, 47, 21, 6, 133, 148]
abbrev dktL_law_91 : List UInt8 := dkwL_law_91 ++ dktL_law_92
def dkwL_law_90 : List UInt8 := [184, 1, 25, 54, 5, 44, 42, 21, 4, 4, 96, 46, 42, 21, 4, 5, 96, 46, 182, 1, 27, 54, 6, 44]
abbrev dktL_law_90 : List UInt8 := dkwL_law_90 ++ dktL_law_91
def dkwL_law_89 : List UInt8 := [148, 153, 0, 5, 3, 172, 167, 1, 207, 43, 42, 21, 4, 4, 96, 46, 42, 21, 4, 5, 96, 46, 45]
abbrev dktL_law_89 : List UInt8 := dkwL_law_89 ++ dktL_law_90
def dkwL_law_88 : List UInt8 := [54, 6, 44, 182, 0, 151, 21, 5, 159, 0, 5, 3, 172, 21, 5, 154, 0, 15, 45, 3, 47, 21, 6, 133]
abbrev dktL_law_88 : List UInt8 := dkwL_law_88 ++ dktL_law_89
def dkwL_law_87 : List UInt8 := [46, 45, 184, 1, 22, 54, 5, 44, 42, 21, 4, 4, 96, 46, 42, 21, 4, 5, 96, 46, 182, 1, 24]
abbrev dktL_law_87 : List UInt8 := dkwL_law_87 ++ dktL_law_88
def dkwL_law_86 : List UInt8 := [21, 6, 133, 148, 153, 0, 5, 3, 172, 167, 2, 19, 43, 42, 21, 4, 4, 96, 46, 42, 21, 4, 5, 96]
abbrev dktL_law_86 : List UInt8 := dkwL_law_86 ++ dktL_law_87
def dkwL_law_85 : List UInt8 := [182, 1, 21, 54, 6, 44, 182, 0, 151, 21, 5, 159, 0, 5, 3, 172, 21, 5, 154, 0, 15, 45, 3, 47]
abbrev dktL_law_85 : List UInt8 := dkwL_law_85 ++ dktL_law_86
def dkwL_law_84 : List UInt8 := [167, 2, 75, 43, 42, 21, 4, 4, 96, 46, 45, 184, 1, 19, 54, 5, 44, 42, 21, 4, 4, 96, 46]
abbrev dktL_law_84 : List UInt8 := dkwL_law_84 ++ dktL_law_85
def dkwL_law_83 : List UInt8 := [159, 0, 5, 3, 172, 21, 5, 154, 0, 15, 45, 3, 47, 21, 6, 133, 148, 153, 0, 5, 3, 172]
abbrev dktL_law_83 : List UInt8 := dkwL_law_83 ++ dktL_law_84
def dkwL_law_82 : List UInt8 := [184, 1, 16, 54, 5, 44, 42, 21, 4, 4, 96, 46, 182, 1, 18, 54, 6, 44, 182, 0, 151, 21, 5]
abbrev dktL_law_82 : List UInt8 := dkwL_law_82 ++ dktL_law_83
def dkwL_law_81 : List UInt8 := [3, 47, 21, 6, 133, 148, 153, 0, 5, 3, 172, 167, 2, 131, 43, 42, 21, 4, 4, 96, 46, 45]
abbrev dktL_law_81 : List UInt8 := dkwL_law_81 ++ dktL_law_82
def dkwL_law_80 : List UInt8 := [96, 46, 182, 1, 15, 54, 6, 44, 182, 0, 151, 21, 5, 159, 0, 5, 3, 172, 21, 5, 154, 0, 15, 45]
abbrev dktL_law_80 : List UInt8 := dkwL_law_80 ++ dktL_law_81
def dkwL_law_79 : List UInt8 := [46, 42, 21, 4, 5, 96, 46, 45, 184, 1, 13, 54, 5, 44, 42, 21, 4, 4, 96, 46, 42, 21, 4, 5]
abbrev dktL_law_79 : List UInt8 := dkwL_law_79 ++ dktL_law_80
def dkwL_law_78 : List UInt8 := [159, 2, 214, 3, 172, 43, 182, 1, 9, 44, 182, 1, 12, 159, 2, 201, 3, 172, 43, 42, 21, 4, 4, 96]
abbrev dktL_law_78 : List UInt8 := dkwL_law_78 ++ dktL_law_79
def dkwL_law_77 : List UInt8 := [3, 47, 21, 6, 133, 148, 153, 0, 5, 3, 172, 167, 2, 225, 43, 182, 1, 5, 44, 182, 1, 8]
abbrev dktL_law_77 : List UInt8 := dkwL_law_77 ++ dktL_law_78
def dkwL_law_76 : List UInt8 := [96, 46, 182, 1, 4, 54, 6, 44, 182, 0, 151, 21, 5, 159, 0, 5, 3, 172, 21, 5, 154, 0, 15, 45]
abbrev dktL_law_76 : List UInt8 := dkwL_law_76 ++ dktL_law_77
def dkwL_law_75 : List UInt8 := [46, 42, 21, 4, 5, 96, 46, 45, 184, 1, 2, 54, 5, 44, 42, 21, 4, 4, 96, 46, 42, 21, 4, 5]
abbrev dktL_law_75 : List UInt8 := dkwL_law_75 ++ dktL_law_76
def dkwL_law_74 : List UInt8 := [154, 0, 15, 45, 3, 47, 21, 6, 133, 148, 153, 0, 5, 3, 172, 167, 3, 37, 43, 42, 21, 4, 4, 96]
abbrev dktL_law_74 : List UInt8 := dkwL_law_74 ++ dktL_law_75
def dkwL_law_73 : List UInt8 := [21, 4, 4, 96, 46, 182, 1, 1, 54, 6, 44, 182, 0, 151, 21, 5, 159, 0, 5, 3, 172, 21, 5]
abbrev dktL_law_73 : List UInt8 := dkwL_law_73 ++ dktL_law_74
def dkwL_law_72 : List UInt8 := [182, 0, 254, 159, 3, 95, 3, 172, 43, 42, 21, 4, 4, 96, 46, 45, 184, 0, 255, 54, 5, 44, 42]
abbrev dktL_law_72 : List UInt8 := dkwL_law_72 ++ dktL_law_73
def dkwL_law_71 : List UInt8 := [154, 0, 15, 45, 3, 47, 21, 6, 133, 148, 153, 0, 5, 3, 172, 167, 3, 106, 43, 182, 0, 251, 44]
abbrev dktL_law_71 : List UInt8 := dkwL_law_71 ++ dktL_law_72
def dkwL_law_70 : List UInt8 := [21, 4, 4, 96, 46, 182, 0, 250, 54, 6, 44, 182, 0, 151, 21, 5, 159, 0, 5, 3, 172, 21, 5]
abbrev dktL_law_70 : List UInt8 := dkwL_law_70 ++ dktL_law_71
def dkwL_law_69 : List UInt8 := [44, 182, 0, 247, 159, 3, 164, 3, 172, 43, 42, 21, 4, 4, 96, 46, 45, 184, 0, 248, 54, 5, 44, 42]
abbrev dktL_law_69 : List UInt8 := dkwL_law_69 ++ dktL_law_70
def dkwL_law_68 : List UInt8 := [47, 21, 6, 153, 0, 7, 10, 167, 0, 4, 9, 148, 153, 0, 5, 3, 172, 167, 3, 175, 43, 182, 0, 244]
abbrev dktL_law_68 : List UInt8 := dkwL_law_68 ++ dktL_law_69
def dkwL_law_67 : List UInt8 := [46, 182, 0, 243, 54, 6, 44, 182, 0, 151, 21, 5, 159, 0, 5, 3, 172, 21, 5, 154, 0, 22, 45, 3]
abbrev dktL_law_67 : List UInt8 := dkwL_law_67 ++ dktL_law_68
def dkwL_law_66 : List UInt8 := [159, 3, 240, 3, 172, 43, 42, 21, 4, 4, 96, 46, 45, 184, 0, 241, 54, 5, 44, 42, 21, 4, 4, 96]
abbrev dktL_law_66 : List UInt8 := dkwL_law_66 ++ dktL_law_67
def dkwL_law_65 : List UInt8 := [3, 47, 21, 6, 133, 148, 153, 0, 5, 3, 172, 167, 3, 251, 43, 182, 0, 237, 44, 182, 0, 240]
abbrev dktL_law_65 : List UInt8 := dkwL_law_65 ++ dktL_law_66
def dkwL_law_64 : List UInt8 := [96, 46, 182, 0, 236, 54, 6, 44, 182, 0, 151, 21, 5, 159, 0, 5, 3, 172, 21, 5, 154, 0, 15, 45]
abbrev dktL_law_64 : List UInt8 := dkwL_law_64 ++ dktL_law_65
def dkwL_law_63 : List UInt8 := [46, 42, 21, 4, 5, 96, 46, 45, 184, 0, 234, 54, 5, 44, 42, 21, 4, 4, 96, 46, 42, 21, 4, 5]
abbrev dktL_law_63 : List UInt8 := dkwL_law_63 ++ dktL_law_64
def dkwL_law_62 : List UInt8 := [154, 0, 15, 45, 3, 47, 21, 6, 133, 148, 153, 0, 5, 3, 172, 167, 4, 63, 43, 42, 21, 4, 4, 96]
abbrev dktL_law_62 : List UInt8 := dkwL_law_62 ++ dktL_law_63
def dkwL_law_61 : List UInt8 := [42, 21, 4, 5, 96, 46, 182, 0, 233, 54, 6, 44, 182, 0, 151, 21, 5, 159, 0, 5, 3, 172, 21, 5]
abbrev dktL_law_61 : List UInt8 := dkwL_law_61 ++ dktL_law_62
def dkwL_law_60 : List UInt8 := [21, 4, 4, 96, 46, 42, 21, 4, 5, 96, 46, 45, 184, 0, 231, 54, 5, 44, 42, 21, 4, 4, 96, 46]
abbrev dktL_law_60 : List UInt8 := dkwL_law_60 ++ dktL_law_61
def dkwL_law_59 : List UInt8 := [172, 21, 5, 154, 0, 15, 45, 3, 47, 21, 6, 133, 148, 153, 0, 5, 3, 172, 167, 4, 131, 43, 42]
abbrev dktL_law_59 : List UInt8 := dkwL_law_59 ++ dktL_law_60
def dkwL_law_58 : List UInt8 := [54, 5, 44, 42, 21, 4, 4, 96, 46, 182, 0, 230, 54, 6, 44, 182, 0, 151, 21, 5, 159, 0, 5, 3]
abbrev dktL_law_58 : List UInt8 := dkwL_law_58 ++ dktL_law_59
def dkwL_law_57 : List UInt8 := [21, 6, 133, 148, 153, 0, 5, 3, 172, 167, 4, 187, 43, 42, 21, 4, 4, 96, 46, 45, 184, 0, 228]
abbrev dktL_law_57 : List UInt8 := dkwL_law_57 ++ dktL_law_58
def dkwL_law_56 : List UInt8 := [182, 0, 227, 54, 6, 44, 182, 0, 151, 21, 5, 159, 0, 5, 3, 172, 21, 5, 154, 0, 15, 45, 3, 47]
abbrev dktL_law_56 : List UInt8 := dkwL_law_56 ++ dktL_law_57
def dkwL_law_55 : List UInt8 := [167, 4, 243, 43, 42, 21, 4, 4, 96, 46, 45, 184, 0, 225, 54, 5, 44, 42, 21, 4, 4, 96, 46]
abbrev dktL_law_55 : List UInt8 := dkwL_law_55 ++ dktL_law_56
def dkwL_law_54 : List UInt8 := [21, 5, 159, 0, 5, 3, 172, 21, 5, 154, 0, 15, 45, 3, 47, 21, 6, 133, 148, 153, 0, 5, 3, 172]
abbrev dktL_law_54 : List UInt8 := dkwL_law_54 ++ dktL_law_55
def dkwL_law_53 : List UInt8 := [46, 45, 184, 0, 222, 54, 5, 44, 42, 21, 4, 4, 96, 46, 182, 0, 224, 54, 6, 44, 182, 0, 151]
abbrev dktL_law_53 : List UInt8 := dkwL_law_53 ++ dktL_law_54
def dkwL_law_52 : List UInt8 := [154, 0, 15, 45, 3, 47, 21, 6, 133, 148, 153, 0, 5, 3, 172, 167, 5, 43, 43, 42, 21, 4, 4, 96]
abbrev dktL_law_52 : List UInt8 := dkwL_law_52 ++ dktL_law_53
def dkwL_law_51 : List UInt8 := [21, 4, 4, 96, 46, 182, 0, 221, 54, 6, 44, 182, 0, 151, 21, 5, 159, 0, 5, 3, 172, 21, 5]
abbrev dktL_law_51 : List UInt8 := dkwL_law_51 ++ dktL_law_52
def dkwL_law_50 : List UInt8 := [148, 153, 0, 5, 3, 172, 167, 5, 99, 43, 42, 21, 4, 4, 96, 46, 45, 184, 0, 219, 54, 5, 44, 42]
abbrev dktL_law_50 : List UInt8 := dkwL_law_50 ++ dktL_law_51
def dkwL_law_49 : List UInt8 := [54, 6, 44, 182, 0, 151, 21, 5, 159, 0, 5, 3, 172, 21, 5, 154, 0, 15, 45, 3, 47, 21, 6, 133]
abbrev dktL_law_49 : List UInt8 := dkwL_law_49 ++ dktL_law_50
def dkwL_law_48 : List UInt8 := [46, 45, 184, 0, 216, 54, 5, 44, 42, 21, 4, 4, 96, 46, 42, 21, 4, 5, 96, 46, 182, 0, 218]
abbrev dktL_law_48 : List UInt8 := dkwL_law_48 ++ dktL_law_49
def dkwL_law_47 : List UInt8 := [21, 6, 133, 148, 153, 0, 5, 3, 172, 167, 5, 167, 43, 42, 21, 4, 4, 96, 46, 42, 21, 4, 5, 96]
abbrev dktL_law_47 : List UInt8 := dkwL_law_47 ++ dktL_law_48
def dkwL_law_46 : List UInt8 := [182, 0, 215, 54, 6, 44, 182, 0, 151, 21, 5, 159, 0, 5, 3, 172, 21, 5, 154, 0, 15, 45, 3, 47]
abbrev dktL_law_46 : List UInt8 := dkwL_law_46 ++ dktL_law_47
def dkwL_law_45 : List UInt8 := [167, 5, 223, 43, 42, 21, 4, 4, 96, 46, 45, 184, 0, 213, 54, 5, 44, 42, 21, 4, 4, 96, 46]
abbrev dktL_law_45 : List UInt8 := dkwL_law_45 ++ dktL_law_46
def dkwL_law_44 : List UInt8 := [159, 0, 5, 3, 172, 21, 5, 154, 0, 15, 45, 3, 47, 21, 6, 133, 148, 153, 0, 5, 3, 172]
abbrev dktL_law_44 : List UInt8 := dkwL_law_44 ++ dktL_law_45
def dkwL_law_43 : List UInt8 := [21, 4, 4, 96, 46, 42, 21, 4, 5, 96, 46, 182, 0, 212, 54, 6, 44, 182, 0, 151, 21, 5]
abbrev dktL_law_43 : List UInt8 := dkwL_law_43 ++ dktL_law_44
def dkwL_law_42 : List UInt8 := [167, 6, 35, 43, 42, 21, 4, 4, 96, 46, 42, 21, 4, 5, 96, 46, 45, 184, 0, 210, 54, 5, 44, 42]
abbrev dktL_law_42 : List UInt8 := dkwL_law_42 ++ dktL_law_43
def dkwL_law_41 : List UInt8 := [21, 5, 159, 0, 5, 3, 172, 21, 5, 154, 0, 15, 45, 3, 47, 21, 6, 133, 148, 153, 0, 5, 3, 172]
abbrev dktL_law_41 : List UInt8 := dkwL_law_41 ++ dktL_law_42
def dkwL_law_40 : List UInt8 := [46, 45, 184, 0, 207, 54, 5, 44, 42, 21, 4, 4, 96, 46, 182, 0, 209, 54, 6, 44, 182, 0, 151]
abbrev dktL_law_40 : List UInt8 := dkwL_law_40 ++ dktL_law_41
def dkwL_law_39 : List UInt8 := [154, 0, 15, 45, 3, 47, 21, 6, 133, 148, 153, 0, 5, 3, 172, 167, 6, 91, 43, 42, 21, 4, 4, 96]
abbrev dktL_law_39 : List UInt8 := dkwL_law_39 ++ dktL_law_40
def dkwL_law_38 : List UInt8 := [21, 4, 6, 96, 46, 182, 0, 206, 54, 6, 44, 182, 0, 151, 21, 5, 159, 0, 5, 3, 172, 21, 5]
abbrev dktL_law_38 : List UInt8 := dkwL_law_38 ++ dktL_law_39
def dkwL_law_37 : List UInt8 := [6, 96, 46, 45, 184, 0, 203, 54, 5, 44, 42, 21, 4, 4, 96, 46, 42, 21, 4, 5, 96, 46, 42]
abbrev dktL_law_37 : List UInt8 := dkwL_law_37 ++ dktL_law_38
def dkwL_law_36 : List UInt8 := [153, 0, 5, 3, 172, 167, 6, 171, 43, 42, 21, 4, 4, 96, 46, 42, 21, 4, 5, 96, 46, 42, 21, 4]
abbrev dktL_law_36 : List UInt8 := dkwL_law_36 ++ dktL_law_37
def dkwL_law_35 : List UInt8 := [182, 0, 151, 21, 5, 159, 0, 5, 3, 172, 21, 5, 154, 0, 15, 45, 3, 47, 21, 6, 133, 148]
abbrev dktL_law_35 : List UInt8 := dkwL_law_35 ++ dktL_law_36
def dkwL_law_34 : List UInt8 := [153, 0, 5, 3, 172, 167, 6, 215, 43, 45, 184, 0, 200, 54, 5, 44, 182, 0, 202, 54, 6, 44]
abbrev dktL_law_34 : List UInt8 := dkwL_law_34 ++ dktL_law_35
def dkwL_law_33 : List UInt8 := [44, 182, 0, 151, 21, 5, 159, 0, 5, 3, 172, 21, 5, 154, 0, 15, 45, 3, 47, 21, 6, 133, 148]
abbrev dktL_law_33 : List UInt8 := dkwL_law_33 ++ dktL_law_34
def dkwL_law_32 : List UInt8 := [5, 96, 46, 182, 0, 195, 159, 7, 5, 3, 172, 43, 45, 184, 0, 196, 54, 5, 44, 182, 0, 199, 54, 6]
abbrev dktL_law_32 : List UInt8 := dkwL_law_32 ++ dktL_law_33
def dkwL_law_31 : List UInt8 := [21, 4, 4, 96, 46, 42, 21, 4, 5, 96, 46, 182, 0, 192, 44, 42, 21, 4, 4, 96, 46, 42, 21, 4]
abbrev dktL_law_31 : List UInt8 := dkwL_law_31 ++ dktL_law_32
def dkwL_law_30 : List UInt8 := [172, 21, 5, 154, 0, 15, 45, 3, 47, 21, 6, 133, 148, 153, 0, 5, 3, 172, 167, 7, 40, 43, 42]
abbrev dktL_law_30 : List UInt8 := dkwL_law_30 ++ dktL_law_31
def dkwL_law_29 : List UInt8 := [54, 5, 44, 42, 21, 4, 4, 96, 46, 182, 0, 191, 54, 6, 44, 182, 0, 151, 21, 5, 159, 0, 5, 3]
abbrev dktL_law_29 : List UInt8 := dkwL_law_29 ++ dktL_law_30
def dkwL_law_28 : List UInt8 := [182, 0, 184, 44, 182, 0, 188, 159, 7, 98, 3, 172, 43, 42, 21, 4, 4, 96, 46, 45, 184, 0, 189]
abbrev dktL_law_28 : List UInt8 := dkwL_law_28 ++ dktL_law_29
def dkwL_law_27 : List UInt8 := [153, 0, 5, 3, 172, 167, 7, 122, 43, 182, 0, 180, 44, 182, 0, 183, 159, 7, 111, 3, 172, 43]
abbrev dktL_law_27 : List UInt8 := dkwL_law_27 ++ dktL_law_28
def dkwL_law_26 : List UInt8 := [182, 0, 151, 21, 5, 159, 0, 5, 3, 172, 21, 5, 154, 0, 15, 45, 3, 47, 21, 6, 133, 148]
abbrev dktL_law_26 : List UInt8 := dkwL_law_26 ++ dktL_law_27
def dkwL_law_25 : List UInt8 := [21, 4, 4, 96, 46, 45, 184, 0, 177, 54, 5, 44, 42, 21, 4, 4, 96, 46, 182, 0, 179, 54, 6, 44]
abbrev dktL_law_25 : List UInt8 := dkwL_law_25 ++ dktL_law_26
def dkwL_law_24 : List UInt8 := [172, 21, 5, 154, 0, 15, 45, 3, 47, 21, 6, 133, 148, 153, 0, 5, 3, 172, 167, 7, 178, 43, 42]
abbrev dktL_law_24 : List UInt8 := dkwL_law_24 ++ dktL_law_25
def dkwL_law_23 : List UInt8 := [54, 5, 44, 42, 21, 4, 4, 96, 46, 182, 0, 176, 54, 6, 44, 182, 0, 151, 21, 5, 159, 0, 5, 3]
abbrev dktL_law_23 : List UInt8 := dkwL_law_23 ++ dktL_law_24
def dkwL_law_22 : List UInt8 := [21, 6, 133, 148, 153, 0, 5, 3, 172, 167, 7, 234, 43, 42, 21, 4, 4, 96, 46, 45, 184, 0, 174]
abbrev dktL_law_22 : List UInt8 := dkwL_law_22 ++ dktL_law_23
def dkwL_law_21 : List UInt8 := [182, 0, 173, 54, 6, 44, 182, 0, 151, 21, 5, 159, 0, 5, 3, 172, 21, 5, 154, 0, 15, 45, 3, 47]
abbrev dktL_law_21 : List UInt8 := dkwL_law_21 ++ dktL_law_22
def dkwL_law_20 : List UInt8 := [167, 8, 34, 43, 42, 21, 4, 4, 96, 46, 45, 184, 0, 171, 54, 5, 44, 42, 21, 4, 4, 96, 46]
abbrev dktL_law_20 : List UInt8 := dkwL_law_20 ++ dktL_law_21
def dkwL_law_19 : List UInt8 := [159, 0, 5, 3, 172, 21, 5, 154, 0, 15, 45, 3, 47, 21, 6, 133, 148, 153, 0, 5, 3, 172]
abbrev dktL_law_19 : List UInt8 := dkwL_law_19 ++ dktL_law_20
def dkwL_law_18 : List UInt8 := [184, 0, 168, 54, 5, 44, 42, 21, 4, 4, 96, 46, 182, 0, 170, 54, 6, 44, 182, 0, 151, 21, 5]
abbrev dktL_law_18 : List UInt8 := dkwL_law_18 ++ dktL_law_19
def dkwL_law_17 : List UInt8 := [3, 47, 21, 6, 133, 148, 153, 0, 5, 3, 172, 167, 8, 90, 43, 42, 21, 4, 4, 96, 46, 45]
abbrev dktL_law_17 : List UInt8 := dkwL_law_17 ++ dktL_law_18
def dkwL_law_16 : List UInt8 := [96, 46, 182, 0, 167, 54, 6, 44, 182, 0, 151, 21, 5, 159, 0, 5, 3, 172, 21, 5, 154, 0, 15, 45]
abbrev dktL_law_16 : List UInt8 := dkwL_law_16 ++ dktL_law_17
def dkwL_law_15 : List UInt8 := [46, 42, 21, 4, 5, 96, 46, 45, 184, 0, 165, 54, 5, 44, 42, 21, 4, 4, 96, 46, 42, 21, 4, 5]
abbrev dktL_law_15 : List UInt8 := dkwL_law_15 ++ dktL_law_16
def dkwL_law_14 : List UInt8 := [154, 0, 15, 45, 3, 47, 21, 6, 133, 148, 153, 0, 5, 3, 172, 167, 8, 158, 43, 42, 21, 4, 4, 96]
abbrev dktL_law_14 : List UInt8 := dkwL_law_14 ++ dktL_law_15
def dkwL_law_13 : List UInt8 := [21, 4, 4, 96, 46, 182, 0, 164, 54, 6, 44, 182, 0, 151, 21, 5, 159, 0, 5, 3, 172, 21, 5]
abbrev dktL_law_13 : List UInt8 := dkwL_law_13 ++ dktL_law_14
def dkwL_law_12 : List UInt8 := [153, 0, 5, 3, 172, 167, 8, 214, 43, 42, 21, 4, 4, 96, 46, 45, 184, 0, 162, 54, 5, 44, 42]
abbrev dktL_law_12 : List UInt8 := dkwL_law_12 ++ dktL_law_13
def dkwL_law_11 : List UInt8 := [182, 0, 151, 21, 5, 159, 0, 5, 3, 172, 21, 5, 154, 0, 15, 45, 3, 47, 21, 6, 133, 148]
abbrev dktL_law_11 : List UInt8 := dkwL_law_11 ++ dktL_law_12
def dkwL_law_10 : List UInt8 := [184, 0, 158, 54, 5, 44, 42, 21, 4, 4, 96, 46, 42, 21, 4, 5, 96, 46, 182, 0, 161, 54, 6, 44]
abbrev dktL_law_10 : List UInt8 := dkwL_law_10 ++ dktL_law_11
def dkwL_law_9 : List UInt8 := [96, 46, 182, 0, 157, 159, 9, 28, 3, 172, 43, 42, 21, 4, 4, 96, 46, 42, 21, 4, 5, 96, 46, 45]
abbrev dktL_law_9 : List UInt8 := dkwL_law_9 ++ dktL_law_10
def dkwL_law_8 : List UInt8 := [148, 153, 0, 5, 3, 172, 167, 9, 51, 43, 42, 21, 4, 4, 96, 46, 182, 0, 154, 44, 42, 21, 4, 4]
abbrev dktL_law_8 : List UInt8 := dkwL_law_8 ++ dktL_law_9
def dkwL_law_7 : List UInt8 := [54, 6, 44, 182, 0, 151, 21, 5, 159, 0, 5, 3, 172, 21, 5, 154, 0, 15, 45, 3, 47, 21, 6, 133]
abbrev dktL_law_7 : List UInt8 := dkwL_law_7 ++ dktL_law_8
def dkwL_law_6 : List UInt8 := [172, 43, 42, 21, 4, 4, 96, 46, 45, 184, 0, 145, 54, 5, 44, 42, 21, 4, 4, 96, 46, 182, 0, 150]
abbrev dktL_law_6 : List UInt8 := dkwL_law_6 ++ dktL_law_7
def dkwL_law_5 : List UInt8 := [21, 4, 6, 96, 46, 42, 21, 4, 7, 96, 46, 42, 21, 4, 8, 96, 46, 182, 0, 144, 159, 9, 109, 3]
abbrev dktL_law_5 : List UInt8 := dkwL_law_5 ++ dktL_law_6
def dkwL_law_4 : List UInt8 := [46, 42, 21, 4, 8, 96, 46, 182, 0, 140, 44, 42, 21, 4, 4, 96, 46, 42, 21, 4, 5, 96, 46, 42]
abbrev dktL_law_4 : List UInt8 := dkwL_law_4 ++ dktL_law_5
def dkwL_law_3 : List UInt8 := [43, 42, 21, 4, 4, 96, 46, 42, 21, 4, 5, 96, 46, 42, 21, 4, 6, 96, 46, 42, 21, 4, 7, 96]
abbrev dktL_law_3 : List UInt8 := dkwL_law_3 ++ dktL_law_4
def dkwL_law_2 : List UInt8 := [170, 0, 0, 0, 0, 0, 10, 129, 0, 0, 0, 0, 0, 0, 0, 47, 0, 0, 0, 208, 0, 0, 1, 25, 0, 0, 1, 81, 0, 0, 1, 106, 0, 0, 1, 174, 0, 0, 1, 230, 0, 0, 2, 42, 0, 0, 2, 98, 0, 0, 2, 154, 0, 0, 2, 210, 0, 0, 3, 10, 0, 0, 3, 23, 0, 0, 3, 36, 0, 0, 3, 92, 0, 0, 3, 129, 0, 0, 3, 173, 0, 0, 3, 217, 0, 0, 4, 41, 0, 0, 4, 97, 0, 0, 4, 165, 0, 0, 4, 221, 0, 0, 5, 33, 0, 0, 5, 89, 0, 0, 5, 145, 0, 0, 5, 201, 0, 0, 6, 1, 0, 0, 6, 69, 0, 0, 6, 137, 0, 0, 6, 150, 0, 0, 6, 213, 0, 0, 6, 226, 0, 0, 7, 26, 0, 0, 7, 39, 0, 0, 7, 95, 0, 0, 7, 163, 0, 0, 7, 176, 0, 0, 7, 189, 0, 0, 8, 1, 0, 0, 8, 57, 0, 0, 8, 113, 0, 0, 8, 181, 0, 0, 8, 249, 0, 0, 9, 61, 0, 0, 9, 121, 0, 0, 9, 232, 0, 0, 10, 32, 0, 0, 10, 68, 0, 0, 10, 104]
abbrev dktL_law_2 : List UInt8 := dkwL_law_2 ++ dktL_law_3
def dkwL_law_1 : List UInt8 := [21, 4, 42, 190, 16, 6, 100, 163, 10, 145, 42, 21, 4, 46, 16, 63, 126]
abbrev dktL_law_1 : List UInt8 := dkwL_law_1 ++ dktL_law_2
def dkwL_law_0 : List UInt8 := [187, 0, 8, 89, 183, 0, 136, 76, 187, 0, 137, 89, 183, 0, 139, 77, 4, 188, 11, 78, 3, 54, 4]
abbrev dktL_law_0 : List UInt8 := dkwL_law_0 ++ dktL_law_1
theorem dksL_law_0 : cL_law.data.toList.drop 0 = dktL_law_0 := by decide +kernel
theorem dksL_law_1 : cL_law.data.toList.drop 23 = dktL_law_1 := dk_seg dksL_law_0 23 rfl rfl
theorem dksL_law_2 : cL_law.data.toList.drop 40 = dktL_law_2 := dk_seg dksL_law_1 17 rfl rfl
theorem dksL_law_3 : cL_law.data.toList.drop 248 = dktL_law_3 := dk_seg dksL_law_2 208 rfl rfl
theorem dksL_law_4 : cL_law.data.toList.drop 272 = dktL_law_4 := dk_seg dksL_law_3 24 rfl rfl
theorem dksL_law_5 : cL_law.data.toList.drop 296 = dktL_law_5 := dk_seg dksL_law_4 24 rfl rfl
theorem dksL_law_6 : cL_law.data.toList.drop 320 = dktL_law_6 := dk_seg dksL_law_5 24 rfl rfl
theorem dksL_law_7 : cL_law.data.toList.drop 344 = dktL_law_7 := dk_seg dksL_law_6 24 rfl rfl
theorem dksL_law_8 : cL_law.data.toList.drop 368 = dktL_law_8 := dk_seg dksL_law_7 24 rfl rfl
theorem dksL_law_9 : cL_law.data.toList.drop 392 = dktL_law_9 := dk_seg dksL_law_8 24 rfl rfl
theorem dksL_law_10 : cL_law.data.toList.drop 416 = dktL_law_10 := dk_seg dksL_law_9 24 rfl rfl
theorem dksL_law_11 : cL_law.data.toList.drop 440 = dktL_law_11 := dk_seg dksL_law_10 24 rfl rfl
theorem dksL_law_12 : cL_law.data.toList.drop 462 = dktL_law_12 := dk_seg dksL_law_11 22 rfl rfl
theorem dksL_law_13 : cL_law.data.toList.drop 485 = dktL_law_13 := dk_seg dksL_law_12 23 rfl rfl
theorem dksL_law_14 : cL_law.data.toList.drop 508 = dktL_law_14 := dk_seg dksL_law_13 23 rfl rfl
theorem dksL_law_15 : cL_law.data.toList.drop 532 = dktL_law_15 := dk_seg dksL_law_14 24 rfl rfl
theorem dksL_law_16 : cL_law.data.toList.drop 556 = dktL_law_16 := dk_seg dksL_law_15 24 rfl rfl
theorem dksL_law_17 : cL_law.data.toList.drop 580 = dktL_law_17 := dk_seg dksL_law_16 24 rfl rfl
theorem dksL_law_18 : cL_law.data.toList.drop 602 = dktL_law_18 := dk_seg dksL_law_17 22 rfl rfl
theorem dksL_law_19 : cL_law.data.toList.drop 625 = dktL_law_19 := dk_seg dksL_law_18 23 rfl rfl
theorem dksL_law_20 : cL_law.data.toList.drop 647 = dktL_law_20 := dk_seg dksL_law_19 22 rfl rfl
theorem dksL_law_21 : cL_law.data.toList.drop 670 = dktL_law_21 := dk_seg dksL_law_20 23 rfl rfl
theorem dksL_law_22 : cL_law.data.toList.drop 694 = dktL_law_22 := dk_seg dksL_law_21 24 rfl rfl
theorem dksL_law_23 : cL_law.data.toList.drop 717 = dktL_law_23 := dk_seg dksL_law_22 23 rfl rfl
theorem dksL_law_24 : cL_law.data.toList.drop 741 = dktL_law_24 := dk_seg dksL_law_23 24 rfl rfl
theorem dksL_law_25 : cL_law.data.toList.drop 764 = dktL_law_25 := dk_seg dksL_law_24 23 rfl rfl
theorem dksL_law_26 : cL_law.data.toList.drop 788 = dktL_law_26 := dk_seg dksL_law_25 24 rfl rfl
theorem dksL_law_27 : cL_law.data.toList.drop 810 = dktL_law_27 := dk_seg dksL_law_26 22 rfl rfl
theorem dksL_law_28 : cL_law.data.toList.drop 832 = dktL_law_28 := dk_seg dksL_law_27 22 rfl rfl
theorem dksL_law_29 : cL_law.data.toList.drop 855 = dktL_law_29 := dk_seg dksL_law_28 23 rfl rfl
theorem dksL_law_30 : cL_law.data.toList.drop 879 = dktL_law_30 := dk_seg dksL_law_29 24 rfl rfl
theorem dksL_law_31 : cL_law.data.toList.drop 902 = dktL_law_31 := dk_seg dksL_law_30 23 rfl rfl
theorem dksL_law_32 : cL_law.data.toList.drop 926 = dktL_law_32 := dk_seg dksL_law_31 24 rfl rfl
theorem dksL_law_33 : cL_law.data.toList.drop 950 = dktL_law_33 := dk_seg dksL_law_32 24 rfl rfl
theorem dksL_law_34 : cL_law.data.toList.drop 973 = dktL_law_34 := dk_seg dksL_law_33 23 rfl rfl
theorem dksL_law_35 : cL_law.data.toList.drop 995 = dktL_law_35 := dk_seg dksL_law_34 22 rfl rfl
theorem dksL_law_36 : cL_law.data.toList.drop 1017 = dktL_law_36 := dk_seg dksL_law_35 22 rfl rfl
theorem dksL_law_37 : cL_law.data.toList.drop 1041 = dktL_law_37 := dk_seg dksL_law_36 24 rfl rfl
theorem dksL_law_38 : cL_law.data.toList.drop 1064 = dktL_law_38 := dk_seg dksL_law_37 23 rfl rfl
theorem dksL_law_39 : cL_law.data.toList.drop 1087 = dktL_law_39 := dk_seg dksL_law_38 23 rfl rfl
theorem dksL_law_40 : cL_law.data.toList.drop 1111 = dktL_law_40 := dk_seg dksL_law_39 24 rfl rfl
theorem dksL_law_41 : cL_law.data.toList.drop 1134 = dktL_law_41 := dk_seg dksL_law_40 23 rfl rfl
theorem dksL_law_42 : cL_law.data.toList.drop 1158 = dktL_law_42 := dk_seg dksL_law_41 24 rfl rfl
theorem dksL_law_43 : cL_law.data.toList.drop 1182 = dktL_law_43 := dk_seg dksL_law_42 24 rfl rfl
theorem dksL_law_44 : cL_law.data.toList.drop 1204 = dktL_law_44 := dk_seg dksL_law_43 22 rfl rfl
theorem dksL_law_45 : cL_law.data.toList.drop 1226 = dktL_law_45 := dk_seg dksL_law_44 22 rfl rfl
theorem dksL_law_46 : cL_law.data.toList.drop 1249 = dktL_law_46 := dk_seg dksL_law_45 23 rfl rfl
theorem dksL_law_47 : cL_law.data.toList.drop 1273 = dktL_law_47 := dk_seg dksL_law_46 24 rfl rfl
theorem dksL_law_48 : cL_law.data.toList.drop 1297 = dktL_law_48 := dk_seg dksL_law_47 24 rfl rfl
theorem dksL_law_49 : cL_law.data.toList.drop 1320 = dktL_law_49 := dk_seg dksL_law_48 23 rfl rfl
theorem dksL_law_50 : cL_law.data.toList.drop 1344 = dktL_law_50 := dk_seg dksL_law_49 24 rfl rfl
theorem dksL_law_51 : cL_law.data.toList.drop 1368 = dktL_law_51 := dk_seg dksL_law_50 24 rfl rfl
theorem dksL_law_52 : cL_law.data.toList.drop 1391 = dktL_law_52 := dk_seg dksL_law_51 23 rfl rfl
theorem dksL_law_53 : cL_law.data.toList.drop 1415 = dktL_law_53 := dk_seg dksL_law_52 24 rfl rfl
theorem dksL_law_54 : cL_law.data.toList.drop 1438 = dktL_law_54 := dk_seg dksL_law_53 23 rfl rfl
theorem dksL_law_55 : cL_law.data.toList.drop 1462 = dktL_law_55 := dk_seg dksL_law_54 24 rfl rfl
theorem dksL_law_56 : cL_law.data.toList.drop 1485 = dktL_law_56 := dk_seg dksL_law_55 23 rfl rfl
theorem dksL_law_57 : cL_law.data.toList.drop 1509 = dktL_law_57 := dk_seg dksL_law_56 24 rfl rfl
theorem dksL_law_58 : cL_law.data.toList.drop 1532 = dktL_law_58 := dk_seg dksL_law_57 23 rfl rfl
theorem dksL_law_59 : cL_law.data.toList.drop 1556 = dktL_law_59 := dk_seg dksL_law_58 24 rfl rfl
theorem dksL_law_60 : cL_law.data.toList.drop 1579 = dktL_law_60 := dk_seg dksL_law_59 23 rfl rfl
theorem dksL_law_61 : cL_law.data.toList.drop 1603 = dktL_law_61 := dk_seg dksL_law_60 24 rfl rfl
theorem dksL_law_62 : cL_law.data.toList.drop 1627 = dktL_law_62 := dk_seg dksL_law_61 24 rfl rfl
theorem dksL_law_63 : cL_law.data.toList.drop 1651 = dktL_law_63 := dk_seg dksL_law_62 24 rfl rfl
theorem dksL_law_64 : cL_law.data.toList.drop 1675 = dktL_law_64 := dk_seg dksL_law_63 24 rfl rfl
theorem dksL_law_65 : cL_law.data.toList.drop 1699 = dktL_law_65 := dk_seg dksL_law_64 24 rfl rfl
theorem dksL_law_66 : cL_law.data.toList.drop 1721 = dktL_law_66 := dk_seg dksL_law_65 22 rfl rfl
theorem dksL_law_67 : cL_law.data.toList.drop 1745 = dktL_law_67 := dk_seg dksL_law_66 24 rfl rfl
theorem dksL_law_68 : cL_law.data.toList.drop 1769 = dktL_law_68 := dk_seg dksL_law_67 24 rfl rfl
theorem dksL_law_69 : cL_law.data.toList.drop 1793 = dktL_law_69 := dk_seg dksL_law_68 24 rfl rfl
theorem dksL_law_70 : cL_law.data.toList.drop 1817 = dktL_law_70 := dk_seg dksL_law_69 24 rfl rfl
theorem dksL_law_71 : cL_law.data.toList.drop 1840 = dktL_law_71 := dk_seg dksL_law_70 23 rfl rfl
theorem dksL_law_72 : cL_law.data.toList.drop 1863 = dktL_law_72 := dk_seg dksL_law_71 23 rfl rfl
theorem dksL_law_73 : cL_law.data.toList.drop 1886 = dktL_law_73 := dk_seg dksL_law_72 23 rfl rfl
theorem dksL_law_74 : cL_law.data.toList.drop 1909 = dktL_law_74 := dk_seg dksL_law_73 23 rfl rfl
theorem dksL_law_75 : cL_law.data.toList.drop 1933 = dktL_law_75 := dk_seg dksL_law_74 24 rfl rfl
theorem dksL_law_76 : cL_law.data.toList.drop 1957 = dktL_law_76 := dk_seg dksL_law_75 24 rfl rfl
theorem dksL_law_77 : cL_law.data.toList.drop 1981 = dktL_law_77 := dk_seg dksL_law_76 24 rfl rfl
theorem dksL_law_78 : cL_law.data.toList.drop 2003 = dktL_law_78 := dk_seg dksL_law_77 22 rfl rfl
theorem dksL_law_79 : cL_law.data.toList.drop 2027 = dktL_law_79 := dk_seg dksL_law_78 24 rfl rfl
theorem dksL_law_80 : cL_law.data.toList.drop 2051 = dktL_law_80 := dk_seg dksL_law_79 24 rfl rfl
theorem dksL_law_81 : cL_law.data.toList.drop 2075 = dktL_law_81 := dk_seg dksL_law_80 24 rfl rfl
theorem dksL_law_82 : cL_law.data.toList.drop 2097 = dktL_law_82 := dk_seg dksL_law_81 22 rfl rfl
theorem dksL_law_83 : cL_law.data.toList.drop 2120 = dktL_law_83 := dk_seg dksL_law_82 23 rfl rfl
theorem dksL_law_84 : cL_law.data.toList.drop 2142 = dktL_law_84 := dk_seg dksL_law_83 22 rfl rfl
theorem dksL_law_85 : cL_law.data.toList.drop 2165 = dktL_law_85 := dk_seg dksL_law_84 23 rfl rfl
theorem dksL_law_86 : cL_law.data.toList.drop 2189 = dktL_law_86 := dk_seg dksL_law_85 24 rfl rfl
theorem dksL_law_87 : cL_law.data.toList.drop 2213 = dktL_law_87 := dk_seg dksL_law_86 24 rfl rfl
theorem dksL_law_88 : cL_law.data.toList.drop 2236 = dktL_law_88 := dk_seg dksL_law_87 23 rfl rfl
theorem dksL_law_89 : cL_law.data.toList.drop 2260 = dktL_law_89 := dk_seg dksL_law_88 24 rfl rfl
theorem dksL_law_90 : cL_law.data.toList.drop 2283 = dktL_law_90 := dk_seg dksL_law_89 23 rfl rfl
theorem dksL_law_91 : cL_law.data.toList.drop 2307 = dktL_law_91 := dk_seg dksL_law_90 24 rfl rfl
theorem dksL_law_92 : cL_law.data.toList.drop 2329 = dktL_law_92 := dk_seg dksL_law_91 22 rfl rfl
theorem dksL_law_93 : cL_law.data.toList.drop 2351 = dktL_law_93 := dk_seg dksL_law_92 22 rfl rfl
theorem dksL_law_94 : cL_law.data.toList.drop 2375 = dktL_law_94 := dk_seg dksL_law_93 24 rfl rfl
theorem dksL_law_95 : cL_law.data.toList.drop 2397 = dktL_law_95 := dk_seg dksL_law_94 22 rfl rfl
theorem dksL_law_96 : cL_law.data.toList.drop 2421 = dktL_law_96 := dk_seg dksL_law_95 24 rfl rfl
theorem dksL_law_97 : cL_law.data.toList.drop 2445 = dktL_law_97 := dk_seg dksL_law_96 24 rfl rfl
theorem dksL_law_98 : cL_law.data.toList.drop 2469 = dktL_law_98 := dk_seg dksL_law_97 24 rfl rfl
theorem dksL_law_99 : cL_law.data.toList.drop 2493 = dktL_law_99 := dk_seg dksL_law_98 24 rfl rfl
theorem dksL_law_100 : cL_law.data.toList.drop 2517 = dktL_law_100 := dk_seg dksL_law_99 24 rfl rfl
theorem dksL_law_101 : cL_law.data.toList.drop 2541 = dktL_law_101 := dk_seg dksL_law_100 24 rfl rfl
theorem dksL_law_102 : cL_law.data.toList.drop 2565 = dktL_law_102 := dk_seg dksL_law_101 24 rfl rfl
theorem dksL_law_103 : cL_law.data.toList.drop 2589 = dktL_law_103 := dk_seg dksL_law_102 24 rfl rfl
theorem dksL_law_104 : cL_law.data.toList.drop 2612 = dktL_law_104 := dk_seg dksL_law_103 23 rfl rfl
theorem dksL_law_105 : cL_law.data.toList.drop 2636 = dktL_law_105 := dk_seg dksL_law_104 24 rfl rfl
theorem dksL_law_106 : cL_law.data.toList.drop 2660 = dktL_law_106 := dk_seg dksL_law_105 24 rfl rfl
theorem dksL_law_107 : cL_law.data.toList.drop 2684 = dktL_law_107 := dk_seg dksL_law_106 24 rfl rfl
theorem dksL_law_108 : cL_law.data.toList.drop 2708 = dktL_law_108 := dk_seg dksL_law_107 24 rfl rfl
theorem dksL_law_109 : cL_law.data.toList.drop 2732 = dktL_law_109 := dk_seg dksL_law_108 24 rfl rfl
theorem dL_law_0 : decode cL_law 0 = .ok (.new 8, 3) := dk_187 0 8 (dk_at dksL_law_0 0 rfl rfl)
theorem dL_law_3 : decode cL_law 3 = .ok (.dup, 1) := dk_89 (dk_at dksL_law_0 3 rfl rfl)
theorem dL_law_4 : decode cL_law 4 = .ok (.invokespecial 136, 3) := dk_183 0 136 (dk_at dksL_law_0 4 rfl rfl)
theorem dL_law_7 : decode cL_law 7 = .ok (.astore_n 1, 1) := dk_76 (dk_at dksL_law_0 7 rfl rfl)
theorem dL_law_8 : decode cL_law 8 = .ok (.new 137, 3) := dk_187 0 137 (dk_at dksL_law_0 8 rfl rfl)
theorem dL_law_11 : decode cL_law 11 = .ok (.dup, 1) := dk_89 (dk_at dksL_law_0 11 rfl rfl)
theorem dL_law_12 : decode cL_law 12 = .ok (.invokespecial 139, 3) := dk_183 0 139 (dk_at dksL_law_0 12 rfl rfl)
theorem dL_law_15 : decode cL_law 15 = .ok (.astore_n 2, 1) := dk_77 (dk_at dksL_law_0 15 rfl rfl)
theorem dL_law_16 : decode cL_law 16 = .ok (.iconst 1, 1) := dk_4 (dk_at dksL_law_0 16 rfl rfl)
theorem dL_law_17 : decode cL_law 17 = .ok (.newarray .long, 2) := dk_188_11 (dk_at dksL_law_0 17 rfl rfl)
theorem dL_law_19 : decode cL_law 19 = .ok (.astore_n 3, 1) := dk_78 (dk_at dksL_law_0 19 rfl rfl)
theorem dL_law_20 : decode cL_law 20 = .ok (.iconst 0, 1) := dk_3 (dk_at dksL_law_0 20 rfl rfl)
theorem dL_law_21 : decode cL_law 21 = .ok (.istore 4, 2) := dk_54 4 (dk_at dksL_law_0 21 rfl rfl)
theorem dL_law_23 : decode cL_law 23 = .ok (.iload 4, 2) := dk_21 4 (dk_at dksL_law_1 0 rfl rfl)
theorem dL_law_25 : decode cL_law 25 = .ok (.aload_n 0, 1) := dk_42 (dk_at dksL_law_1 2 rfl rfl)
theorem dL_law_26 : decode cL_law 26 = .ok (.arraylength, 1) := dk_190 (dk_at dksL_law_1 3 rfl rfl)
theorem dL_law_27 : decode cL_law 27 = .ok (.bipush 6, 2) := dk_16 6 (dk_at dksL_law_1 4 rfl rfl)
theorem dL_law_29 : decode cL_law 29 = .ok (.isub, 1) := dk_100 (dk_at dksL_law_1 6 rfl rfl)
theorem dL_law_30 : decode cL_law 30 = .ok (.if_icmp .gt 2705, 3) := dk_163 10 145 (dk_at dksL_law_1 7 rfl rfl)
theorem dL_law_33 : decode cL_law 33 = .ok (.aload_n 0, 1) := dk_42 (dk_at dksL_law_1 10 rfl rfl)
theorem dL_law_34 : decode cL_law 34 = .ok (.iload 4, 2) := dk_21 4 (dk_at dksL_law_1 11 rfl rfl)
theorem dL_law_36 : decode cL_law 36 = .ok (.iaload, 1) := dk_46 (dk_at dksL_law_1 13 rfl rfl)
theorem dL_law_37 : decode cL_law 37 = .ok (.bipush 63, 2) := dk_16 63 (dk_at dksL_law_1 14 rfl rfl)
theorem dL_law_39 : decode cL_law 39 = .ok (.iand, 1) := dk_126 (dk_at dksL_law_1 16 rfl rfl)
theorem dL_law_40 : decode cL_law 40 = .ok (.tableswitch 2689 0 47 #[208, 281, 337, 362, 430, 486, 554, 610, 666, 722, 778, 791, 804, 860, 897, 941, 985, 1065, 1121, 1189, 1245, 1313, 1369, 1425, 1481, 1537, 1605, 1673, 1686, 1749, 1762, 1818, 1831, 1887, 1955, 1968, 1981, 2049, 2105, 2161, 2229, 2297, 2365, 2425, 2536, 2592, 2628, 2664], 208) := by decide +kernel
theorem dL_law_248 : decode cL_law 248 = .ok (.aload_n 1, 1) := dk_43 (dk_at dksL_law_3 0 rfl rfl)
theorem dL_law_249 : decode cL_law 249 = .ok (.aload_n 0, 1) := dk_42 (dk_at dksL_law_3 1 rfl rfl)
theorem dL_law_250 : decode cL_law 250 = .ok (.iload 4, 2) := dk_21 4 (dk_at dksL_law_3 2 rfl rfl)
theorem dL_law_252 : decode cL_law 252 = .ok (.iconst 1, 1) := dk_4 (dk_at dksL_law_3 4 rfl rfl)
theorem dL_law_253 : decode cL_law 253 = .ok (.iadd, 1) := dk_96 (dk_at dksL_law_3 5 rfl rfl)
theorem dL_law_254 : decode cL_law 254 = .ok (.iaload, 1) := dk_46 (dk_at dksL_law_3 6 rfl rfl)
theorem dL_law_255 : decode cL_law 255 = .ok (.aload_n 0, 1) := dk_42 (dk_at dksL_law_3 7 rfl rfl)
theorem dL_law_256 : decode cL_law 256 = .ok (.iload 4, 2) := dk_21 4 (dk_at dksL_law_3 8 rfl rfl)
theorem dL_law_258 : decode cL_law 258 = .ok (.iconst 2, 1) := dk_5 (dk_at dksL_law_3 10 rfl rfl)
theorem dL_law_259 : decode cL_law 259 = .ok (.iadd, 1) := dk_96 (dk_at dksL_law_3 11 rfl rfl)
theorem dL_law_260 : decode cL_law 260 = .ok (.iaload, 1) := dk_46 (dk_at dksL_law_3 12 rfl rfl)
theorem dL_law_261 : decode cL_law 261 = .ok (.aload_n 0, 1) := dk_42 (dk_at dksL_law_3 13 rfl rfl)
theorem dL_law_262 : decode cL_law 262 = .ok (.iload 4, 2) := dk_21 4 (dk_at dksL_law_3 14 rfl rfl)
theorem dL_law_264 : decode cL_law 264 = .ok (.iconst 3, 1) := dk_6 (dk_at dksL_law_3 16 rfl rfl)
theorem dL_law_265 : decode cL_law 265 = .ok (.iadd, 1) := dk_96 (dk_at dksL_law_3 17 rfl rfl)
theorem dL_law_266 : decode cL_law 266 = .ok (.iaload, 1) := dk_46 (dk_at dksL_law_3 18 rfl rfl)
theorem dL_law_267 : decode cL_law 267 = .ok (.aload_n 0, 1) := dk_42 (dk_at dksL_law_3 19 rfl rfl)
theorem dL_law_268 : decode cL_law 268 = .ok (.iload 4, 2) := dk_21 4 (dk_at dksL_law_3 20 rfl rfl)
theorem dL_law_270 : decode cL_law 270 = .ok (.iconst 4, 1) := dk_7 (dk_at dksL_law_3 22 rfl rfl)
theorem dL_law_271 : decode cL_law 271 = .ok (.iadd, 1) := dk_96 (dk_at dksL_law_3 23 rfl rfl)
theorem dL_law_272 : decode cL_law 272 = .ok (.iaload, 1) := dk_46 (dk_at dksL_law_4 0 rfl rfl)
theorem dL_law_273 : decode cL_law 273 = .ok (.aload_n 0, 1) := dk_42 (dk_at dksL_law_4 1 rfl rfl)
theorem dL_law_274 : decode cL_law 274 = .ok (.iload 4, 2) := dk_21 4 (dk_at dksL_law_4 2 rfl rfl)
theorem dL_law_276 : decode cL_law 276 = .ok (.iconst 5, 1) := dk_8 (dk_at dksL_law_4 4 rfl rfl)
theorem dL_law_277 : decode cL_law 277 = .ok (.iadd, 1) := dk_96 (dk_at dksL_law_4 5 rfl rfl)
theorem dL_law_278 : decode cL_law 278 = .ok (.iaload, 1) := dk_46 (dk_at dksL_law_4 6 rfl rfl)
theorem dL_law_279 : decode cL_law 279 = .ok (.invokevirtual 140, 3) := dk_182 0 140 (dk_at dksL_law_4 7 rfl rfl)
theorem dL_law_282 : decode cL_law 282 = .ok (.aload_n 2, 1) := dk_44 (dk_at dksL_law_4 10 rfl rfl)
theorem dL_law_283 : decode cL_law 283 = .ok (.aload_n 0, 1) := dk_42 (dk_at dksL_law_4 11 rfl rfl)
theorem dL_law_284 : decode cL_law 284 = .ok (.iload 4, 2) := dk_21 4 (dk_at dksL_law_4 12 rfl rfl)
theorem dL_law_286 : decode cL_law 286 = .ok (.iconst 1, 1) := dk_4 (dk_at dksL_law_4 14 rfl rfl)
theorem dL_law_287 : decode cL_law 287 = .ok (.iadd, 1) := dk_96 (dk_at dksL_law_4 15 rfl rfl)
theorem dL_law_288 : decode cL_law 288 = .ok (.iaload, 1) := dk_46 (dk_at dksL_law_4 16 rfl rfl)
theorem dL_law_289 : decode cL_law 289 = .ok (.aload_n 0, 1) := dk_42 (dk_at dksL_law_4 17 rfl rfl)
theorem dL_law_290 : decode cL_law 290 = .ok (.iload 4, 2) := dk_21 4 (dk_at dksL_law_4 18 rfl rfl)
theorem dL_law_292 : decode cL_law 292 = .ok (.iconst 2, 1) := dk_5 (dk_at dksL_law_4 20 rfl rfl)
theorem dL_law_293 : decode cL_law 293 = .ok (.iadd, 1) := dk_96 (dk_at dksL_law_4 21 rfl rfl)
theorem dL_law_294 : decode cL_law 294 = .ok (.iaload, 1) := dk_46 (dk_at dksL_law_4 22 rfl rfl)
theorem dL_law_295 : decode cL_law 295 = .ok (.aload_n 0, 1) := dk_42 (dk_at dksL_law_4 23 rfl rfl)
theorem dL_law_296 : decode cL_law 296 = .ok (.iload 4, 2) := dk_21 4 (dk_at dksL_law_5 0 rfl rfl)
theorem dL_law_298 : decode cL_law 298 = .ok (.iconst 3, 1) := dk_6 (dk_at dksL_law_5 2 rfl rfl)
theorem dL_law_299 : decode cL_law 299 = .ok (.iadd, 1) := dk_96 (dk_at dksL_law_5 3 rfl rfl)
theorem dL_law_300 : decode cL_law 300 = .ok (.iaload, 1) := dk_46 (dk_at dksL_law_5 4 rfl rfl)
theorem dL_law_301 : decode cL_law 301 = .ok (.aload_n 0, 1) := dk_42 (dk_at dksL_law_5 5 rfl rfl)
theorem dL_law_302 : decode cL_law 302 = .ok (.iload 4, 2) := dk_21 4 (dk_at dksL_law_5 6 rfl rfl)
theorem dL_law_304 : decode cL_law 304 = .ok (.iconst 4, 1) := dk_7 (dk_at dksL_law_5 8 rfl rfl)
theorem dL_law_305 : decode cL_law 305 = .ok (.iadd, 1) := dk_96 (dk_at dksL_law_5 9 rfl rfl)
theorem dL_law_306 : decode cL_law 306 = .ok (.iaload, 1) := dk_46 (dk_at dksL_law_5 10 rfl rfl)
theorem dL_law_307 : decode cL_law 307 = .ok (.aload_n 0, 1) := dk_42 (dk_at dksL_law_5 11 rfl rfl)
theorem dL_law_308 : decode cL_law 308 = .ok (.iload 4, 2) := dk_21 4 (dk_at dksL_law_5 12 rfl rfl)
theorem dL_law_310 : decode cL_law 310 = .ok (.iconst 5, 1) := dk_8 (dk_at dksL_law_5 14 rfl rfl)
theorem dL_law_311 : decode cL_law 311 = .ok (.iadd, 1) := dk_96 (dk_at dksL_law_5 15 rfl rfl)
theorem dL_law_312 : decode cL_law 312 = .ok (.iaload, 1) := dk_46 (dk_at dksL_law_5 16 rfl rfl)
theorem dL_law_313 : decode cL_law 313 = .ok (.invokevirtual 144, 3) := dk_182 0 144 (dk_at dksL_law_5 17 rfl rfl)
theorem dL_law_316 : decode cL_law 316 = .ok (.if_icmp .eq 2413, 3) := dk_159 9 109 (dk_at dksL_law_5 20 rfl rfl)
theorem dL_law_319 : decode cL_law 319 = .ok (.iconst 0, 1) := dk_3 (dk_at dksL_law_5 23 rfl rfl)
theorem dL_law_320 : decode cL_law 320 = .ok (.ireturn, 1) := dk_172 (dk_at dksL_law_6 0 rfl rfl)
theorem dL_law_321 : decode cL_law 321 = .ok (.aload_n 1, 1) := dk_43 (dk_at dksL_law_6 1 rfl rfl)
theorem dL_law_322 : decode cL_law 322 = .ok (.aload_n 0, 1) := dk_42 (dk_at dksL_law_6 2 rfl rfl)
theorem dL_law_323 : decode cL_law 323 = .ok (.iload 4, 2) := dk_21 4 (dk_at dksL_law_6 3 rfl rfl)
theorem dL_law_325 : decode cL_law 325 = .ok (.iconst 1, 1) := dk_4 (dk_at dksL_law_6 5 rfl rfl)
theorem dL_law_326 : decode cL_law 326 = .ok (.iadd, 1) := dk_96 (dk_at dksL_law_6 6 rfl rfl)
theorem dL_law_327 : decode cL_law 327 = .ok (.iaload, 1) := dk_46 (dk_at dksL_law_6 7 rfl rfl)
theorem dL_law_328 : decode cL_law 328 = .ok (.aload_n 3, 1) := dk_45 (dk_at dksL_law_6 8 rfl rfl)
theorem dL_law_329 : decode cL_law 329 = .ok (.invokestatic 145, 3) := dk_184 0 145 (dk_at dksL_law_6 9 rfl rfl)
theorem dL_law_332 : decode cL_law 332 = .ok (.istore 5, 2) := dk_54 5 (dk_at dksL_law_6 12 rfl rfl)
theorem dL_law_334 : decode cL_law 334 = .ok (.aload_n 2, 1) := dk_44 (dk_at dksL_law_6 14 rfl rfl)
theorem dL_law_335 : decode cL_law 335 = .ok (.aload_n 0, 1) := dk_42 (dk_at dksL_law_6 15 rfl rfl)
theorem dL_law_336 : decode cL_law 336 = .ok (.iload 4, 2) := dk_21 4 (dk_at dksL_law_6 16 rfl rfl)
theorem dL_law_338 : decode cL_law 338 = .ok (.iconst 1, 1) := dk_4 (dk_at dksL_law_6 18 rfl rfl)
theorem dL_law_339 : decode cL_law 339 = .ok (.iadd, 1) := dk_96 (dk_at dksL_law_6 19 rfl rfl)
theorem dL_law_340 : decode cL_law 340 = .ok (.iaload, 1) := dk_46 (dk_at dksL_law_6 20 rfl rfl)
theorem dL_law_341 : decode cL_law 341 = .ok (.invokevirtual 150, 3) := dk_182 0 150 (dk_at dksL_law_6 21 rfl rfl)
theorem dL_law_344 : decode cL_law 344 = .ok (.istore 6, 2) := dk_54 6 (dk_at dksL_law_7 0 rfl rfl)
theorem dL_law_346 : decode cL_law 346 = .ok (.aload_n 2, 1) := dk_44 (dk_at dksL_law_7 2 rfl rfl)
theorem dL_law_347 : decode cL_law 347 = .ok (.invokevirtual 151, 3) := dk_182 0 151 (dk_at dksL_law_7 3 rfl rfl)
theorem dL_law_350 : decode cL_law 350 = .ok (.iload 5, 2) := dk_21 5 (dk_at dksL_law_7 6 rfl rfl)
theorem dL_law_352 : decode cL_law 352 = .ok (.if_icmp .eq 5, 3) := dk_159 0 5 (dk_at dksL_law_7 8 rfl rfl)
theorem dL_law_355 : decode cL_law 355 = .ok (.iconst 0, 1) := dk_3 (dk_at dksL_law_7 11 rfl rfl)
theorem dL_law_356 : decode cL_law 356 = .ok (.ireturn, 1) := dk_172 (dk_at dksL_law_7 12 rfl rfl)
theorem dL_law_357 : decode cL_law 357 = .ok (.iload 5, 2) := dk_21 5 (dk_at dksL_law_7 13 rfl rfl)
theorem dL_law_359 : decode cL_law 359 = .ok (.ifCond .ne 15, 3) := dk_154 0 15 (dk_at dksL_law_7 15 rfl rfl)
theorem dL_law_362 : decode cL_law 362 = .ok (.aload_n 3, 1) := dk_45 (dk_at dksL_law_7 18 rfl rfl)
theorem dL_law_363 : decode cL_law 363 = .ok (.iconst 0, 1) := dk_3 (dk_at dksL_law_7 19 rfl rfl)
theorem dL_law_364 : decode cL_law 364 = .ok (.laload, 1) := dk_47 (dk_at dksL_law_7 20 rfl rfl)
theorem dL_law_365 : decode cL_law 365 = .ok (.iload 6, 2) := dk_21 6 (dk_at dksL_law_7 21 rfl rfl)
theorem dL_law_367 : decode cL_law 367 = .ok (.i2l, 1) := dk_133 (dk_at dksL_law_7 23 rfl rfl)
theorem dL_law_368 : decode cL_law 368 = .ok (.lcmp, 1) := dk_148 (dk_at dksL_law_8 0 rfl rfl)
theorem dL_law_369 : decode cL_law 369 = .ok (.ifCond .eq 5, 3) := dk_153 0 5 (dk_at dksL_law_8 1 rfl rfl)
theorem dL_law_372 : decode cL_law 372 = .ok (.iconst 0, 1) := dk_3 (dk_at dksL_law_8 4 rfl rfl)
theorem dL_law_373 : decode cL_law 373 = .ok (.ireturn, 1) := dk_172 (dk_at dksL_law_8 5 rfl rfl)
theorem dL_law_374 : decode cL_law 374 = .ok (.goto 2355, 3) := dk_167 9 51 (dk_at dksL_law_8 6 rfl rfl)
theorem dL_law_377 : decode cL_law 377 = .ok (.aload_n 1, 1) := dk_43 (dk_at dksL_law_8 9 rfl rfl)
theorem dL_law_378 : decode cL_law 378 = .ok (.aload_n 0, 1) := dk_42 (dk_at dksL_law_8 10 rfl rfl)
theorem dL_law_379 : decode cL_law 379 = .ok (.iload 4, 2) := dk_21 4 (dk_at dksL_law_8 11 rfl rfl)
theorem dL_law_381 : decode cL_law 381 = .ok (.iconst 1, 1) := dk_4 (dk_at dksL_law_8 13 rfl rfl)
theorem dL_law_382 : decode cL_law 382 = .ok (.iadd, 1) := dk_96 (dk_at dksL_law_8 14 rfl rfl)
theorem dL_law_383 : decode cL_law 383 = .ok (.iaload, 1) := dk_46 (dk_at dksL_law_8 15 rfl rfl)
theorem dL_law_384 : decode cL_law 384 = .ok (.invokevirtual 154, 3) := dk_182 0 154 (dk_at dksL_law_8 16 rfl rfl)
theorem dL_law_387 : decode cL_law 387 = .ok (.aload_n 2, 1) := dk_44 (dk_at dksL_law_8 19 rfl rfl)
theorem dL_law_388 : decode cL_law 388 = .ok (.aload_n 0, 1) := dk_42 (dk_at dksL_law_8 20 rfl rfl)
theorem dL_law_389 : decode cL_law 389 = .ok (.iload 4, 2) := dk_21 4 (dk_at dksL_law_8 21 rfl rfl)
theorem dL_law_391 : decode cL_law 391 = .ok (.iconst 1, 1) := dk_4 (dk_at dksL_law_8 23 rfl rfl)
theorem dL_law_392 : decode cL_law 392 = .ok (.iadd, 1) := dk_96 (dk_at dksL_law_9 0 rfl rfl)
theorem dL_law_393 : decode cL_law 393 = .ok (.iaload, 1) := dk_46 (dk_at dksL_law_9 1 rfl rfl)
theorem dL_law_394 : decode cL_law 394 = .ok (.invokevirtual 157, 3) := dk_182 0 157 (dk_at dksL_law_9 2 rfl rfl)
theorem dL_law_397 : decode cL_law 397 = .ok (.if_icmp .eq 2332, 3) := dk_159 9 28 (dk_at dksL_law_9 5 rfl rfl)
theorem dL_law_400 : decode cL_law 400 = .ok (.iconst 0, 1) := dk_3 (dk_at dksL_law_9 8 rfl rfl)
theorem dL_law_401 : decode cL_law 401 = .ok (.ireturn, 1) := dk_172 (dk_at dksL_law_9 9 rfl rfl)
theorem dL_law_402 : decode cL_law 402 = .ok (.aload_n 1, 1) := dk_43 (dk_at dksL_law_9 10 rfl rfl)
theorem dL_law_403 : decode cL_law 403 = .ok (.aload_n 0, 1) := dk_42 (dk_at dksL_law_9 11 rfl rfl)
theorem dL_law_404 : decode cL_law 404 = .ok (.iload 4, 2) := dk_21 4 (dk_at dksL_law_9 12 rfl rfl)
theorem dL_law_406 : decode cL_law 406 = .ok (.iconst 1, 1) := dk_4 (dk_at dksL_law_9 14 rfl rfl)
theorem dL_law_407 : decode cL_law 407 = .ok (.iadd, 1) := dk_96 (dk_at dksL_law_9 15 rfl rfl)
theorem dL_law_408 : decode cL_law 408 = .ok (.iaload, 1) := dk_46 (dk_at dksL_law_9 16 rfl rfl)
theorem dL_law_409 : decode cL_law 409 = .ok (.aload_n 0, 1) := dk_42 (dk_at dksL_law_9 17 rfl rfl)
theorem dL_law_410 : decode cL_law 410 = .ok (.iload 4, 2) := dk_21 4 (dk_at dksL_law_9 18 rfl rfl)
theorem dL_law_412 : decode cL_law 412 = .ok (.iconst 2, 1) := dk_5 (dk_at dksL_law_9 20 rfl rfl)
theorem dL_law_413 : decode cL_law 413 = .ok (.iadd, 1) := dk_96 (dk_at dksL_law_9 21 rfl rfl)
theorem dL_law_414 : decode cL_law 414 = .ok (.iaload, 1) := dk_46 (dk_at dksL_law_9 22 rfl rfl)
theorem dL_law_415 : decode cL_law 415 = .ok (.aload_n 3, 1) := dk_45 (dk_at dksL_law_9 23 rfl rfl)
theorem dL_law_416 : decode cL_law 416 = .ok (.invokestatic 158, 3) := dk_184 0 158 (dk_at dksL_law_10 0 rfl rfl)
theorem dL_law_419 : decode cL_law 419 = .ok (.istore 5, 2) := dk_54 5 (dk_at dksL_law_10 3 rfl rfl)
theorem dL_law_421 : decode cL_law 421 = .ok (.aload_n 2, 1) := dk_44 (dk_at dksL_law_10 5 rfl rfl)
theorem dL_law_422 : decode cL_law 422 = .ok (.aload_n 0, 1) := dk_42 (dk_at dksL_law_10 6 rfl rfl)
theorem dL_law_423 : decode cL_law 423 = .ok (.iload 4, 2) := dk_21 4 (dk_at dksL_law_10 7 rfl rfl)
theorem dL_law_425 : decode cL_law 425 = .ok (.iconst 1, 1) := dk_4 (dk_at dksL_law_10 9 rfl rfl)
theorem dL_law_426 : decode cL_law 426 = .ok (.iadd, 1) := dk_96 (dk_at dksL_law_10 10 rfl rfl)
theorem dL_law_427 : decode cL_law 427 = .ok (.iaload, 1) := dk_46 (dk_at dksL_law_10 11 rfl rfl)
theorem dL_law_428 : decode cL_law 428 = .ok (.aload_n 0, 1) := dk_42 (dk_at dksL_law_10 12 rfl rfl)
theorem dL_law_429 : decode cL_law 429 = .ok (.iload 4, 2) := dk_21 4 (dk_at dksL_law_10 13 rfl rfl)
theorem dL_law_431 : decode cL_law 431 = .ok (.iconst 2, 1) := dk_5 (dk_at dksL_law_10 15 rfl rfl)
theorem dL_law_432 : decode cL_law 432 = .ok (.iadd, 1) := dk_96 (dk_at dksL_law_10 16 rfl rfl)
theorem dL_law_433 : decode cL_law 433 = .ok (.iaload, 1) := dk_46 (dk_at dksL_law_10 17 rfl rfl)
theorem dL_law_434 : decode cL_law 434 = .ok (.invokevirtual 161, 3) := dk_182 0 161 (dk_at dksL_law_10 18 rfl rfl)
theorem dL_law_437 : decode cL_law 437 = .ok (.istore 6, 2) := dk_54 6 (dk_at dksL_law_10 21 rfl rfl)
theorem dL_law_439 : decode cL_law 439 = .ok (.aload_n 2, 1) := dk_44 (dk_at dksL_law_10 23 rfl rfl)
theorem dL_law_440 : decode cL_law 440 = .ok (.invokevirtual 151, 3) := dk_182 0 151 (dk_at dksL_law_11 0 rfl rfl)
theorem dL_law_443 : decode cL_law 443 = .ok (.iload 5, 2) := dk_21 5 (dk_at dksL_law_11 3 rfl rfl)
theorem dL_law_445 : decode cL_law 445 = .ok (.if_icmp .eq 5, 3) := dk_159 0 5 (dk_at dksL_law_11 5 rfl rfl)
theorem dL_law_448 : decode cL_law 448 = .ok (.iconst 0, 1) := dk_3 (dk_at dksL_law_11 8 rfl rfl)
theorem dL_law_449 : decode cL_law 449 = .ok (.ireturn, 1) := dk_172 (dk_at dksL_law_11 9 rfl rfl)
theorem dL_law_450 : decode cL_law 450 = .ok (.iload 5, 2) := dk_21 5 (dk_at dksL_law_11 10 rfl rfl)
theorem dL_law_452 : decode cL_law 452 = .ok (.ifCond .ne 15, 3) := dk_154 0 15 (dk_at dksL_law_11 12 rfl rfl)
theorem dL_law_455 : decode cL_law 455 = .ok (.aload_n 3, 1) := dk_45 (dk_at dksL_law_11 15 rfl rfl)
theorem dL_law_456 : decode cL_law 456 = .ok (.iconst 0, 1) := dk_3 (dk_at dksL_law_11 16 rfl rfl)
theorem dL_law_457 : decode cL_law 457 = .ok (.laload, 1) := dk_47 (dk_at dksL_law_11 17 rfl rfl)
theorem dL_law_458 : decode cL_law 458 = .ok (.iload 6, 2) := dk_21 6 (dk_at dksL_law_11 18 rfl rfl)
theorem dL_law_460 : decode cL_law 460 = .ok (.i2l, 1) := dk_133 (dk_at dksL_law_11 20 rfl rfl)
theorem dL_law_461 : decode cL_law 461 = .ok (.lcmp, 1) := dk_148 (dk_at dksL_law_11 21 rfl rfl)
theorem dL_law_462 : decode cL_law 462 = .ok (.ifCond .eq 5, 3) := dk_153 0 5 (dk_at dksL_law_12 0 rfl rfl)
theorem dL_law_465 : decode cL_law 465 = .ok (.iconst 0, 1) := dk_3 (dk_at dksL_law_12 3 rfl rfl)
theorem dL_law_466 : decode cL_law 466 = .ok (.ireturn, 1) := dk_172 (dk_at dksL_law_12 4 rfl rfl)
theorem dL_law_467 : decode cL_law 467 = .ok (.goto 2262, 3) := dk_167 8 214 (dk_at dksL_law_12 5 rfl rfl)
theorem dL_law_470 : decode cL_law 470 = .ok (.aload_n 1, 1) := dk_43 (dk_at dksL_law_12 8 rfl rfl)
theorem dL_law_471 : decode cL_law 471 = .ok (.aload_n 0, 1) := dk_42 (dk_at dksL_law_12 9 rfl rfl)
theorem dL_law_472 : decode cL_law 472 = .ok (.iload 4, 2) := dk_21 4 (dk_at dksL_law_12 10 rfl rfl)
theorem dL_law_474 : decode cL_law 474 = .ok (.iconst 1, 1) := dk_4 (dk_at dksL_law_12 12 rfl rfl)
theorem dL_law_475 : decode cL_law 475 = .ok (.iadd, 1) := dk_96 (dk_at dksL_law_12 13 rfl rfl)
theorem dL_law_476 : decode cL_law 476 = .ok (.iaload, 1) := dk_46 (dk_at dksL_law_12 14 rfl rfl)
theorem dL_law_477 : decode cL_law 477 = .ok (.aload_n 3, 1) := dk_45 (dk_at dksL_law_12 15 rfl rfl)
theorem dL_law_478 : decode cL_law 478 = .ok (.invokestatic 162, 3) := dk_184 0 162 (dk_at dksL_law_12 16 rfl rfl)
theorem dL_law_481 : decode cL_law 481 = .ok (.istore 5, 2) := dk_54 5 (dk_at dksL_law_12 19 rfl rfl)
theorem dL_law_483 : decode cL_law 483 = .ok (.aload_n 2, 1) := dk_44 (dk_at dksL_law_12 21 rfl rfl)
theorem dL_law_484 : decode cL_law 484 = .ok (.aload_n 0, 1) := dk_42 (dk_at dksL_law_12 22 rfl rfl)
theorem dL_law_485 : decode cL_law 485 = .ok (.iload 4, 2) := dk_21 4 (dk_at dksL_law_13 0 rfl rfl)
theorem dL_law_487 : decode cL_law 487 = .ok (.iconst 1, 1) := dk_4 (dk_at dksL_law_13 2 rfl rfl)
theorem dL_law_488 : decode cL_law 488 = .ok (.iadd, 1) := dk_96 (dk_at dksL_law_13 3 rfl rfl)
theorem dL_law_489 : decode cL_law 489 = .ok (.iaload, 1) := dk_46 (dk_at dksL_law_13 4 rfl rfl)
theorem dL_law_490 : decode cL_law 490 = .ok (.invokevirtual 164, 3) := dk_182 0 164 (dk_at dksL_law_13 5 rfl rfl)
theorem dL_law_493 : decode cL_law 493 = .ok (.istore 6, 2) := dk_54 6 (dk_at dksL_law_13 8 rfl rfl)
theorem dL_law_495 : decode cL_law 495 = .ok (.aload_n 2, 1) := dk_44 (dk_at dksL_law_13 10 rfl rfl)
theorem dL_law_496 : decode cL_law 496 = .ok (.invokevirtual 151, 3) := dk_182 0 151 (dk_at dksL_law_13 11 rfl rfl)
theorem dL_law_499 : decode cL_law 499 = .ok (.iload 5, 2) := dk_21 5 (dk_at dksL_law_13 14 rfl rfl)
theorem dL_law_501 : decode cL_law 501 = .ok (.if_icmp .eq 5, 3) := dk_159 0 5 (dk_at dksL_law_13 16 rfl rfl)
theorem dL_law_504 : decode cL_law 504 = .ok (.iconst 0, 1) := dk_3 (dk_at dksL_law_13 19 rfl rfl)
theorem dL_law_505 : decode cL_law 505 = .ok (.ireturn, 1) := dk_172 (dk_at dksL_law_13 20 rfl rfl)
theorem dL_law_506 : decode cL_law 506 = .ok (.iload 5, 2) := dk_21 5 (dk_at dksL_law_13 21 rfl rfl)
theorem dL_law_508 : decode cL_law 508 = .ok (.ifCond .ne 15, 3) := dk_154 0 15 (dk_at dksL_law_14 0 rfl rfl)
theorem dL_law_511 : decode cL_law 511 = .ok (.aload_n 3, 1) := dk_45 (dk_at dksL_law_14 3 rfl rfl)
theorem dL_law_512 : decode cL_law 512 = .ok (.iconst 0, 1) := dk_3 (dk_at dksL_law_14 4 rfl rfl)
theorem dL_law_513 : decode cL_law 513 = .ok (.laload, 1) := dk_47 (dk_at dksL_law_14 5 rfl rfl)
theorem dL_law_514 : decode cL_law 514 = .ok (.iload 6, 2) := dk_21 6 (dk_at dksL_law_14 6 rfl rfl)
theorem dL_law_516 : decode cL_law 516 = .ok (.i2l, 1) := dk_133 (dk_at dksL_law_14 8 rfl rfl)
theorem dL_law_517 : decode cL_law 517 = .ok (.lcmp, 1) := dk_148 (dk_at dksL_law_14 9 rfl rfl)
theorem dL_law_518 : decode cL_law 518 = .ok (.ifCond .eq 5, 3) := dk_153 0 5 (dk_at dksL_law_14 10 rfl rfl)
theorem dL_law_521 : decode cL_law 521 = .ok (.iconst 0, 1) := dk_3 (dk_at dksL_law_14 13 rfl rfl)
theorem dL_law_522 : decode cL_law 522 = .ok (.ireturn, 1) := dk_172 (dk_at dksL_law_14 14 rfl rfl)
theorem dL_law_523 : decode cL_law 523 = .ok (.goto 2206, 3) := dk_167 8 158 (dk_at dksL_law_14 15 rfl rfl)
theorem dL_law_526 : decode cL_law 526 = .ok (.aload_n 1, 1) := dk_43 (dk_at dksL_law_14 18 rfl rfl)
theorem dL_law_527 : decode cL_law 527 = .ok (.aload_n 0, 1) := dk_42 (dk_at dksL_law_14 19 rfl rfl)
theorem dL_law_528 : decode cL_law 528 = .ok (.iload 4, 2) := dk_21 4 (dk_at dksL_law_14 20 rfl rfl)
theorem dL_law_530 : decode cL_law 530 = .ok (.iconst 1, 1) := dk_4 (dk_at dksL_law_14 22 rfl rfl)
theorem dL_law_531 : decode cL_law 531 = .ok (.iadd, 1) := dk_96 (dk_at dksL_law_14 23 rfl rfl)
theorem dL_law_532 : decode cL_law 532 = .ok (.iaload, 1) := dk_46 (dk_at dksL_law_15 0 rfl rfl)
theorem dL_law_533 : decode cL_law 533 = .ok (.aload_n 0, 1) := dk_42 (dk_at dksL_law_15 1 rfl rfl)
theorem dL_law_534 : decode cL_law 534 = .ok (.iload 4, 2) := dk_21 4 (dk_at dksL_law_15 2 rfl rfl)
theorem dL_law_536 : decode cL_law 536 = .ok (.iconst 2, 1) := dk_5 (dk_at dksL_law_15 4 rfl rfl)
theorem dL_law_537 : decode cL_law 537 = .ok (.iadd, 1) := dk_96 (dk_at dksL_law_15 5 rfl rfl)
theorem dL_law_538 : decode cL_law 538 = .ok (.iaload, 1) := dk_46 (dk_at dksL_law_15 6 rfl rfl)
theorem dL_law_539 : decode cL_law 539 = .ok (.aload_n 3, 1) := dk_45 (dk_at dksL_law_15 7 rfl rfl)
theorem dL_law_540 : decode cL_law 540 = .ok (.invokestatic 165, 3) := dk_184 0 165 (dk_at dksL_law_15 8 rfl rfl)
theorem dL_law_543 : decode cL_law 543 = .ok (.istore 5, 2) := dk_54 5 (dk_at dksL_law_15 11 rfl rfl)
theorem dL_law_545 : decode cL_law 545 = .ok (.aload_n 2, 1) := dk_44 (dk_at dksL_law_15 13 rfl rfl)
theorem dL_law_546 : decode cL_law 546 = .ok (.aload_n 0, 1) := dk_42 (dk_at dksL_law_15 14 rfl rfl)
theorem dL_law_547 : decode cL_law 547 = .ok (.iload 4, 2) := dk_21 4 (dk_at dksL_law_15 15 rfl rfl)
theorem dL_law_549 : decode cL_law 549 = .ok (.iconst 1, 1) := dk_4 (dk_at dksL_law_15 17 rfl rfl)
theorem dL_law_550 : decode cL_law 550 = .ok (.iadd, 1) := dk_96 (dk_at dksL_law_15 18 rfl rfl)
theorem dL_law_551 : decode cL_law 551 = .ok (.iaload, 1) := dk_46 (dk_at dksL_law_15 19 rfl rfl)
theorem dL_law_552 : decode cL_law 552 = .ok (.aload_n 0, 1) := dk_42 (dk_at dksL_law_15 20 rfl rfl)
theorem dL_law_553 : decode cL_law 553 = .ok (.iload 4, 2) := dk_21 4 (dk_at dksL_law_15 21 rfl rfl)
theorem dL_law_555 : decode cL_law 555 = .ok (.iconst 2, 1) := dk_5 (dk_at dksL_law_15 23 rfl rfl)
theorem dL_law_556 : decode cL_law 556 = .ok (.iadd, 1) := dk_96 (dk_at dksL_law_16 0 rfl rfl)
theorem dL_law_557 : decode cL_law 557 = .ok (.iaload, 1) := dk_46 (dk_at dksL_law_16 1 rfl rfl)
theorem dL_law_558 : decode cL_law 558 = .ok (.invokevirtual 167, 3) := dk_182 0 167 (dk_at dksL_law_16 2 rfl rfl)
theorem dL_law_561 : decode cL_law 561 = .ok (.istore 6, 2) := dk_54 6 (dk_at dksL_law_16 5 rfl rfl)
theorem dL_law_563 : decode cL_law 563 = .ok (.aload_n 2, 1) := dk_44 (dk_at dksL_law_16 7 rfl rfl)
theorem dL_law_564 : decode cL_law 564 = .ok (.invokevirtual 151, 3) := dk_182 0 151 (dk_at dksL_law_16 8 rfl rfl)
theorem dL_law_567 : decode cL_law 567 = .ok (.iload 5, 2) := dk_21 5 (dk_at dksL_law_16 11 rfl rfl)
theorem dL_law_569 : decode cL_law 569 = .ok (.if_icmp .eq 5, 3) := dk_159 0 5 (dk_at dksL_law_16 13 rfl rfl)
theorem dL_law_572 : decode cL_law 572 = .ok (.iconst 0, 1) := dk_3 (dk_at dksL_law_16 16 rfl rfl)
theorem dL_law_573 : decode cL_law 573 = .ok (.ireturn, 1) := dk_172 (dk_at dksL_law_16 17 rfl rfl)
theorem dL_law_574 : decode cL_law 574 = .ok (.iload 5, 2) := dk_21 5 (dk_at dksL_law_16 18 rfl rfl)
theorem dL_law_576 : decode cL_law 576 = .ok (.ifCond .ne 15, 3) := dk_154 0 15 (dk_at dksL_law_16 20 rfl rfl)
theorem dL_law_579 : decode cL_law 579 = .ok (.aload_n 3, 1) := dk_45 (dk_at dksL_law_16 23 rfl rfl)
theorem dL_law_580 : decode cL_law 580 = .ok (.iconst 0, 1) := dk_3 (dk_at dksL_law_17 0 rfl rfl)
theorem dL_law_581 : decode cL_law 581 = .ok (.laload, 1) := dk_47 (dk_at dksL_law_17 1 rfl rfl)
theorem dL_law_582 : decode cL_law 582 = .ok (.iload 6, 2) := dk_21 6 (dk_at dksL_law_17 2 rfl rfl)
theorem dL_law_584 : decode cL_law 584 = .ok (.i2l, 1) := dk_133 (dk_at dksL_law_17 4 rfl rfl)
theorem dL_law_585 : decode cL_law 585 = .ok (.lcmp, 1) := dk_148 (dk_at dksL_law_17 5 rfl rfl)
theorem dL_law_586 : decode cL_law 586 = .ok (.ifCond .eq 5, 3) := dk_153 0 5 (dk_at dksL_law_17 6 rfl rfl)
theorem dL_law_589 : decode cL_law 589 = .ok (.iconst 0, 1) := dk_3 (dk_at dksL_law_17 9 rfl rfl)
theorem dL_law_590 : decode cL_law 590 = .ok (.ireturn, 1) := dk_172 (dk_at dksL_law_17 10 rfl rfl)
theorem dL_law_591 : decode cL_law 591 = .ok (.goto 2138, 3) := dk_167 8 90 (dk_at dksL_law_17 11 rfl rfl)
theorem dL_law_594 : decode cL_law 594 = .ok (.aload_n 1, 1) := dk_43 (dk_at dksL_law_17 14 rfl rfl)
theorem dL_law_595 : decode cL_law 595 = .ok (.aload_n 0, 1) := dk_42 (dk_at dksL_law_17 15 rfl rfl)
theorem dL_law_596 : decode cL_law 596 = .ok (.iload 4, 2) := dk_21 4 (dk_at dksL_law_17 16 rfl rfl)
theorem dL_law_598 : decode cL_law 598 = .ok (.iconst 1, 1) := dk_4 (dk_at dksL_law_17 18 rfl rfl)
theorem dL_law_599 : decode cL_law 599 = .ok (.iadd, 1) := dk_96 (dk_at dksL_law_17 19 rfl rfl)
theorem dL_law_600 : decode cL_law 600 = .ok (.iaload, 1) := dk_46 (dk_at dksL_law_17 20 rfl rfl)
theorem dL_law_601 : decode cL_law 601 = .ok (.aload_n 3, 1) := dk_45 (dk_at dksL_law_17 21 rfl rfl)
theorem dL_law_602 : decode cL_law 602 = .ok (.invokestatic 168, 3) := dk_184 0 168 (dk_at dksL_law_18 0 rfl rfl)
theorem dL_law_605 : decode cL_law 605 = .ok (.istore 5, 2) := dk_54 5 (dk_at dksL_law_18 3 rfl rfl)
theorem dL_law_607 : decode cL_law 607 = .ok (.aload_n 2, 1) := dk_44 (dk_at dksL_law_18 5 rfl rfl)
theorem dL_law_608 : decode cL_law 608 = .ok (.aload_n 0, 1) := dk_42 (dk_at dksL_law_18 6 rfl rfl)
theorem dL_law_609 : decode cL_law 609 = .ok (.iload 4, 2) := dk_21 4 (dk_at dksL_law_18 7 rfl rfl)
theorem dL_law_611 : decode cL_law 611 = .ok (.iconst 1, 1) := dk_4 (dk_at dksL_law_18 9 rfl rfl)
theorem dL_law_612 : decode cL_law 612 = .ok (.iadd, 1) := dk_96 (dk_at dksL_law_18 10 rfl rfl)
theorem dL_law_613 : decode cL_law 613 = .ok (.iaload, 1) := dk_46 (dk_at dksL_law_18 11 rfl rfl)
theorem dL_law_614 : decode cL_law 614 = .ok (.invokevirtual 170, 3) := dk_182 0 170 (dk_at dksL_law_18 12 rfl rfl)
theorem dL_law_617 : decode cL_law 617 = .ok (.istore 6, 2) := dk_54 6 (dk_at dksL_law_18 15 rfl rfl)
theorem dL_law_619 : decode cL_law 619 = .ok (.aload_n 2, 1) := dk_44 (dk_at dksL_law_18 17 rfl rfl)
theorem dL_law_620 : decode cL_law 620 = .ok (.invokevirtual 151, 3) := dk_182 0 151 (dk_at dksL_law_18 18 rfl rfl)
theorem dL_law_623 : decode cL_law 623 = .ok (.iload 5, 2) := dk_21 5 (dk_at dksL_law_18 21 rfl rfl)
theorem dL_law_625 : decode cL_law 625 = .ok (.if_icmp .eq 5, 3) := dk_159 0 5 (dk_at dksL_law_19 0 rfl rfl)
theorem dL_law_628 : decode cL_law 628 = .ok (.iconst 0, 1) := dk_3 (dk_at dksL_law_19 3 rfl rfl)
theorem dL_law_629 : decode cL_law 629 = .ok (.ireturn, 1) := dk_172 (dk_at dksL_law_19 4 rfl rfl)
theorem dL_law_630 : decode cL_law 630 = .ok (.iload 5, 2) := dk_21 5 (dk_at dksL_law_19 5 rfl rfl)
theorem dL_law_632 : decode cL_law 632 = .ok (.ifCond .ne 15, 3) := dk_154 0 15 (dk_at dksL_law_19 7 rfl rfl)
theorem dL_law_635 : decode cL_law 635 = .ok (.aload_n 3, 1) := dk_45 (dk_at dksL_law_19 10 rfl rfl)
theorem dL_law_636 : decode cL_law 636 = .ok (.iconst 0, 1) := dk_3 (dk_at dksL_law_19 11 rfl rfl)
theorem dL_law_637 : decode cL_law 637 = .ok (.laload, 1) := dk_47 (dk_at dksL_law_19 12 rfl rfl)
theorem dL_law_638 : decode cL_law 638 = .ok (.iload 6, 2) := dk_21 6 (dk_at dksL_law_19 13 rfl rfl)
theorem dL_law_640 : decode cL_law 640 = .ok (.i2l, 1) := dk_133 (dk_at dksL_law_19 15 rfl rfl)
theorem dL_law_641 : decode cL_law 641 = .ok (.lcmp, 1) := dk_148 (dk_at dksL_law_19 16 rfl rfl)
theorem dL_law_642 : decode cL_law 642 = .ok (.ifCond .eq 5, 3) := dk_153 0 5 (dk_at dksL_law_19 17 rfl rfl)
theorem dL_law_645 : decode cL_law 645 = .ok (.iconst 0, 1) := dk_3 (dk_at dksL_law_19 20 rfl rfl)
theorem dL_law_646 : decode cL_law 646 = .ok (.ireturn, 1) := dk_172 (dk_at dksL_law_19 21 rfl rfl)
theorem dL_law_647 : decode cL_law 647 = .ok (.goto 2082, 3) := dk_167 8 34 (dk_at dksL_law_20 0 rfl rfl)
theorem dL_law_650 : decode cL_law 650 = .ok (.aload_n 1, 1) := dk_43 (dk_at dksL_law_20 3 rfl rfl)
theorem dL_law_651 : decode cL_law 651 = .ok (.aload_n 0, 1) := dk_42 (dk_at dksL_law_20 4 rfl rfl)
theorem dL_law_652 : decode cL_law 652 = .ok (.iload 4, 2) := dk_21 4 (dk_at dksL_law_20 5 rfl rfl)
theorem dL_law_654 : decode cL_law 654 = .ok (.iconst 1, 1) := dk_4 (dk_at dksL_law_20 7 rfl rfl)
theorem dL_law_655 : decode cL_law 655 = .ok (.iadd, 1) := dk_96 (dk_at dksL_law_20 8 rfl rfl)
theorem dL_law_656 : decode cL_law 656 = .ok (.iaload, 1) := dk_46 (dk_at dksL_law_20 9 rfl rfl)
theorem dL_law_657 : decode cL_law 657 = .ok (.aload_n 3, 1) := dk_45 (dk_at dksL_law_20 10 rfl rfl)
theorem dL_law_658 : decode cL_law 658 = .ok (.invokestatic 171, 3) := dk_184 0 171 (dk_at dksL_law_20 11 rfl rfl)
theorem dL_law_661 : decode cL_law 661 = .ok (.istore 5, 2) := dk_54 5 (dk_at dksL_law_20 14 rfl rfl)
theorem dL_law_663 : decode cL_law 663 = .ok (.aload_n 2, 1) := dk_44 (dk_at dksL_law_20 16 rfl rfl)
theorem dL_law_664 : decode cL_law 664 = .ok (.aload_n 0, 1) := dk_42 (dk_at dksL_law_20 17 rfl rfl)
theorem dL_law_665 : decode cL_law 665 = .ok (.iload 4, 2) := dk_21 4 (dk_at dksL_law_20 18 rfl rfl)
theorem dL_law_667 : decode cL_law 667 = .ok (.iconst 1, 1) := dk_4 (dk_at dksL_law_20 20 rfl rfl)
theorem dL_law_668 : decode cL_law 668 = .ok (.iadd, 1) := dk_96 (dk_at dksL_law_20 21 rfl rfl)
theorem dL_law_669 : decode cL_law 669 = .ok (.iaload, 1) := dk_46 (dk_at dksL_law_20 22 rfl rfl)
theorem dL_law_670 : decode cL_law 670 = .ok (.invokevirtual 173, 3) := dk_182 0 173 (dk_at dksL_law_21 0 rfl rfl)
theorem dL_law_673 : decode cL_law 673 = .ok (.istore 6, 2) := dk_54 6 (dk_at dksL_law_21 3 rfl rfl)
theorem dL_law_675 : decode cL_law 675 = .ok (.aload_n 2, 1) := dk_44 (dk_at dksL_law_21 5 rfl rfl)
theorem dL_law_676 : decode cL_law 676 = .ok (.invokevirtual 151, 3) := dk_182 0 151 (dk_at dksL_law_21 6 rfl rfl)
theorem dL_law_679 : decode cL_law 679 = .ok (.iload 5, 2) := dk_21 5 (dk_at dksL_law_21 9 rfl rfl)
theorem dL_law_681 : decode cL_law 681 = .ok (.if_icmp .eq 5, 3) := dk_159 0 5 (dk_at dksL_law_21 11 rfl rfl)
theorem dL_law_684 : decode cL_law 684 = .ok (.iconst 0, 1) := dk_3 (dk_at dksL_law_21 14 rfl rfl)
theorem dL_law_685 : decode cL_law 685 = .ok (.ireturn, 1) := dk_172 (dk_at dksL_law_21 15 rfl rfl)
theorem dL_law_686 : decode cL_law 686 = .ok (.iload 5, 2) := dk_21 5 (dk_at dksL_law_21 16 rfl rfl)
theorem dL_law_688 : decode cL_law 688 = .ok (.ifCond .ne 15, 3) := dk_154 0 15 (dk_at dksL_law_21 18 rfl rfl)
theorem dL_law_691 : decode cL_law 691 = .ok (.aload_n 3, 1) := dk_45 (dk_at dksL_law_21 21 rfl rfl)
theorem dL_law_692 : decode cL_law 692 = .ok (.iconst 0, 1) := dk_3 (dk_at dksL_law_21 22 rfl rfl)
theorem dL_law_693 : decode cL_law 693 = .ok (.laload, 1) := dk_47 (dk_at dksL_law_21 23 rfl rfl)
theorem dL_law_694 : decode cL_law 694 = .ok (.iload 6, 2) := dk_21 6 (dk_at dksL_law_22 0 rfl rfl)
theorem dL_law_696 : decode cL_law 696 = .ok (.i2l, 1) := dk_133 (dk_at dksL_law_22 2 rfl rfl)
theorem dL_law_697 : decode cL_law 697 = .ok (.lcmp, 1) := dk_148 (dk_at dksL_law_22 3 rfl rfl)
theorem dL_law_698 : decode cL_law 698 = .ok (.ifCond .eq 5, 3) := dk_153 0 5 (dk_at dksL_law_22 4 rfl rfl)
theorem dL_law_701 : decode cL_law 701 = .ok (.iconst 0, 1) := dk_3 (dk_at dksL_law_22 7 rfl rfl)
theorem dL_law_702 : decode cL_law 702 = .ok (.ireturn, 1) := dk_172 (dk_at dksL_law_22 8 rfl rfl)
theorem dL_law_703 : decode cL_law 703 = .ok (.goto 2026, 3) := dk_167 7 234 (dk_at dksL_law_22 9 rfl rfl)
theorem dL_law_706 : decode cL_law 706 = .ok (.aload_n 1, 1) := dk_43 (dk_at dksL_law_22 12 rfl rfl)
theorem dL_law_707 : decode cL_law 707 = .ok (.aload_n 0, 1) := dk_42 (dk_at dksL_law_22 13 rfl rfl)
theorem dL_law_708 : decode cL_law 708 = .ok (.iload 4, 2) := dk_21 4 (dk_at dksL_law_22 14 rfl rfl)
theorem dL_law_710 : decode cL_law 710 = .ok (.iconst 1, 1) := dk_4 (dk_at dksL_law_22 16 rfl rfl)
theorem dL_law_711 : decode cL_law 711 = .ok (.iadd, 1) := dk_96 (dk_at dksL_law_22 17 rfl rfl)
theorem dL_law_712 : decode cL_law 712 = .ok (.iaload, 1) := dk_46 (dk_at dksL_law_22 18 rfl rfl)
theorem dL_law_713 : decode cL_law 713 = .ok (.aload_n 3, 1) := dk_45 (dk_at dksL_law_22 19 rfl rfl)
theorem dL_law_714 : decode cL_law 714 = .ok (.invokestatic 174, 3) := dk_184 0 174 (dk_at dksL_law_22 20 rfl rfl)
theorem dL_law_717 : decode cL_law 717 = .ok (.istore 5, 2) := dk_54 5 (dk_at dksL_law_23 0 rfl rfl)
theorem dL_law_719 : decode cL_law 719 = .ok (.aload_n 2, 1) := dk_44 (dk_at dksL_law_23 2 rfl rfl)
theorem dL_law_720 : decode cL_law 720 = .ok (.aload_n 0, 1) := dk_42 (dk_at dksL_law_23 3 rfl rfl)
theorem dL_law_721 : decode cL_law 721 = .ok (.iload 4, 2) := dk_21 4 (dk_at dksL_law_23 4 rfl rfl)
theorem dL_law_723 : decode cL_law 723 = .ok (.iconst 1, 1) := dk_4 (dk_at dksL_law_23 6 rfl rfl)
theorem dL_law_724 : decode cL_law 724 = .ok (.iadd, 1) := dk_96 (dk_at dksL_law_23 7 rfl rfl)
theorem dL_law_725 : decode cL_law 725 = .ok (.iaload, 1) := dk_46 (dk_at dksL_law_23 8 rfl rfl)
theorem dL_law_726 : decode cL_law 726 = .ok (.invokevirtual 176, 3) := dk_182 0 176 (dk_at dksL_law_23 9 rfl rfl)
theorem dL_law_729 : decode cL_law 729 = .ok (.istore 6, 2) := dk_54 6 (dk_at dksL_law_23 12 rfl rfl)
theorem dL_law_731 : decode cL_law 731 = .ok (.aload_n 2, 1) := dk_44 (dk_at dksL_law_23 14 rfl rfl)
theorem dL_law_732 : decode cL_law 732 = .ok (.invokevirtual 151, 3) := dk_182 0 151 (dk_at dksL_law_23 15 rfl rfl)
theorem dL_law_735 : decode cL_law 735 = .ok (.iload 5, 2) := dk_21 5 (dk_at dksL_law_23 18 rfl rfl)
theorem dL_law_737 : decode cL_law 737 = .ok (.if_icmp .eq 5, 3) := dk_159 0 5 (dk_at dksL_law_23 20 rfl rfl)
theorem dL_law_740 : decode cL_law 740 = .ok (.iconst 0, 1) := dk_3 (dk_at dksL_law_23 23 rfl rfl)
theorem dL_law_741 : decode cL_law 741 = .ok (.ireturn, 1) := dk_172 (dk_at dksL_law_24 0 rfl rfl)
theorem dL_law_742 : decode cL_law 742 = .ok (.iload 5, 2) := dk_21 5 (dk_at dksL_law_24 1 rfl rfl)
theorem dL_law_744 : decode cL_law 744 = .ok (.ifCond .ne 15, 3) := dk_154 0 15 (dk_at dksL_law_24 3 rfl rfl)
theorem dL_law_747 : decode cL_law 747 = .ok (.aload_n 3, 1) := dk_45 (dk_at dksL_law_24 6 rfl rfl)
theorem dL_law_748 : decode cL_law 748 = .ok (.iconst 0, 1) := dk_3 (dk_at dksL_law_24 7 rfl rfl)
theorem dL_law_749 : decode cL_law 749 = .ok (.laload, 1) := dk_47 (dk_at dksL_law_24 8 rfl rfl)
theorem dL_law_750 : decode cL_law 750 = .ok (.iload 6, 2) := dk_21 6 (dk_at dksL_law_24 9 rfl rfl)
theorem dL_law_752 : decode cL_law 752 = .ok (.i2l, 1) := dk_133 (dk_at dksL_law_24 11 rfl rfl)
theorem dL_law_753 : decode cL_law 753 = .ok (.lcmp, 1) := dk_148 (dk_at dksL_law_24 12 rfl rfl)
theorem dL_law_754 : decode cL_law 754 = .ok (.ifCond .eq 5, 3) := dk_153 0 5 (dk_at dksL_law_24 13 rfl rfl)
theorem dL_law_757 : decode cL_law 757 = .ok (.iconst 0, 1) := dk_3 (dk_at dksL_law_24 16 rfl rfl)
theorem dL_law_758 : decode cL_law 758 = .ok (.ireturn, 1) := dk_172 (dk_at dksL_law_24 17 rfl rfl)
theorem dL_law_759 : decode cL_law 759 = .ok (.goto 1970, 3) := dk_167 7 178 (dk_at dksL_law_24 18 rfl rfl)
theorem dL_law_762 : decode cL_law 762 = .ok (.aload_n 1, 1) := dk_43 (dk_at dksL_law_24 21 rfl rfl)
theorem dL_law_763 : decode cL_law 763 = .ok (.aload_n 0, 1) := dk_42 (dk_at dksL_law_24 22 rfl rfl)
theorem dL_law_764 : decode cL_law 764 = .ok (.iload 4, 2) := dk_21 4 (dk_at dksL_law_25 0 rfl rfl)
theorem dL_law_766 : decode cL_law 766 = .ok (.iconst 1, 1) := dk_4 (dk_at dksL_law_25 2 rfl rfl)
theorem dL_law_767 : decode cL_law 767 = .ok (.iadd, 1) := dk_96 (dk_at dksL_law_25 3 rfl rfl)
theorem dL_law_768 : decode cL_law 768 = .ok (.iaload, 1) := dk_46 (dk_at dksL_law_25 4 rfl rfl)
theorem dL_law_769 : decode cL_law 769 = .ok (.aload_n 3, 1) := dk_45 (dk_at dksL_law_25 5 rfl rfl)
theorem dL_law_770 : decode cL_law 770 = .ok (.invokestatic 177, 3) := dk_184 0 177 (dk_at dksL_law_25 6 rfl rfl)
theorem dL_law_773 : decode cL_law 773 = .ok (.istore 5, 2) := dk_54 5 (dk_at dksL_law_25 9 rfl rfl)
theorem dL_law_775 : decode cL_law 775 = .ok (.aload_n 2, 1) := dk_44 (dk_at dksL_law_25 11 rfl rfl)
theorem dL_law_776 : decode cL_law 776 = .ok (.aload_n 0, 1) := dk_42 (dk_at dksL_law_25 12 rfl rfl)
theorem dL_law_777 : decode cL_law 777 = .ok (.iload 4, 2) := dk_21 4 (dk_at dksL_law_25 13 rfl rfl)
theorem dL_law_779 : decode cL_law 779 = .ok (.iconst 1, 1) := dk_4 (dk_at dksL_law_25 15 rfl rfl)
theorem dL_law_780 : decode cL_law 780 = .ok (.iadd, 1) := dk_96 (dk_at dksL_law_25 16 rfl rfl)
theorem dL_law_781 : decode cL_law 781 = .ok (.iaload, 1) := dk_46 (dk_at dksL_law_25 17 rfl rfl)
theorem dL_law_782 : decode cL_law 782 = .ok (.invokevirtual 179, 3) := dk_182 0 179 (dk_at dksL_law_25 18 rfl rfl)
theorem dL_law_785 : decode cL_law 785 = .ok (.istore 6, 2) := dk_54 6 (dk_at dksL_law_25 21 rfl rfl)
theorem dL_law_787 : decode cL_law 787 = .ok (.aload_n 2, 1) := dk_44 (dk_at dksL_law_25 23 rfl rfl)
theorem dL_law_788 : decode cL_law 788 = .ok (.invokevirtual 151, 3) := dk_182 0 151 (dk_at dksL_law_26 0 rfl rfl)
theorem dL_law_791 : decode cL_law 791 = .ok (.iload 5, 2) := dk_21 5 (dk_at dksL_law_26 3 rfl rfl)
theorem dL_law_793 : decode cL_law 793 = .ok (.if_icmp .eq 5, 3) := dk_159 0 5 (dk_at dksL_law_26 5 rfl rfl)
theorem dL_law_796 : decode cL_law 796 = .ok (.iconst 0, 1) := dk_3 (dk_at dksL_law_26 8 rfl rfl)
theorem dL_law_797 : decode cL_law 797 = .ok (.ireturn, 1) := dk_172 (dk_at dksL_law_26 9 rfl rfl)
theorem dL_law_798 : decode cL_law 798 = .ok (.iload 5, 2) := dk_21 5 (dk_at dksL_law_26 10 rfl rfl)
theorem dL_law_800 : decode cL_law 800 = .ok (.ifCond .ne 15, 3) := dk_154 0 15 (dk_at dksL_law_26 12 rfl rfl)
theorem dL_law_803 : decode cL_law 803 = .ok (.aload_n 3, 1) := dk_45 (dk_at dksL_law_26 15 rfl rfl)
theorem dL_law_804 : decode cL_law 804 = .ok (.iconst 0, 1) := dk_3 (dk_at dksL_law_26 16 rfl rfl)
theorem dL_law_805 : decode cL_law 805 = .ok (.laload, 1) := dk_47 (dk_at dksL_law_26 17 rfl rfl)
theorem dL_law_806 : decode cL_law 806 = .ok (.iload 6, 2) := dk_21 6 (dk_at dksL_law_26 18 rfl rfl)
theorem dL_law_808 : decode cL_law 808 = .ok (.i2l, 1) := dk_133 (dk_at dksL_law_26 20 rfl rfl)
theorem dL_law_809 : decode cL_law 809 = .ok (.lcmp, 1) := dk_148 (dk_at dksL_law_26 21 rfl rfl)
theorem dL_law_810 : decode cL_law 810 = .ok (.ifCond .eq 5, 3) := dk_153 0 5 (dk_at dksL_law_27 0 rfl rfl)
theorem dL_law_813 : decode cL_law 813 = .ok (.iconst 0, 1) := dk_3 (dk_at dksL_law_27 3 rfl rfl)
theorem dL_law_814 : decode cL_law 814 = .ok (.ireturn, 1) := dk_172 (dk_at dksL_law_27 4 rfl rfl)
theorem dL_law_815 : decode cL_law 815 = .ok (.goto 1914, 3) := dk_167 7 122 (dk_at dksL_law_27 5 rfl rfl)
theorem dL_law_818 : decode cL_law 818 = .ok (.aload_n 1, 1) := dk_43 (dk_at dksL_law_27 8 rfl rfl)
theorem dL_law_819 : decode cL_law 819 = .ok (.invokevirtual 180, 3) := dk_182 0 180 (dk_at dksL_law_27 9 rfl rfl)
theorem dL_law_822 : decode cL_law 822 = .ok (.aload_n 2, 1) := dk_44 (dk_at dksL_law_27 12 rfl rfl)
theorem dL_law_823 : decode cL_law 823 = .ok (.invokevirtual 183, 3) := dk_182 0 183 (dk_at dksL_law_27 13 rfl rfl)
theorem dL_law_826 : decode cL_law 826 = .ok (.if_icmp .eq 1903, 3) := dk_159 7 111 (dk_at dksL_law_27 16 rfl rfl)
theorem dL_law_829 : decode cL_law 829 = .ok (.iconst 0, 1) := dk_3 (dk_at dksL_law_27 19 rfl rfl)
theorem dL_law_830 : decode cL_law 830 = .ok (.ireturn, 1) := dk_172 (dk_at dksL_law_27 20 rfl rfl)
theorem dL_law_831 : decode cL_law 831 = .ok (.aload_n 1, 1) := dk_43 (dk_at dksL_law_27 21 rfl rfl)
theorem dL_law_832 : decode cL_law 832 = .ok (.invokevirtual 184, 3) := dk_182 0 184 (dk_at dksL_law_28 0 rfl rfl)
theorem dL_law_835 : decode cL_law 835 = .ok (.aload_n 2, 1) := dk_44 (dk_at dksL_law_28 3 rfl rfl)
theorem dL_law_836 : decode cL_law 836 = .ok (.invokevirtual 188, 3) := dk_182 0 188 (dk_at dksL_law_28 4 rfl rfl)
theorem dL_law_839 : decode cL_law 839 = .ok (.if_icmp .eq 1890, 3) := dk_159 7 98 (dk_at dksL_law_28 7 rfl rfl)
theorem dL_law_842 : decode cL_law 842 = .ok (.iconst 0, 1) := dk_3 (dk_at dksL_law_28 10 rfl rfl)
theorem dL_law_843 : decode cL_law 843 = .ok (.ireturn, 1) := dk_172 (dk_at dksL_law_28 11 rfl rfl)
theorem dL_law_844 : decode cL_law 844 = .ok (.aload_n 1, 1) := dk_43 (dk_at dksL_law_28 12 rfl rfl)
theorem dL_law_845 : decode cL_law 845 = .ok (.aload_n 0, 1) := dk_42 (dk_at dksL_law_28 13 rfl rfl)
theorem dL_law_846 : decode cL_law 846 = .ok (.iload 4, 2) := dk_21 4 (dk_at dksL_law_28 14 rfl rfl)
theorem dL_law_848 : decode cL_law 848 = .ok (.iconst 1, 1) := dk_4 (dk_at dksL_law_28 16 rfl rfl)
theorem dL_law_849 : decode cL_law 849 = .ok (.iadd, 1) := dk_96 (dk_at dksL_law_28 17 rfl rfl)
theorem dL_law_850 : decode cL_law 850 = .ok (.iaload, 1) := dk_46 (dk_at dksL_law_28 18 rfl rfl)
theorem dL_law_851 : decode cL_law 851 = .ok (.aload_n 3, 1) := dk_45 (dk_at dksL_law_28 19 rfl rfl)
theorem dL_law_852 : decode cL_law 852 = .ok (.invokestatic 189, 3) := dk_184 0 189 (dk_at dksL_law_28 20 rfl rfl)
theorem dL_law_855 : decode cL_law 855 = .ok (.istore 5, 2) := dk_54 5 (dk_at dksL_law_29 0 rfl rfl)
theorem dL_law_857 : decode cL_law 857 = .ok (.aload_n 2, 1) := dk_44 (dk_at dksL_law_29 2 rfl rfl)
theorem dL_law_858 : decode cL_law 858 = .ok (.aload_n 0, 1) := dk_42 (dk_at dksL_law_29 3 rfl rfl)
theorem dL_law_859 : decode cL_law 859 = .ok (.iload 4, 2) := dk_21 4 (dk_at dksL_law_29 4 rfl rfl)
theorem dL_law_861 : decode cL_law 861 = .ok (.iconst 1, 1) := dk_4 (dk_at dksL_law_29 6 rfl rfl)
theorem dL_law_862 : decode cL_law 862 = .ok (.iadd, 1) := dk_96 (dk_at dksL_law_29 7 rfl rfl)
theorem dL_law_863 : decode cL_law 863 = .ok (.iaload, 1) := dk_46 (dk_at dksL_law_29 8 rfl rfl)
theorem dL_law_864 : decode cL_law 864 = .ok (.invokevirtual 191, 3) := dk_182 0 191 (dk_at dksL_law_29 9 rfl rfl)
theorem dL_law_867 : decode cL_law 867 = .ok (.istore 6, 2) := dk_54 6 (dk_at dksL_law_29 12 rfl rfl)
theorem dL_law_869 : decode cL_law 869 = .ok (.aload_n 2, 1) := dk_44 (dk_at dksL_law_29 14 rfl rfl)
theorem dL_law_870 : decode cL_law 870 = .ok (.invokevirtual 151, 3) := dk_182 0 151 (dk_at dksL_law_29 15 rfl rfl)
theorem dL_law_873 : decode cL_law 873 = .ok (.iload 5, 2) := dk_21 5 (dk_at dksL_law_29 18 rfl rfl)
theorem dL_law_875 : decode cL_law 875 = .ok (.if_icmp .eq 5, 3) := dk_159 0 5 (dk_at dksL_law_29 20 rfl rfl)
theorem dL_law_878 : decode cL_law 878 = .ok (.iconst 0, 1) := dk_3 (dk_at dksL_law_29 23 rfl rfl)
theorem dL_law_879 : decode cL_law 879 = .ok (.ireturn, 1) := dk_172 (dk_at dksL_law_30 0 rfl rfl)
theorem dL_law_880 : decode cL_law 880 = .ok (.iload 5, 2) := dk_21 5 (dk_at dksL_law_30 1 rfl rfl)
theorem dL_law_882 : decode cL_law 882 = .ok (.ifCond .ne 15, 3) := dk_154 0 15 (dk_at dksL_law_30 3 rfl rfl)
theorem dL_law_885 : decode cL_law 885 = .ok (.aload_n 3, 1) := dk_45 (dk_at dksL_law_30 6 rfl rfl)
theorem dL_law_886 : decode cL_law 886 = .ok (.iconst 0, 1) := dk_3 (dk_at dksL_law_30 7 rfl rfl)
theorem dL_law_887 : decode cL_law 887 = .ok (.laload, 1) := dk_47 (dk_at dksL_law_30 8 rfl rfl)
theorem dL_law_888 : decode cL_law 888 = .ok (.iload 6, 2) := dk_21 6 (dk_at dksL_law_30 9 rfl rfl)
theorem dL_law_890 : decode cL_law 890 = .ok (.i2l, 1) := dk_133 (dk_at dksL_law_30 11 rfl rfl)
theorem dL_law_891 : decode cL_law 891 = .ok (.lcmp, 1) := dk_148 (dk_at dksL_law_30 12 rfl rfl)
theorem dL_law_892 : decode cL_law 892 = .ok (.ifCond .eq 5, 3) := dk_153 0 5 (dk_at dksL_law_30 13 rfl rfl)
theorem dL_law_895 : decode cL_law 895 = .ok (.iconst 0, 1) := dk_3 (dk_at dksL_law_30 16 rfl rfl)
theorem dL_law_896 : decode cL_law 896 = .ok (.ireturn, 1) := dk_172 (dk_at dksL_law_30 17 rfl rfl)
theorem dL_law_897 : decode cL_law 897 = .ok (.goto 1832, 3) := dk_167 7 40 (dk_at dksL_law_30 18 rfl rfl)
theorem dL_law_900 : decode cL_law 900 = .ok (.aload_n 1, 1) := dk_43 (dk_at dksL_law_30 21 rfl rfl)
theorem dL_law_901 : decode cL_law 901 = .ok (.aload_n 0, 1) := dk_42 (dk_at dksL_law_30 22 rfl rfl)
theorem dL_law_902 : decode cL_law 902 = .ok (.iload 4, 2) := dk_21 4 (dk_at dksL_law_31 0 rfl rfl)
theorem dL_law_904 : decode cL_law 904 = .ok (.iconst 1, 1) := dk_4 (dk_at dksL_law_31 2 rfl rfl)
theorem dL_law_905 : decode cL_law 905 = .ok (.iadd, 1) := dk_96 (dk_at dksL_law_31 3 rfl rfl)
theorem dL_law_906 : decode cL_law 906 = .ok (.iaload, 1) := dk_46 (dk_at dksL_law_31 4 rfl rfl)
theorem dL_law_907 : decode cL_law 907 = .ok (.aload_n 0, 1) := dk_42 (dk_at dksL_law_31 5 rfl rfl)
theorem dL_law_908 : decode cL_law 908 = .ok (.iload 4, 2) := dk_21 4 (dk_at dksL_law_31 6 rfl rfl)
theorem dL_law_910 : decode cL_law 910 = .ok (.iconst 2, 1) := dk_5 (dk_at dksL_law_31 8 rfl rfl)
theorem dL_law_911 : decode cL_law 911 = .ok (.iadd, 1) := dk_96 (dk_at dksL_law_31 9 rfl rfl)
theorem dL_law_912 : decode cL_law 912 = .ok (.iaload, 1) := dk_46 (dk_at dksL_law_31 10 rfl rfl)
theorem dL_law_913 : decode cL_law 913 = .ok (.invokevirtual 192, 3) := dk_182 0 192 (dk_at dksL_law_31 11 rfl rfl)
theorem dL_law_916 : decode cL_law 916 = .ok (.aload_n 2, 1) := dk_44 (dk_at dksL_law_31 14 rfl rfl)
theorem dL_law_917 : decode cL_law 917 = .ok (.aload_n 0, 1) := dk_42 (dk_at dksL_law_31 15 rfl rfl)
theorem dL_law_918 : decode cL_law 918 = .ok (.iload 4, 2) := dk_21 4 (dk_at dksL_law_31 16 rfl rfl)
theorem dL_law_920 : decode cL_law 920 = .ok (.iconst 1, 1) := dk_4 (dk_at dksL_law_31 18 rfl rfl)
theorem dL_law_921 : decode cL_law 921 = .ok (.iadd, 1) := dk_96 (dk_at dksL_law_31 19 rfl rfl)
theorem dL_law_922 : decode cL_law 922 = .ok (.iaload, 1) := dk_46 (dk_at dksL_law_31 20 rfl rfl)
theorem dL_law_923 : decode cL_law 923 = .ok (.aload_n 0, 1) := dk_42 (dk_at dksL_law_31 21 rfl rfl)
theorem dL_law_924 : decode cL_law 924 = .ok (.iload 4, 2) := dk_21 4 (dk_at dksL_law_31 22 rfl rfl)
theorem dL_law_926 : decode cL_law 926 = .ok (.iconst 2, 1) := dk_5 (dk_at dksL_law_32 0 rfl rfl)
theorem dL_law_927 : decode cL_law 927 = .ok (.iadd, 1) := dk_96 (dk_at dksL_law_32 1 rfl rfl)
theorem dL_law_928 : decode cL_law 928 = .ok (.iaload, 1) := dk_46 (dk_at dksL_law_32 2 rfl rfl)
theorem dL_law_929 : decode cL_law 929 = .ok (.invokevirtual 195, 3) := dk_182 0 195 (dk_at dksL_law_32 3 rfl rfl)
theorem dL_law_932 : decode cL_law 932 = .ok (.if_icmp .eq 1797, 3) := dk_159 7 5 (dk_at dksL_law_32 6 rfl rfl)
theorem dL_law_935 : decode cL_law 935 = .ok (.iconst 0, 1) := dk_3 (dk_at dksL_law_32 9 rfl rfl)
theorem dL_law_936 : decode cL_law 936 = .ok (.ireturn, 1) := dk_172 (dk_at dksL_law_32 10 rfl rfl)
theorem dL_law_937 : decode cL_law 937 = .ok (.aload_n 1, 1) := dk_43 (dk_at dksL_law_32 11 rfl rfl)
theorem dL_law_938 : decode cL_law 938 = .ok (.aload_n 3, 1) := dk_45 (dk_at dksL_law_32 12 rfl rfl)
theorem dL_law_939 : decode cL_law 939 = .ok (.invokestatic 196, 3) := dk_184 0 196 (dk_at dksL_law_32 13 rfl rfl)
theorem dL_law_942 : decode cL_law 942 = .ok (.istore 5, 2) := dk_54 5 (dk_at dksL_law_32 16 rfl rfl)
theorem dL_law_944 : decode cL_law 944 = .ok (.aload_n 2, 1) := dk_44 (dk_at dksL_law_32 18 rfl rfl)
theorem dL_law_945 : decode cL_law 945 = .ok (.invokevirtual 199, 3) := dk_182 0 199 (dk_at dksL_law_32 19 rfl rfl)
theorem dL_law_948 : decode cL_law 948 = .ok (.istore 6, 2) := dk_54 6 (dk_at dksL_law_32 22 rfl rfl)
theorem dL_law_950 : decode cL_law 950 = .ok (.aload_n 2, 1) := dk_44 (dk_at dksL_law_33 0 rfl rfl)
theorem dL_law_951 : decode cL_law 951 = .ok (.invokevirtual 151, 3) := dk_182 0 151 (dk_at dksL_law_33 1 rfl rfl)
theorem dL_law_954 : decode cL_law 954 = .ok (.iload 5, 2) := dk_21 5 (dk_at dksL_law_33 4 rfl rfl)
theorem dL_law_956 : decode cL_law 956 = .ok (.if_icmp .eq 5, 3) := dk_159 0 5 (dk_at dksL_law_33 6 rfl rfl)
theorem dL_law_959 : decode cL_law 959 = .ok (.iconst 0, 1) := dk_3 (dk_at dksL_law_33 9 rfl rfl)
theorem dL_law_960 : decode cL_law 960 = .ok (.ireturn, 1) := dk_172 (dk_at dksL_law_33 10 rfl rfl)
theorem dL_law_961 : decode cL_law 961 = .ok (.iload 5, 2) := dk_21 5 (dk_at dksL_law_33 11 rfl rfl)
theorem dL_law_963 : decode cL_law 963 = .ok (.ifCond .ne 15, 3) := dk_154 0 15 (dk_at dksL_law_33 13 rfl rfl)
theorem dL_law_966 : decode cL_law 966 = .ok (.aload_n 3, 1) := dk_45 (dk_at dksL_law_33 16 rfl rfl)
theorem dL_law_967 : decode cL_law 967 = .ok (.iconst 0, 1) := dk_3 (dk_at dksL_law_33 17 rfl rfl)
theorem dL_law_968 : decode cL_law 968 = .ok (.laload, 1) := dk_47 (dk_at dksL_law_33 18 rfl rfl)
theorem dL_law_969 : decode cL_law 969 = .ok (.iload 6, 2) := dk_21 6 (dk_at dksL_law_33 19 rfl rfl)
theorem dL_law_971 : decode cL_law 971 = .ok (.i2l, 1) := dk_133 (dk_at dksL_law_33 21 rfl rfl)
theorem dL_law_972 : decode cL_law 972 = .ok (.lcmp, 1) := dk_148 (dk_at dksL_law_33 22 rfl rfl)
theorem dL_law_973 : decode cL_law 973 = .ok (.ifCond .eq 5, 3) := dk_153 0 5 (dk_at dksL_law_34 0 rfl rfl)
theorem dL_law_976 : decode cL_law 976 = .ok (.iconst 0, 1) := dk_3 (dk_at dksL_law_34 3 rfl rfl)
theorem dL_law_977 : decode cL_law 977 = .ok (.ireturn, 1) := dk_172 (dk_at dksL_law_34 4 rfl rfl)
theorem dL_law_978 : decode cL_law 978 = .ok (.goto 1751, 3) := dk_167 6 215 (dk_at dksL_law_34 5 rfl rfl)
theorem dL_law_981 : decode cL_law 981 = .ok (.aload_n 1, 1) := dk_43 (dk_at dksL_law_34 8 rfl rfl)
theorem dL_law_982 : decode cL_law 982 = .ok (.aload_n 3, 1) := dk_45 (dk_at dksL_law_34 9 rfl rfl)
theorem dL_law_983 : decode cL_law 983 = .ok (.invokestatic 200, 3) := dk_184 0 200 (dk_at dksL_law_34 10 rfl rfl)
theorem dL_law_986 : decode cL_law 986 = .ok (.istore 5, 2) := dk_54 5 (dk_at dksL_law_34 13 rfl rfl)
theorem dL_law_988 : decode cL_law 988 = .ok (.aload_n 2, 1) := dk_44 (dk_at dksL_law_34 15 rfl rfl)
theorem dL_law_989 : decode cL_law 989 = .ok (.invokevirtual 202, 3) := dk_182 0 202 (dk_at dksL_law_34 16 rfl rfl)
theorem dL_law_992 : decode cL_law 992 = .ok (.istore 6, 2) := dk_54 6 (dk_at dksL_law_34 19 rfl rfl)
theorem dL_law_994 : decode cL_law 994 = .ok (.aload_n 2, 1) := dk_44 (dk_at dksL_law_34 21 rfl rfl)
theorem dL_law_995 : decode cL_law 995 = .ok (.invokevirtual 151, 3) := dk_182 0 151 (dk_at dksL_law_35 0 rfl rfl)
theorem dL_law_998 : decode cL_law 998 = .ok (.iload 5, 2) := dk_21 5 (dk_at dksL_law_35 3 rfl rfl)
theorem dL_law_1000 : decode cL_law 1000 = .ok (.if_icmp .eq 5, 3) := dk_159 0 5 (dk_at dksL_law_35 5 rfl rfl)
theorem dL_law_1003 : decode cL_law 1003 = .ok (.iconst 0, 1) := dk_3 (dk_at dksL_law_35 8 rfl rfl)
theorem dL_law_1004 : decode cL_law 1004 = .ok (.ireturn, 1) := dk_172 (dk_at dksL_law_35 9 rfl rfl)
theorem dL_law_1005 : decode cL_law 1005 = .ok (.iload 5, 2) := dk_21 5 (dk_at dksL_law_35 10 rfl rfl)
theorem dL_law_1007 : decode cL_law 1007 = .ok (.ifCond .ne 15, 3) := dk_154 0 15 (dk_at dksL_law_35 12 rfl rfl)
theorem dL_law_1010 : decode cL_law 1010 = .ok (.aload_n 3, 1) := dk_45 (dk_at dksL_law_35 15 rfl rfl)
theorem dL_law_1011 : decode cL_law 1011 = .ok (.iconst 0, 1) := dk_3 (dk_at dksL_law_35 16 rfl rfl)
theorem dL_law_1012 : decode cL_law 1012 = .ok (.laload, 1) := dk_47 (dk_at dksL_law_35 17 rfl rfl)
theorem dL_law_1013 : decode cL_law 1013 = .ok (.iload 6, 2) := dk_21 6 (dk_at dksL_law_35 18 rfl rfl)
theorem dL_law_1015 : decode cL_law 1015 = .ok (.i2l, 1) := dk_133 (dk_at dksL_law_35 20 rfl rfl)
theorem dL_law_1016 : decode cL_law 1016 = .ok (.lcmp, 1) := dk_148 (dk_at dksL_law_35 21 rfl rfl)
theorem dL_law_1017 : decode cL_law 1017 = .ok (.ifCond .eq 5, 3) := dk_153 0 5 (dk_at dksL_law_36 0 rfl rfl)
theorem dL_law_1020 : decode cL_law 1020 = .ok (.iconst 0, 1) := dk_3 (dk_at dksL_law_36 3 rfl rfl)
theorem dL_law_1021 : decode cL_law 1021 = .ok (.ireturn, 1) := dk_172 (dk_at dksL_law_36 4 rfl rfl)
theorem dL_law_1022 : decode cL_law 1022 = .ok (.goto 1707, 3) := dk_167 6 171 (dk_at dksL_law_36 5 rfl rfl)
theorem dL_law_1025 : decode cL_law 1025 = .ok (.aload_n 1, 1) := dk_43 (dk_at dksL_law_36 8 rfl rfl)
theorem dL_law_1026 : decode cL_law 1026 = .ok (.aload_n 0, 1) := dk_42 (dk_at dksL_law_36 9 rfl rfl)
theorem dL_law_1027 : decode cL_law 1027 = .ok (.iload 4, 2) := dk_21 4 (dk_at dksL_law_36 10 rfl rfl)
theorem dL_law_1029 : decode cL_law 1029 = .ok (.iconst 1, 1) := dk_4 (dk_at dksL_law_36 12 rfl rfl)
theorem dL_law_1030 : decode cL_law 1030 = .ok (.iadd, 1) := dk_96 (dk_at dksL_law_36 13 rfl rfl)
theorem dL_law_1031 : decode cL_law 1031 = .ok (.iaload, 1) := dk_46 (dk_at dksL_law_36 14 rfl rfl)
theorem dL_law_1032 : decode cL_law 1032 = .ok (.aload_n 0, 1) := dk_42 (dk_at dksL_law_36 15 rfl rfl)
theorem dL_law_1033 : decode cL_law 1033 = .ok (.iload 4, 2) := dk_21 4 (dk_at dksL_law_36 16 rfl rfl)
theorem dL_law_1035 : decode cL_law 1035 = .ok (.iconst 2, 1) := dk_5 (dk_at dksL_law_36 18 rfl rfl)
theorem dL_law_1036 : decode cL_law 1036 = .ok (.iadd, 1) := dk_96 (dk_at dksL_law_36 19 rfl rfl)
theorem dL_law_1037 : decode cL_law 1037 = .ok (.iaload, 1) := dk_46 (dk_at dksL_law_36 20 rfl rfl)
theorem dL_law_1038 : decode cL_law 1038 = .ok (.aload_n 0, 1) := dk_42 (dk_at dksL_law_36 21 rfl rfl)
theorem dL_law_1039 : decode cL_law 1039 = .ok (.iload 4, 2) := dk_21 4 (dk_at dksL_law_36 22 rfl rfl)
theorem dL_law_1041 : decode cL_law 1041 = .ok (.iconst 3, 1) := dk_6 (dk_at dksL_law_37 0 rfl rfl)
theorem dL_law_1042 : decode cL_law 1042 = .ok (.iadd, 1) := dk_96 (dk_at dksL_law_37 1 rfl rfl)
theorem dL_law_1043 : decode cL_law 1043 = .ok (.iaload, 1) := dk_46 (dk_at dksL_law_37 2 rfl rfl)
theorem dL_law_1044 : decode cL_law 1044 = .ok (.aload_n 3, 1) := dk_45 (dk_at dksL_law_37 3 rfl rfl)
theorem dL_law_1045 : decode cL_law 1045 = .ok (.invokestatic 203, 3) := dk_184 0 203 (dk_at dksL_law_37 4 rfl rfl)
theorem dL_law_1048 : decode cL_law 1048 = .ok (.istore 5, 2) := dk_54 5 (dk_at dksL_law_37 7 rfl rfl)
theorem dL_law_1050 : decode cL_law 1050 = .ok (.aload_n 2, 1) := dk_44 (dk_at dksL_law_37 9 rfl rfl)
theorem dL_law_1051 : decode cL_law 1051 = .ok (.aload_n 0, 1) := dk_42 (dk_at dksL_law_37 10 rfl rfl)
theorem dL_law_1052 : decode cL_law 1052 = .ok (.iload 4, 2) := dk_21 4 (dk_at dksL_law_37 11 rfl rfl)
theorem dL_law_1054 : decode cL_law 1054 = .ok (.iconst 1, 1) := dk_4 (dk_at dksL_law_37 13 rfl rfl)
theorem dL_law_1055 : decode cL_law 1055 = .ok (.iadd, 1) := dk_96 (dk_at dksL_law_37 14 rfl rfl)
theorem dL_law_1056 : decode cL_law 1056 = .ok (.iaload, 1) := dk_46 (dk_at dksL_law_37 15 rfl rfl)
theorem dL_law_1057 : decode cL_law 1057 = .ok (.aload_n 0, 1) := dk_42 (dk_at dksL_law_37 16 rfl rfl)
theorem dL_law_1058 : decode cL_law 1058 = .ok (.iload 4, 2) := dk_21 4 (dk_at dksL_law_37 17 rfl rfl)
theorem dL_law_1060 : decode cL_law 1060 = .ok (.iconst 2, 1) := dk_5 (dk_at dksL_law_37 19 rfl rfl)
theorem dL_law_1061 : decode cL_law 1061 = .ok (.iadd, 1) := dk_96 (dk_at dksL_law_37 20 rfl rfl)
theorem dL_law_1062 : decode cL_law 1062 = .ok (.iaload, 1) := dk_46 (dk_at dksL_law_37 21 rfl rfl)
theorem dL_law_1063 : decode cL_law 1063 = .ok (.aload_n 0, 1) := dk_42 (dk_at dksL_law_37 22 rfl rfl)
theorem dL_law_1064 : decode cL_law 1064 = .ok (.iload 4, 2) := dk_21 4 (dk_at dksL_law_38 0 rfl rfl)
theorem dL_law_1066 : decode cL_law 1066 = .ok (.iconst 3, 1) := dk_6 (dk_at dksL_law_38 2 rfl rfl)
theorem dL_law_1067 : decode cL_law 1067 = .ok (.iadd, 1) := dk_96 (dk_at dksL_law_38 3 rfl rfl)
theorem dL_law_1068 : decode cL_law 1068 = .ok (.iaload, 1) := dk_46 (dk_at dksL_law_38 4 rfl rfl)
theorem dL_law_1069 : decode cL_law 1069 = .ok (.invokevirtual 206, 3) := dk_182 0 206 (dk_at dksL_law_38 5 rfl rfl)
theorem dL_law_1072 : decode cL_law 1072 = .ok (.istore 6, 2) := dk_54 6 (dk_at dksL_law_38 8 rfl rfl)
theorem dL_law_1074 : decode cL_law 1074 = .ok (.aload_n 2, 1) := dk_44 (dk_at dksL_law_38 10 rfl rfl)
theorem dL_law_1075 : decode cL_law 1075 = .ok (.invokevirtual 151, 3) := dk_182 0 151 (dk_at dksL_law_38 11 rfl rfl)
theorem dL_law_1078 : decode cL_law 1078 = .ok (.iload 5, 2) := dk_21 5 (dk_at dksL_law_38 14 rfl rfl)
theorem dL_law_1080 : decode cL_law 1080 = .ok (.if_icmp .eq 5, 3) := dk_159 0 5 (dk_at dksL_law_38 16 rfl rfl)
theorem dL_law_1083 : decode cL_law 1083 = .ok (.iconst 0, 1) := dk_3 (dk_at dksL_law_38 19 rfl rfl)
theorem dL_law_1084 : decode cL_law 1084 = .ok (.ireturn, 1) := dk_172 (dk_at dksL_law_38 20 rfl rfl)
theorem dL_law_1085 : decode cL_law 1085 = .ok (.iload 5, 2) := dk_21 5 (dk_at dksL_law_38 21 rfl rfl)
theorem dL_law_1087 : decode cL_law 1087 = .ok (.ifCond .ne 15, 3) := dk_154 0 15 (dk_at dksL_law_39 0 rfl rfl)
theorem dL_law_1090 : decode cL_law 1090 = .ok (.aload_n 3, 1) := dk_45 (dk_at dksL_law_39 3 rfl rfl)
theorem dL_law_1091 : decode cL_law 1091 = .ok (.iconst 0, 1) := dk_3 (dk_at dksL_law_39 4 rfl rfl)
theorem dL_law_1092 : decode cL_law 1092 = .ok (.laload, 1) := dk_47 (dk_at dksL_law_39 5 rfl rfl)
theorem dL_law_1093 : decode cL_law 1093 = .ok (.iload 6, 2) := dk_21 6 (dk_at dksL_law_39 6 rfl rfl)
theorem dL_law_1095 : decode cL_law 1095 = .ok (.i2l, 1) := dk_133 (dk_at dksL_law_39 8 rfl rfl)
theorem dL_law_1096 : decode cL_law 1096 = .ok (.lcmp, 1) := dk_148 (dk_at dksL_law_39 9 rfl rfl)
theorem dL_law_1097 : decode cL_law 1097 = .ok (.ifCond .eq 5, 3) := dk_153 0 5 (dk_at dksL_law_39 10 rfl rfl)
theorem dL_law_1100 : decode cL_law 1100 = .ok (.iconst 0, 1) := dk_3 (dk_at dksL_law_39 13 rfl rfl)
theorem dL_law_1101 : decode cL_law 1101 = .ok (.ireturn, 1) := dk_172 (dk_at dksL_law_39 14 rfl rfl)
theorem dL_law_1102 : decode cL_law 1102 = .ok (.goto 1627, 3) := dk_167 6 91 (dk_at dksL_law_39 15 rfl rfl)
theorem dL_law_1105 : decode cL_law 1105 = .ok (.aload_n 1, 1) := dk_43 (dk_at dksL_law_39 18 rfl rfl)
theorem dL_law_1106 : decode cL_law 1106 = .ok (.aload_n 0, 1) := dk_42 (dk_at dksL_law_39 19 rfl rfl)
theorem dL_law_1107 : decode cL_law 1107 = .ok (.iload 4, 2) := dk_21 4 (dk_at dksL_law_39 20 rfl rfl)
theorem dL_law_1109 : decode cL_law 1109 = .ok (.iconst 1, 1) := dk_4 (dk_at dksL_law_39 22 rfl rfl)
theorem dL_law_1110 : decode cL_law 1110 = .ok (.iadd, 1) := dk_96 (dk_at dksL_law_39 23 rfl rfl)
theorem dL_law_1111 : decode cL_law 1111 = .ok (.iaload, 1) := dk_46 (dk_at dksL_law_40 0 rfl rfl)
theorem dL_law_1112 : decode cL_law 1112 = .ok (.aload_n 3, 1) := dk_45 (dk_at dksL_law_40 1 rfl rfl)
theorem dL_law_1113 : decode cL_law 1113 = .ok (.invokestatic 207, 3) := dk_184 0 207 (dk_at dksL_law_40 2 rfl rfl)
theorem dL_law_1116 : decode cL_law 1116 = .ok (.istore 5, 2) := dk_54 5 (dk_at dksL_law_40 5 rfl rfl)
theorem dL_law_1118 : decode cL_law 1118 = .ok (.aload_n 2, 1) := dk_44 (dk_at dksL_law_40 7 rfl rfl)
theorem dL_law_1119 : decode cL_law 1119 = .ok (.aload_n 0, 1) := dk_42 (dk_at dksL_law_40 8 rfl rfl)
theorem dL_law_1120 : decode cL_law 1120 = .ok (.iload 4, 2) := dk_21 4 (dk_at dksL_law_40 9 rfl rfl)
theorem dL_law_1122 : decode cL_law 1122 = .ok (.iconst 1, 1) := dk_4 (dk_at dksL_law_40 11 rfl rfl)
theorem dL_law_1123 : decode cL_law 1123 = .ok (.iadd, 1) := dk_96 (dk_at dksL_law_40 12 rfl rfl)
theorem dL_law_1124 : decode cL_law 1124 = .ok (.iaload, 1) := dk_46 (dk_at dksL_law_40 13 rfl rfl)
theorem dL_law_1125 : decode cL_law 1125 = .ok (.invokevirtual 209, 3) := dk_182 0 209 (dk_at dksL_law_40 14 rfl rfl)
theorem dL_law_1128 : decode cL_law 1128 = .ok (.istore 6, 2) := dk_54 6 (dk_at dksL_law_40 17 rfl rfl)
theorem dL_law_1130 : decode cL_law 1130 = .ok (.aload_n 2, 1) := dk_44 (dk_at dksL_law_40 19 rfl rfl)
theorem dL_law_1131 : decode cL_law 1131 = .ok (.invokevirtual 151, 3) := dk_182 0 151 (dk_at dksL_law_40 20 rfl rfl)
theorem dL_law_1134 : decode cL_law 1134 = .ok (.iload 5, 2) := dk_21 5 (dk_at dksL_law_41 0 rfl rfl)
theorem dL_law_1136 : decode cL_law 1136 = .ok (.if_icmp .eq 5, 3) := dk_159 0 5 (dk_at dksL_law_41 2 rfl rfl)
theorem dL_law_1139 : decode cL_law 1139 = .ok (.iconst 0, 1) := dk_3 (dk_at dksL_law_41 5 rfl rfl)
theorem dL_law_1140 : decode cL_law 1140 = .ok (.ireturn, 1) := dk_172 (dk_at dksL_law_41 6 rfl rfl)
theorem dL_law_1141 : decode cL_law 1141 = .ok (.iload 5, 2) := dk_21 5 (dk_at dksL_law_41 7 rfl rfl)
theorem dL_law_1143 : decode cL_law 1143 = .ok (.ifCond .ne 15, 3) := dk_154 0 15 (dk_at dksL_law_41 9 rfl rfl)
theorem dL_law_1146 : decode cL_law 1146 = .ok (.aload_n 3, 1) := dk_45 (dk_at dksL_law_41 12 rfl rfl)
theorem dL_law_1147 : decode cL_law 1147 = .ok (.iconst 0, 1) := dk_3 (dk_at dksL_law_41 13 rfl rfl)
theorem dL_law_1148 : decode cL_law 1148 = .ok (.laload, 1) := dk_47 (dk_at dksL_law_41 14 rfl rfl)
theorem dL_law_1149 : decode cL_law 1149 = .ok (.iload 6, 2) := dk_21 6 (dk_at dksL_law_41 15 rfl rfl)
theorem dL_law_1151 : decode cL_law 1151 = .ok (.i2l, 1) := dk_133 (dk_at dksL_law_41 17 rfl rfl)
theorem dL_law_1152 : decode cL_law 1152 = .ok (.lcmp, 1) := dk_148 (dk_at dksL_law_41 18 rfl rfl)
theorem dL_law_1153 : decode cL_law 1153 = .ok (.ifCond .eq 5, 3) := dk_153 0 5 (dk_at dksL_law_41 19 rfl rfl)
theorem dL_law_1156 : decode cL_law 1156 = .ok (.iconst 0, 1) := dk_3 (dk_at dksL_law_41 22 rfl rfl)
theorem dL_law_1157 : decode cL_law 1157 = .ok (.ireturn, 1) := dk_172 (dk_at dksL_law_41 23 rfl rfl)
theorem dL_law_1158 : decode cL_law 1158 = .ok (.goto 1571, 3) := dk_167 6 35 (dk_at dksL_law_42 0 rfl rfl)
theorem dL_law_1161 : decode cL_law 1161 = .ok (.aload_n 1, 1) := dk_43 (dk_at dksL_law_42 3 rfl rfl)
theorem dL_law_1162 : decode cL_law 1162 = .ok (.aload_n 0, 1) := dk_42 (dk_at dksL_law_42 4 rfl rfl)
theorem dL_law_1163 : decode cL_law 1163 = .ok (.iload 4, 2) := dk_21 4 (dk_at dksL_law_42 5 rfl rfl)
theorem dL_law_1165 : decode cL_law 1165 = .ok (.iconst 1, 1) := dk_4 (dk_at dksL_law_42 7 rfl rfl)
theorem dL_law_1166 : decode cL_law 1166 = .ok (.iadd, 1) := dk_96 (dk_at dksL_law_42 8 rfl rfl)
theorem dL_law_1167 : decode cL_law 1167 = .ok (.iaload, 1) := dk_46 (dk_at dksL_law_42 9 rfl rfl)
theorem dL_law_1168 : decode cL_law 1168 = .ok (.aload_n 0, 1) := dk_42 (dk_at dksL_law_42 10 rfl rfl)
theorem dL_law_1169 : decode cL_law 1169 = .ok (.iload 4, 2) := dk_21 4 (dk_at dksL_law_42 11 rfl rfl)
theorem dL_law_1171 : decode cL_law 1171 = .ok (.iconst 2, 1) := dk_5 (dk_at dksL_law_42 13 rfl rfl)
theorem dL_law_1172 : decode cL_law 1172 = .ok (.iadd, 1) := dk_96 (dk_at dksL_law_42 14 rfl rfl)
theorem dL_law_1173 : decode cL_law 1173 = .ok (.iaload, 1) := dk_46 (dk_at dksL_law_42 15 rfl rfl)
theorem dL_law_1174 : decode cL_law 1174 = .ok (.aload_n 3, 1) := dk_45 (dk_at dksL_law_42 16 rfl rfl)
theorem dL_law_1175 : decode cL_law 1175 = .ok (.invokestatic 210, 3) := dk_184 0 210 (dk_at dksL_law_42 17 rfl rfl)
theorem dL_law_1178 : decode cL_law 1178 = .ok (.istore 5, 2) := dk_54 5 (dk_at dksL_law_42 20 rfl rfl)
theorem dL_law_1180 : decode cL_law 1180 = .ok (.aload_n 2, 1) := dk_44 (dk_at dksL_law_42 22 rfl rfl)
theorem dL_law_1181 : decode cL_law 1181 = .ok (.aload_n 0, 1) := dk_42 (dk_at dksL_law_42 23 rfl rfl)
theorem dL_law_1182 : decode cL_law 1182 = .ok (.iload 4, 2) := dk_21 4 (dk_at dksL_law_43 0 rfl rfl)
theorem dL_law_1184 : decode cL_law 1184 = .ok (.iconst 1, 1) := dk_4 (dk_at dksL_law_43 2 rfl rfl)
theorem dL_law_1185 : decode cL_law 1185 = .ok (.iadd, 1) := dk_96 (dk_at dksL_law_43 3 rfl rfl)
theorem dL_law_1186 : decode cL_law 1186 = .ok (.iaload, 1) := dk_46 (dk_at dksL_law_43 4 rfl rfl)
theorem dL_law_1187 : decode cL_law 1187 = .ok (.aload_n 0, 1) := dk_42 (dk_at dksL_law_43 5 rfl rfl)
theorem dL_law_1188 : decode cL_law 1188 = .ok (.iload 4, 2) := dk_21 4 (dk_at dksL_law_43 6 rfl rfl)
theorem dL_law_1190 : decode cL_law 1190 = .ok (.iconst 2, 1) := dk_5 (dk_at dksL_law_43 8 rfl rfl)
theorem dL_law_1191 : decode cL_law 1191 = .ok (.iadd, 1) := dk_96 (dk_at dksL_law_43 9 rfl rfl)
theorem dL_law_1192 : decode cL_law 1192 = .ok (.iaload, 1) := dk_46 (dk_at dksL_law_43 10 rfl rfl)
theorem dL_law_1193 : decode cL_law 1193 = .ok (.invokevirtual 212, 3) := dk_182 0 212 (dk_at dksL_law_43 11 rfl rfl)
theorem dL_law_1196 : decode cL_law 1196 = .ok (.istore 6, 2) := dk_54 6 (dk_at dksL_law_43 14 rfl rfl)
theorem dL_law_1198 : decode cL_law 1198 = .ok (.aload_n 2, 1) := dk_44 (dk_at dksL_law_43 16 rfl rfl)
theorem dL_law_1199 : decode cL_law 1199 = .ok (.invokevirtual 151, 3) := dk_182 0 151 (dk_at dksL_law_43 17 rfl rfl)
theorem dL_law_1202 : decode cL_law 1202 = .ok (.iload 5, 2) := dk_21 5 (dk_at dksL_law_43 20 rfl rfl)
theorem dL_law_1204 : decode cL_law 1204 = .ok (.if_icmp .eq 5, 3) := dk_159 0 5 (dk_at dksL_law_44 0 rfl rfl)
theorem dL_law_1207 : decode cL_law 1207 = .ok (.iconst 0, 1) := dk_3 (dk_at dksL_law_44 3 rfl rfl)
theorem dL_law_1208 : decode cL_law 1208 = .ok (.ireturn, 1) := dk_172 (dk_at dksL_law_44 4 rfl rfl)
theorem dL_law_1209 : decode cL_law 1209 = .ok (.iload 5, 2) := dk_21 5 (dk_at dksL_law_44 5 rfl rfl)
theorem dL_law_1211 : decode cL_law 1211 = .ok (.ifCond .ne 15, 3) := dk_154 0 15 (dk_at dksL_law_44 7 rfl rfl)
theorem dL_law_1214 : decode cL_law 1214 = .ok (.aload_n 3, 1) := dk_45 (dk_at dksL_law_44 10 rfl rfl)
theorem dL_law_1215 : decode cL_law 1215 = .ok (.iconst 0, 1) := dk_3 (dk_at dksL_law_44 11 rfl rfl)
theorem dL_law_1216 : decode cL_law 1216 = .ok (.laload, 1) := dk_47 (dk_at dksL_law_44 12 rfl rfl)
theorem dL_law_1217 : decode cL_law 1217 = .ok (.iload 6, 2) := dk_21 6 (dk_at dksL_law_44 13 rfl rfl)
theorem dL_law_1219 : decode cL_law 1219 = .ok (.i2l, 1) := dk_133 (dk_at dksL_law_44 15 rfl rfl)
theorem dL_law_1220 : decode cL_law 1220 = .ok (.lcmp, 1) := dk_148 (dk_at dksL_law_44 16 rfl rfl)
theorem dL_law_1221 : decode cL_law 1221 = .ok (.ifCond .eq 5, 3) := dk_153 0 5 (dk_at dksL_law_44 17 rfl rfl)
theorem dL_law_1224 : decode cL_law 1224 = .ok (.iconst 0, 1) := dk_3 (dk_at dksL_law_44 20 rfl rfl)
theorem dL_law_1225 : decode cL_law 1225 = .ok (.ireturn, 1) := dk_172 (dk_at dksL_law_44 21 rfl rfl)
theorem dL_law_1226 : decode cL_law 1226 = .ok (.goto 1503, 3) := dk_167 5 223 (dk_at dksL_law_45 0 rfl rfl)
theorem dL_law_1229 : decode cL_law 1229 = .ok (.aload_n 1, 1) := dk_43 (dk_at dksL_law_45 3 rfl rfl)
theorem dL_law_1230 : decode cL_law 1230 = .ok (.aload_n 0, 1) := dk_42 (dk_at dksL_law_45 4 rfl rfl)
theorem dL_law_1231 : decode cL_law 1231 = .ok (.iload 4, 2) := dk_21 4 (dk_at dksL_law_45 5 rfl rfl)
theorem dL_law_1233 : decode cL_law 1233 = .ok (.iconst 1, 1) := dk_4 (dk_at dksL_law_45 7 rfl rfl)
theorem dL_law_1234 : decode cL_law 1234 = .ok (.iadd, 1) := dk_96 (dk_at dksL_law_45 8 rfl rfl)
theorem dL_law_1235 : decode cL_law 1235 = .ok (.iaload, 1) := dk_46 (dk_at dksL_law_45 9 rfl rfl)
theorem dL_law_1236 : decode cL_law 1236 = .ok (.aload_n 3, 1) := dk_45 (dk_at dksL_law_45 10 rfl rfl)
theorem dL_law_1237 : decode cL_law 1237 = .ok (.invokestatic 213, 3) := dk_184 0 213 (dk_at dksL_law_45 11 rfl rfl)
theorem dL_law_1240 : decode cL_law 1240 = .ok (.istore 5, 2) := dk_54 5 (dk_at dksL_law_45 14 rfl rfl)
theorem dL_law_1242 : decode cL_law 1242 = .ok (.aload_n 2, 1) := dk_44 (dk_at dksL_law_45 16 rfl rfl)
theorem dL_law_1243 : decode cL_law 1243 = .ok (.aload_n 0, 1) := dk_42 (dk_at dksL_law_45 17 rfl rfl)
theorem dL_law_1244 : decode cL_law 1244 = .ok (.iload 4, 2) := dk_21 4 (dk_at dksL_law_45 18 rfl rfl)
theorem dL_law_1246 : decode cL_law 1246 = .ok (.iconst 1, 1) := dk_4 (dk_at dksL_law_45 20 rfl rfl)
theorem dL_law_1247 : decode cL_law 1247 = .ok (.iadd, 1) := dk_96 (dk_at dksL_law_45 21 rfl rfl)
theorem dL_law_1248 : decode cL_law 1248 = .ok (.iaload, 1) := dk_46 (dk_at dksL_law_45 22 rfl rfl)
theorem dL_law_1249 : decode cL_law 1249 = .ok (.invokevirtual 215, 3) := dk_182 0 215 (dk_at dksL_law_46 0 rfl rfl)
theorem dL_law_1252 : decode cL_law 1252 = .ok (.istore 6, 2) := dk_54 6 (dk_at dksL_law_46 3 rfl rfl)
theorem dL_law_1254 : decode cL_law 1254 = .ok (.aload_n 2, 1) := dk_44 (dk_at dksL_law_46 5 rfl rfl)
theorem dL_law_1255 : decode cL_law 1255 = .ok (.invokevirtual 151, 3) := dk_182 0 151 (dk_at dksL_law_46 6 rfl rfl)
theorem dL_law_1258 : decode cL_law 1258 = .ok (.iload 5, 2) := dk_21 5 (dk_at dksL_law_46 9 rfl rfl)
theorem dL_law_1260 : decode cL_law 1260 = .ok (.if_icmp .eq 5, 3) := dk_159 0 5 (dk_at dksL_law_46 11 rfl rfl)
theorem dL_law_1263 : decode cL_law 1263 = .ok (.iconst 0, 1) := dk_3 (dk_at dksL_law_46 14 rfl rfl)
theorem dL_law_1264 : decode cL_law 1264 = .ok (.ireturn, 1) := dk_172 (dk_at dksL_law_46 15 rfl rfl)
theorem dL_law_1265 : decode cL_law 1265 = .ok (.iload 5, 2) := dk_21 5 (dk_at dksL_law_46 16 rfl rfl)
theorem dL_law_1267 : decode cL_law 1267 = .ok (.ifCond .ne 15, 3) := dk_154 0 15 (dk_at dksL_law_46 18 rfl rfl)
theorem dL_law_1270 : decode cL_law 1270 = .ok (.aload_n 3, 1) := dk_45 (dk_at dksL_law_46 21 rfl rfl)
theorem dL_law_1271 : decode cL_law 1271 = .ok (.iconst 0, 1) := dk_3 (dk_at dksL_law_46 22 rfl rfl)
theorem dL_law_1272 : decode cL_law 1272 = .ok (.laload, 1) := dk_47 (dk_at dksL_law_46 23 rfl rfl)
theorem dL_law_1273 : decode cL_law 1273 = .ok (.iload 6, 2) := dk_21 6 (dk_at dksL_law_47 0 rfl rfl)
theorem dL_law_1275 : decode cL_law 1275 = .ok (.i2l, 1) := dk_133 (dk_at dksL_law_47 2 rfl rfl)
theorem dL_law_1276 : decode cL_law 1276 = .ok (.lcmp, 1) := dk_148 (dk_at dksL_law_47 3 rfl rfl)
theorem dL_law_1277 : decode cL_law 1277 = .ok (.ifCond .eq 5, 3) := dk_153 0 5 (dk_at dksL_law_47 4 rfl rfl)
theorem dL_law_1280 : decode cL_law 1280 = .ok (.iconst 0, 1) := dk_3 (dk_at dksL_law_47 7 rfl rfl)
theorem dL_law_1281 : decode cL_law 1281 = .ok (.ireturn, 1) := dk_172 (dk_at dksL_law_47 8 rfl rfl)
theorem dL_law_1282 : decode cL_law 1282 = .ok (.goto 1447, 3) := dk_167 5 167 (dk_at dksL_law_47 9 rfl rfl)
theorem dL_law_1285 : decode cL_law 1285 = .ok (.aload_n 1, 1) := dk_43 (dk_at dksL_law_47 12 rfl rfl)
theorem dL_law_1286 : decode cL_law 1286 = .ok (.aload_n 0, 1) := dk_42 (dk_at dksL_law_47 13 rfl rfl)
theorem dL_law_1287 : decode cL_law 1287 = .ok (.iload 4, 2) := dk_21 4 (dk_at dksL_law_47 14 rfl rfl)
theorem dL_law_1289 : decode cL_law 1289 = .ok (.iconst 1, 1) := dk_4 (dk_at dksL_law_47 16 rfl rfl)
theorem dL_law_1290 : decode cL_law 1290 = .ok (.iadd, 1) := dk_96 (dk_at dksL_law_47 17 rfl rfl)
theorem dL_law_1291 : decode cL_law 1291 = .ok (.iaload, 1) := dk_46 (dk_at dksL_law_47 18 rfl rfl)
theorem dL_law_1292 : decode cL_law 1292 = .ok (.aload_n 0, 1) := dk_42 (dk_at dksL_law_47 19 rfl rfl)
theorem dL_law_1293 : decode cL_law 1293 = .ok (.iload 4, 2) := dk_21 4 (dk_at dksL_law_47 20 rfl rfl)
theorem dL_law_1295 : decode cL_law 1295 = .ok (.iconst 2, 1) := dk_5 (dk_at dksL_law_47 22 rfl rfl)
theorem dL_law_1296 : decode cL_law 1296 = .ok (.iadd, 1) := dk_96 (dk_at dksL_law_47 23 rfl rfl)
theorem dL_law_1297 : decode cL_law 1297 = .ok (.iaload, 1) := dk_46 (dk_at dksL_law_48 0 rfl rfl)
theorem dL_law_1298 : decode cL_law 1298 = .ok (.aload_n 3, 1) := dk_45 (dk_at dksL_law_48 1 rfl rfl)
theorem dL_law_1299 : decode cL_law 1299 = .ok (.invokestatic 216, 3) := dk_184 0 216 (dk_at dksL_law_48 2 rfl rfl)
theorem dL_law_1302 : decode cL_law 1302 = .ok (.istore 5, 2) := dk_54 5 (dk_at dksL_law_48 5 rfl rfl)
theorem dL_law_1304 : decode cL_law 1304 = .ok (.aload_n 2, 1) := dk_44 (dk_at dksL_law_48 7 rfl rfl)
theorem dL_law_1305 : decode cL_law 1305 = .ok (.aload_n 0, 1) := dk_42 (dk_at dksL_law_48 8 rfl rfl)
theorem dL_law_1306 : decode cL_law 1306 = .ok (.iload 4, 2) := dk_21 4 (dk_at dksL_law_48 9 rfl rfl)
theorem dL_law_1308 : decode cL_law 1308 = .ok (.iconst 1, 1) := dk_4 (dk_at dksL_law_48 11 rfl rfl)
theorem dL_law_1309 : decode cL_law 1309 = .ok (.iadd, 1) := dk_96 (dk_at dksL_law_48 12 rfl rfl)
theorem dL_law_1310 : decode cL_law 1310 = .ok (.iaload, 1) := dk_46 (dk_at dksL_law_48 13 rfl rfl)
theorem dL_law_1311 : decode cL_law 1311 = .ok (.aload_n 0, 1) := dk_42 (dk_at dksL_law_48 14 rfl rfl)
theorem dL_law_1312 : decode cL_law 1312 = .ok (.iload 4, 2) := dk_21 4 (dk_at dksL_law_48 15 rfl rfl)
theorem dL_law_1314 : decode cL_law 1314 = .ok (.iconst 2, 1) := dk_5 (dk_at dksL_law_48 17 rfl rfl)
theorem dL_law_1315 : decode cL_law 1315 = .ok (.iadd, 1) := dk_96 (dk_at dksL_law_48 18 rfl rfl)
theorem dL_law_1316 : decode cL_law 1316 = .ok (.iaload, 1) := dk_46 (dk_at dksL_law_48 19 rfl rfl)
theorem dL_law_1317 : decode cL_law 1317 = .ok (.invokevirtual 218, 3) := dk_182 0 218 (dk_at dksL_law_48 20 rfl rfl)
theorem dL_law_1320 : decode cL_law 1320 = .ok (.istore 6, 2) := dk_54 6 (dk_at dksL_law_49 0 rfl rfl)
theorem dL_law_1322 : decode cL_law 1322 = .ok (.aload_n 2, 1) := dk_44 (dk_at dksL_law_49 2 rfl rfl)
theorem dL_law_1323 : decode cL_law 1323 = .ok (.invokevirtual 151, 3) := dk_182 0 151 (dk_at dksL_law_49 3 rfl rfl)
theorem dL_law_1326 : decode cL_law 1326 = .ok (.iload 5, 2) := dk_21 5 (dk_at dksL_law_49 6 rfl rfl)
theorem dL_law_1328 : decode cL_law 1328 = .ok (.if_icmp .eq 5, 3) := dk_159 0 5 (dk_at dksL_law_49 8 rfl rfl)
theorem dL_law_1331 : decode cL_law 1331 = .ok (.iconst 0, 1) := dk_3 (dk_at dksL_law_49 11 rfl rfl)
theorem dL_law_1332 : decode cL_law 1332 = .ok (.ireturn, 1) := dk_172 (dk_at dksL_law_49 12 rfl rfl)
theorem dL_law_1333 : decode cL_law 1333 = .ok (.iload 5, 2) := dk_21 5 (dk_at dksL_law_49 13 rfl rfl)
theorem dL_law_1335 : decode cL_law 1335 = .ok (.ifCond .ne 15, 3) := dk_154 0 15 (dk_at dksL_law_49 15 rfl rfl)
theorem dL_law_1338 : decode cL_law 1338 = .ok (.aload_n 3, 1) := dk_45 (dk_at dksL_law_49 18 rfl rfl)
theorem dL_law_1339 : decode cL_law 1339 = .ok (.iconst 0, 1) := dk_3 (dk_at dksL_law_49 19 rfl rfl)
theorem dL_law_1340 : decode cL_law 1340 = .ok (.laload, 1) := dk_47 (dk_at dksL_law_49 20 rfl rfl)
theorem dL_law_1341 : decode cL_law 1341 = .ok (.iload 6, 2) := dk_21 6 (dk_at dksL_law_49 21 rfl rfl)
theorem dL_law_1343 : decode cL_law 1343 = .ok (.i2l, 1) := dk_133 (dk_at dksL_law_49 23 rfl rfl)
theorem dL_law_1344 : decode cL_law 1344 = .ok (.lcmp, 1) := dk_148 (dk_at dksL_law_50 0 rfl rfl)
theorem dL_law_1345 : decode cL_law 1345 = .ok (.ifCond .eq 5, 3) := dk_153 0 5 (dk_at dksL_law_50 1 rfl rfl)
theorem dL_law_1348 : decode cL_law 1348 = .ok (.iconst 0, 1) := dk_3 (dk_at dksL_law_50 4 rfl rfl)
theorem dL_law_1349 : decode cL_law 1349 = .ok (.ireturn, 1) := dk_172 (dk_at dksL_law_50 5 rfl rfl)
theorem dL_law_1350 : decode cL_law 1350 = .ok (.goto 1379, 3) := dk_167 5 99 (dk_at dksL_law_50 6 rfl rfl)
theorem dL_law_1353 : decode cL_law 1353 = .ok (.aload_n 1, 1) := dk_43 (dk_at dksL_law_50 9 rfl rfl)
theorem dL_law_1354 : decode cL_law 1354 = .ok (.aload_n 0, 1) := dk_42 (dk_at dksL_law_50 10 rfl rfl)
theorem dL_law_1355 : decode cL_law 1355 = .ok (.iload 4, 2) := dk_21 4 (dk_at dksL_law_50 11 rfl rfl)
theorem dL_law_1357 : decode cL_law 1357 = .ok (.iconst 1, 1) := dk_4 (dk_at dksL_law_50 13 rfl rfl)
theorem dL_law_1358 : decode cL_law 1358 = .ok (.iadd, 1) := dk_96 (dk_at dksL_law_50 14 rfl rfl)
theorem dL_law_1359 : decode cL_law 1359 = .ok (.iaload, 1) := dk_46 (dk_at dksL_law_50 15 rfl rfl)
theorem dL_law_1360 : decode cL_law 1360 = .ok (.aload_n 3, 1) := dk_45 (dk_at dksL_law_50 16 rfl rfl)
theorem dL_law_1361 : decode cL_law 1361 = .ok (.invokestatic 219, 3) := dk_184 0 219 (dk_at dksL_law_50 17 rfl rfl)
theorem dL_law_1364 : decode cL_law 1364 = .ok (.istore 5, 2) := dk_54 5 (dk_at dksL_law_50 20 rfl rfl)
theorem dL_law_1366 : decode cL_law 1366 = .ok (.aload_n 2, 1) := dk_44 (dk_at dksL_law_50 22 rfl rfl)
theorem dL_law_1367 : decode cL_law 1367 = .ok (.aload_n 0, 1) := dk_42 (dk_at dksL_law_50 23 rfl rfl)
theorem dL_law_1368 : decode cL_law 1368 = .ok (.iload 4, 2) := dk_21 4 (dk_at dksL_law_51 0 rfl rfl)
theorem dL_law_1370 : decode cL_law 1370 = .ok (.iconst 1, 1) := dk_4 (dk_at dksL_law_51 2 rfl rfl)
theorem dL_law_1371 : decode cL_law 1371 = .ok (.iadd, 1) := dk_96 (dk_at dksL_law_51 3 rfl rfl)
theorem dL_law_1372 : decode cL_law 1372 = .ok (.iaload, 1) := dk_46 (dk_at dksL_law_51 4 rfl rfl)
theorem dL_law_1373 : decode cL_law 1373 = .ok (.invokevirtual 221, 3) := dk_182 0 221 (dk_at dksL_law_51 5 rfl rfl)
theorem dL_law_1376 : decode cL_law 1376 = .ok (.istore 6, 2) := dk_54 6 (dk_at dksL_law_51 8 rfl rfl)
theorem dL_law_1378 : decode cL_law 1378 = .ok (.aload_n 2, 1) := dk_44 (dk_at dksL_law_51 10 rfl rfl)
theorem dL_law_1379 : decode cL_law 1379 = .ok (.invokevirtual 151, 3) := dk_182 0 151 (dk_at dksL_law_51 11 rfl rfl)
theorem dL_law_1382 : decode cL_law 1382 = .ok (.iload 5, 2) := dk_21 5 (dk_at dksL_law_51 14 rfl rfl)
theorem dL_law_1384 : decode cL_law 1384 = .ok (.if_icmp .eq 5, 3) := dk_159 0 5 (dk_at dksL_law_51 16 rfl rfl)
theorem dL_law_1387 : decode cL_law 1387 = .ok (.iconst 0, 1) := dk_3 (dk_at dksL_law_51 19 rfl rfl)
theorem dL_law_1388 : decode cL_law 1388 = .ok (.ireturn, 1) := dk_172 (dk_at dksL_law_51 20 rfl rfl)
theorem dL_law_1389 : decode cL_law 1389 = .ok (.iload 5, 2) := dk_21 5 (dk_at dksL_law_51 21 rfl rfl)
theorem dL_law_1391 : decode cL_law 1391 = .ok (.ifCond .ne 15, 3) := dk_154 0 15 (dk_at dksL_law_52 0 rfl rfl)
theorem dL_law_1394 : decode cL_law 1394 = .ok (.aload_n 3, 1) := dk_45 (dk_at dksL_law_52 3 rfl rfl)
theorem dL_law_1395 : decode cL_law 1395 = .ok (.iconst 0, 1) := dk_3 (dk_at dksL_law_52 4 rfl rfl)
theorem dL_law_1396 : decode cL_law 1396 = .ok (.laload, 1) := dk_47 (dk_at dksL_law_52 5 rfl rfl)
theorem dL_law_1397 : decode cL_law 1397 = .ok (.iload 6, 2) := dk_21 6 (dk_at dksL_law_52 6 rfl rfl)
theorem dL_law_1399 : decode cL_law 1399 = .ok (.i2l, 1) := dk_133 (dk_at dksL_law_52 8 rfl rfl)
theorem dL_law_1400 : decode cL_law 1400 = .ok (.lcmp, 1) := dk_148 (dk_at dksL_law_52 9 rfl rfl)
theorem dL_law_1401 : decode cL_law 1401 = .ok (.ifCond .eq 5, 3) := dk_153 0 5 (dk_at dksL_law_52 10 rfl rfl)
theorem dL_law_1404 : decode cL_law 1404 = .ok (.iconst 0, 1) := dk_3 (dk_at dksL_law_52 13 rfl rfl)
theorem dL_law_1405 : decode cL_law 1405 = .ok (.ireturn, 1) := dk_172 (dk_at dksL_law_52 14 rfl rfl)
theorem dL_law_1406 : decode cL_law 1406 = .ok (.goto 1323, 3) := dk_167 5 43 (dk_at dksL_law_52 15 rfl rfl)
theorem dL_law_1409 : decode cL_law 1409 = .ok (.aload_n 1, 1) := dk_43 (dk_at dksL_law_52 18 rfl rfl)
theorem dL_law_1410 : decode cL_law 1410 = .ok (.aload_n 0, 1) := dk_42 (dk_at dksL_law_52 19 rfl rfl)
theorem dL_law_1411 : decode cL_law 1411 = .ok (.iload 4, 2) := dk_21 4 (dk_at dksL_law_52 20 rfl rfl)
theorem dL_law_1413 : decode cL_law 1413 = .ok (.iconst 1, 1) := dk_4 (dk_at dksL_law_52 22 rfl rfl)
theorem dL_law_1414 : decode cL_law 1414 = .ok (.iadd, 1) := dk_96 (dk_at dksL_law_52 23 rfl rfl)
theorem dL_law_1415 : decode cL_law 1415 = .ok (.iaload, 1) := dk_46 (dk_at dksL_law_53 0 rfl rfl)
theorem dL_law_1416 : decode cL_law 1416 = .ok (.aload_n 3, 1) := dk_45 (dk_at dksL_law_53 1 rfl rfl)
theorem dL_law_1417 : decode cL_law 1417 = .ok (.invokestatic 222, 3) := dk_184 0 222 (dk_at dksL_law_53 2 rfl rfl)
theorem dL_law_1420 : decode cL_law 1420 = .ok (.istore 5, 2) := dk_54 5 (dk_at dksL_law_53 5 rfl rfl)
theorem dL_law_1422 : decode cL_law 1422 = .ok (.aload_n 2, 1) := dk_44 (dk_at dksL_law_53 7 rfl rfl)
theorem dL_law_1423 : decode cL_law 1423 = .ok (.aload_n 0, 1) := dk_42 (dk_at dksL_law_53 8 rfl rfl)
theorem dL_law_1424 : decode cL_law 1424 = .ok (.iload 4, 2) := dk_21 4 (dk_at dksL_law_53 9 rfl rfl)
theorem dL_law_1426 : decode cL_law 1426 = .ok (.iconst 1, 1) := dk_4 (dk_at dksL_law_53 11 rfl rfl)
theorem dL_law_1427 : decode cL_law 1427 = .ok (.iadd, 1) := dk_96 (dk_at dksL_law_53 12 rfl rfl)
theorem dL_law_1428 : decode cL_law 1428 = .ok (.iaload, 1) := dk_46 (dk_at dksL_law_53 13 rfl rfl)
theorem dL_law_1429 : decode cL_law 1429 = .ok (.invokevirtual 224, 3) := dk_182 0 224 (dk_at dksL_law_53 14 rfl rfl)
theorem dL_law_1432 : decode cL_law 1432 = .ok (.istore 6, 2) := dk_54 6 (dk_at dksL_law_53 17 rfl rfl)
theorem dL_law_1434 : decode cL_law 1434 = .ok (.aload_n 2, 1) := dk_44 (dk_at dksL_law_53 19 rfl rfl)
theorem dL_law_1435 : decode cL_law 1435 = .ok (.invokevirtual 151, 3) := dk_182 0 151 (dk_at dksL_law_53 20 rfl rfl)
theorem dL_law_1438 : decode cL_law 1438 = .ok (.iload 5, 2) := dk_21 5 (dk_at dksL_law_54 0 rfl rfl)
theorem dL_law_1440 : decode cL_law 1440 = .ok (.if_icmp .eq 5, 3) := dk_159 0 5 (dk_at dksL_law_54 2 rfl rfl)
theorem dL_law_1443 : decode cL_law 1443 = .ok (.iconst 0, 1) := dk_3 (dk_at dksL_law_54 5 rfl rfl)
theorem dL_law_1444 : decode cL_law 1444 = .ok (.ireturn, 1) := dk_172 (dk_at dksL_law_54 6 rfl rfl)
theorem dL_law_1445 : decode cL_law 1445 = .ok (.iload 5, 2) := dk_21 5 (dk_at dksL_law_54 7 rfl rfl)
theorem dL_law_1447 : decode cL_law 1447 = .ok (.ifCond .ne 15, 3) := dk_154 0 15 (dk_at dksL_law_54 9 rfl rfl)
theorem dL_law_1450 : decode cL_law 1450 = .ok (.aload_n 3, 1) := dk_45 (dk_at dksL_law_54 12 rfl rfl)
theorem dL_law_1451 : decode cL_law 1451 = .ok (.iconst 0, 1) := dk_3 (dk_at dksL_law_54 13 rfl rfl)
theorem dL_law_1452 : decode cL_law 1452 = .ok (.laload, 1) := dk_47 (dk_at dksL_law_54 14 rfl rfl)
theorem dL_law_1453 : decode cL_law 1453 = .ok (.iload 6, 2) := dk_21 6 (dk_at dksL_law_54 15 rfl rfl)
theorem dL_law_1455 : decode cL_law 1455 = .ok (.i2l, 1) := dk_133 (dk_at dksL_law_54 17 rfl rfl)
theorem dL_law_1456 : decode cL_law 1456 = .ok (.lcmp, 1) := dk_148 (dk_at dksL_law_54 18 rfl rfl)
theorem dL_law_1457 : decode cL_law 1457 = .ok (.ifCond .eq 5, 3) := dk_153 0 5 (dk_at dksL_law_54 19 rfl rfl)
theorem dL_law_1460 : decode cL_law 1460 = .ok (.iconst 0, 1) := dk_3 (dk_at dksL_law_54 22 rfl rfl)
theorem dL_law_1461 : decode cL_law 1461 = .ok (.ireturn, 1) := dk_172 (dk_at dksL_law_54 23 rfl rfl)
theorem dL_law_1462 : decode cL_law 1462 = .ok (.goto 1267, 3) := dk_167 4 243 (dk_at dksL_law_55 0 rfl rfl)
theorem dL_law_1465 : decode cL_law 1465 = .ok (.aload_n 1, 1) := dk_43 (dk_at dksL_law_55 3 rfl rfl)
theorem dL_law_1466 : decode cL_law 1466 = .ok (.aload_n 0, 1) := dk_42 (dk_at dksL_law_55 4 rfl rfl)
theorem dL_law_1467 : decode cL_law 1467 = .ok (.iload 4, 2) := dk_21 4 (dk_at dksL_law_55 5 rfl rfl)
theorem dL_law_1469 : decode cL_law 1469 = .ok (.iconst 1, 1) := dk_4 (dk_at dksL_law_55 7 rfl rfl)
theorem dL_law_1470 : decode cL_law 1470 = .ok (.iadd, 1) := dk_96 (dk_at dksL_law_55 8 rfl rfl)
theorem dL_law_1471 : decode cL_law 1471 = .ok (.iaload, 1) := dk_46 (dk_at dksL_law_55 9 rfl rfl)
theorem dL_law_1472 : decode cL_law 1472 = .ok (.aload_n 3, 1) := dk_45 (dk_at dksL_law_55 10 rfl rfl)
theorem dL_law_1473 : decode cL_law 1473 = .ok (.invokestatic 225, 3) := dk_184 0 225 (dk_at dksL_law_55 11 rfl rfl)
theorem dL_law_1476 : decode cL_law 1476 = .ok (.istore 5, 2) := dk_54 5 (dk_at dksL_law_55 14 rfl rfl)
theorem dL_law_1478 : decode cL_law 1478 = .ok (.aload_n 2, 1) := dk_44 (dk_at dksL_law_55 16 rfl rfl)
theorem dL_law_1479 : decode cL_law 1479 = .ok (.aload_n 0, 1) := dk_42 (dk_at dksL_law_55 17 rfl rfl)
theorem dL_law_1480 : decode cL_law 1480 = .ok (.iload 4, 2) := dk_21 4 (dk_at dksL_law_55 18 rfl rfl)
theorem dL_law_1482 : decode cL_law 1482 = .ok (.iconst 1, 1) := dk_4 (dk_at dksL_law_55 20 rfl rfl)
theorem dL_law_1483 : decode cL_law 1483 = .ok (.iadd, 1) := dk_96 (dk_at dksL_law_55 21 rfl rfl)
theorem dL_law_1484 : decode cL_law 1484 = .ok (.iaload, 1) := dk_46 (dk_at dksL_law_55 22 rfl rfl)
theorem dL_law_1485 : decode cL_law 1485 = .ok (.invokevirtual 227, 3) := dk_182 0 227 (dk_at dksL_law_56 0 rfl rfl)
theorem dL_law_1488 : decode cL_law 1488 = .ok (.istore 6, 2) := dk_54 6 (dk_at dksL_law_56 3 rfl rfl)
theorem dL_law_1490 : decode cL_law 1490 = .ok (.aload_n 2, 1) := dk_44 (dk_at dksL_law_56 5 rfl rfl)
theorem dL_law_1491 : decode cL_law 1491 = .ok (.invokevirtual 151, 3) := dk_182 0 151 (dk_at dksL_law_56 6 rfl rfl)
theorem dL_law_1494 : decode cL_law 1494 = .ok (.iload 5, 2) := dk_21 5 (dk_at dksL_law_56 9 rfl rfl)
theorem dL_law_1496 : decode cL_law 1496 = .ok (.if_icmp .eq 5, 3) := dk_159 0 5 (dk_at dksL_law_56 11 rfl rfl)
theorem dL_law_1499 : decode cL_law 1499 = .ok (.iconst 0, 1) := dk_3 (dk_at dksL_law_56 14 rfl rfl)
theorem dL_law_1500 : decode cL_law 1500 = .ok (.ireturn, 1) := dk_172 (dk_at dksL_law_56 15 rfl rfl)
theorem dL_law_1501 : decode cL_law 1501 = .ok (.iload 5, 2) := dk_21 5 (dk_at dksL_law_56 16 rfl rfl)
theorem dL_law_1503 : decode cL_law 1503 = .ok (.ifCond .ne 15, 3) := dk_154 0 15 (dk_at dksL_law_56 18 rfl rfl)
theorem dL_law_1506 : decode cL_law 1506 = .ok (.aload_n 3, 1) := dk_45 (dk_at dksL_law_56 21 rfl rfl)
theorem dL_law_1507 : decode cL_law 1507 = .ok (.iconst 0, 1) := dk_3 (dk_at dksL_law_56 22 rfl rfl)
theorem dL_law_1508 : decode cL_law 1508 = .ok (.laload, 1) := dk_47 (dk_at dksL_law_56 23 rfl rfl)
theorem dL_law_1509 : decode cL_law 1509 = .ok (.iload 6, 2) := dk_21 6 (dk_at dksL_law_57 0 rfl rfl)
theorem dL_law_1511 : decode cL_law 1511 = .ok (.i2l, 1) := dk_133 (dk_at dksL_law_57 2 rfl rfl)
theorem dL_law_1512 : decode cL_law 1512 = .ok (.lcmp, 1) := dk_148 (dk_at dksL_law_57 3 rfl rfl)
theorem dL_law_1513 : decode cL_law 1513 = .ok (.ifCond .eq 5, 3) := dk_153 0 5 (dk_at dksL_law_57 4 rfl rfl)
theorem dL_law_1516 : decode cL_law 1516 = .ok (.iconst 0, 1) := dk_3 (dk_at dksL_law_57 7 rfl rfl)
theorem dL_law_1517 : decode cL_law 1517 = .ok (.ireturn, 1) := dk_172 (dk_at dksL_law_57 8 rfl rfl)
theorem dL_law_1518 : decode cL_law 1518 = .ok (.goto 1211, 3) := dk_167 4 187 (dk_at dksL_law_57 9 rfl rfl)
theorem dL_law_1521 : decode cL_law 1521 = .ok (.aload_n 1, 1) := dk_43 (dk_at dksL_law_57 12 rfl rfl)
theorem dL_law_1522 : decode cL_law 1522 = .ok (.aload_n 0, 1) := dk_42 (dk_at dksL_law_57 13 rfl rfl)
theorem dL_law_1523 : decode cL_law 1523 = .ok (.iload 4, 2) := dk_21 4 (dk_at dksL_law_57 14 rfl rfl)
theorem dL_law_1525 : decode cL_law 1525 = .ok (.iconst 1, 1) := dk_4 (dk_at dksL_law_57 16 rfl rfl)
theorem dL_law_1526 : decode cL_law 1526 = .ok (.iadd, 1) := dk_96 (dk_at dksL_law_57 17 rfl rfl)
theorem dL_law_1527 : decode cL_law 1527 = .ok (.iaload, 1) := dk_46 (dk_at dksL_law_57 18 rfl rfl)
theorem dL_law_1528 : decode cL_law 1528 = .ok (.aload_n 3, 1) := dk_45 (dk_at dksL_law_57 19 rfl rfl)
theorem dL_law_1529 : decode cL_law 1529 = .ok (.invokestatic 228, 3) := dk_184 0 228 (dk_at dksL_law_57 20 rfl rfl)
theorem dL_law_1532 : decode cL_law 1532 = .ok (.istore 5, 2) := dk_54 5 (dk_at dksL_law_58 0 rfl rfl)
theorem dL_law_1534 : decode cL_law 1534 = .ok (.aload_n 2, 1) := dk_44 (dk_at dksL_law_58 2 rfl rfl)
theorem dL_law_1535 : decode cL_law 1535 = .ok (.aload_n 0, 1) := dk_42 (dk_at dksL_law_58 3 rfl rfl)
theorem dL_law_1536 : decode cL_law 1536 = .ok (.iload 4, 2) := dk_21 4 (dk_at dksL_law_58 4 rfl rfl)
theorem dL_law_1538 : decode cL_law 1538 = .ok (.iconst 1, 1) := dk_4 (dk_at dksL_law_58 6 rfl rfl)
theorem dL_law_1539 : decode cL_law 1539 = .ok (.iadd, 1) := dk_96 (dk_at dksL_law_58 7 rfl rfl)
theorem dL_law_1540 : decode cL_law 1540 = .ok (.iaload, 1) := dk_46 (dk_at dksL_law_58 8 rfl rfl)
theorem dL_law_1541 : decode cL_law 1541 = .ok (.invokevirtual 230, 3) := dk_182 0 230 (dk_at dksL_law_58 9 rfl rfl)
theorem dL_law_1544 : decode cL_law 1544 = .ok (.istore 6, 2) := dk_54 6 (dk_at dksL_law_58 12 rfl rfl)
theorem dL_law_1546 : decode cL_law 1546 = .ok (.aload_n 2, 1) := dk_44 (dk_at dksL_law_58 14 rfl rfl)
theorem dL_law_1547 : decode cL_law 1547 = .ok (.invokevirtual 151, 3) := dk_182 0 151 (dk_at dksL_law_58 15 rfl rfl)
theorem dL_law_1550 : decode cL_law 1550 = .ok (.iload 5, 2) := dk_21 5 (dk_at dksL_law_58 18 rfl rfl)
theorem dL_law_1552 : decode cL_law 1552 = .ok (.if_icmp .eq 5, 3) := dk_159 0 5 (dk_at dksL_law_58 20 rfl rfl)
theorem dL_law_1555 : decode cL_law 1555 = .ok (.iconst 0, 1) := dk_3 (dk_at dksL_law_58 23 rfl rfl)
theorem dL_law_1556 : decode cL_law 1556 = .ok (.ireturn, 1) := dk_172 (dk_at dksL_law_59 0 rfl rfl)
theorem dL_law_1557 : decode cL_law 1557 = .ok (.iload 5, 2) := dk_21 5 (dk_at dksL_law_59 1 rfl rfl)
theorem dL_law_1559 : decode cL_law 1559 = .ok (.ifCond .ne 15, 3) := dk_154 0 15 (dk_at dksL_law_59 3 rfl rfl)
theorem dL_law_1562 : decode cL_law 1562 = .ok (.aload_n 3, 1) := dk_45 (dk_at dksL_law_59 6 rfl rfl)
theorem dL_law_1563 : decode cL_law 1563 = .ok (.iconst 0, 1) := dk_3 (dk_at dksL_law_59 7 rfl rfl)
theorem dL_law_1564 : decode cL_law 1564 = .ok (.laload, 1) := dk_47 (dk_at dksL_law_59 8 rfl rfl)
theorem dL_law_1565 : decode cL_law 1565 = .ok (.iload 6, 2) := dk_21 6 (dk_at dksL_law_59 9 rfl rfl)
theorem dL_law_1567 : decode cL_law 1567 = .ok (.i2l, 1) := dk_133 (dk_at dksL_law_59 11 rfl rfl)
theorem dL_law_1568 : decode cL_law 1568 = .ok (.lcmp, 1) := dk_148 (dk_at dksL_law_59 12 rfl rfl)
theorem dL_law_1569 : decode cL_law 1569 = .ok (.ifCond .eq 5, 3) := dk_153 0 5 (dk_at dksL_law_59 13 rfl rfl)
theorem dL_law_1572 : decode cL_law 1572 = .ok (.iconst 0, 1) := dk_3 (dk_at dksL_law_59 16 rfl rfl)
theorem dL_law_1573 : decode cL_law 1573 = .ok (.ireturn, 1) := dk_172 (dk_at dksL_law_59 17 rfl rfl)
theorem dL_law_1574 : decode cL_law 1574 = .ok (.goto 1155, 3) := dk_167 4 131 (dk_at dksL_law_59 18 rfl rfl)
theorem dL_law_1577 : decode cL_law 1577 = .ok (.aload_n 1, 1) := dk_43 (dk_at dksL_law_59 21 rfl rfl)
theorem dL_law_1578 : decode cL_law 1578 = .ok (.aload_n 0, 1) := dk_42 (dk_at dksL_law_59 22 rfl rfl)
theorem dL_law_1579 : decode cL_law 1579 = .ok (.iload 4, 2) := dk_21 4 (dk_at dksL_law_60 0 rfl rfl)
theorem dL_law_1581 : decode cL_law 1581 = .ok (.iconst 1, 1) := dk_4 (dk_at dksL_law_60 2 rfl rfl)
theorem dL_law_1582 : decode cL_law 1582 = .ok (.iadd, 1) := dk_96 (dk_at dksL_law_60 3 rfl rfl)
theorem dL_law_1583 : decode cL_law 1583 = .ok (.iaload, 1) := dk_46 (dk_at dksL_law_60 4 rfl rfl)
theorem dL_law_1584 : decode cL_law 1584 = .ok (.aload_n 0, 1) := dk_42 (dk_at dksL_law_60 5 rfl rfl)
theorem dL_law_1585 : decode cL_law 1585 = .ok (.iload 4, 2) := dk_21 4 (dk_at dksL_law_60 6 rfl rfl)
theorem dL_law_1587 : decode cL_law 1587 = .ok (.iconst 2, 1) := dk_5 (dk_at dksL_law_60 8 rfl rfl)
theorem dL_law_1588 : decode cL_law 1588 = .ok (.iadd, 1) := dk_96 (dk_at dksL_law_60 9 rfl rfl)
theorem dL_law_1589 : decode cL_law 1589 = .ok (.iaload, 1) := dk_46 (dk_at dksL_law_60 10 rfl rfl)
theorem dL_law_1590 : decode cL_law 1590 = .ok (.aload_n 3, 1) := dk_45 (dk_at dksL_law_60 11 rfl rfl)
theorem dL_law_1591 : decode cL_law 1591 = .ok (.invokestatic 231, 3) := dk_184 0 231 (dk_at dksL_law_60 12 rfl rfl)
theorem dL_law_1594 : decode cL_law 1594 = .ok (.istore 5, 2) := dk_54 5 (dk_at dksL_law_60 15 rfl rfl)
theorem dL_law_1596 : decode cL_law 1596 = .ok (.aload_n 2, 1) := dk_44 (dk_at dksL_law_60 17 rfl rfl)
theorem dL_law_1597 : decode cL_law 1597 = .ok (.aload_n 0, 1) := dk_42 (dk_at dksL_law_60 18 rfl rfl)
theorem dL_law_1598 : decode cL_law 1598 = .ok (.iload 4, 2) := dk_21 4 (dk_at dksL_law_60 19 rfl rfl)
theorem dL_law_1600 : decode cL_law 1600 = .ok (.iconst 1, 1) := dk_4 (dk_at dksL_law_60 21 rfl rfl)
theorem dL_law_1601 : decode cL_law 1601 = .ok (.iadd, 1) := dk_96 (dk_at dksL_law_60 22 rfl rfl)
theorem dL_law_1602 : decode cL_law 1602 = .ok (.iaload, 1) := dk_46 (dk_at dksL_law_60 23 rfl rfl)
theorem dL_law_1603 : decode cL_law 1603 = .ok (.aload_n 0, 1) := dk_42 (dk_at dksL_law_61 0 rfl rfl)
theorem dL_law_1604 : decode cL_law 1604 = .ok (.iload 4, 2) := dk_21 4 (dk_at dksL_law_61 1 rfl rfl)
theorem dL_law_1606 : decode cL_law 1606 = .ok (.iconst 2, 1) := dk_5 (dk_at dksL_law_61 3 rfl rfl)
theorem dL_law_1607 : decode cL_law 1607 = .ok (.iadd, 1) := dk_96 (dk_at dksL_law_61 4 rfl rfl)
theorem dL_law_1608 : decode cL_law 1608 = .ok (.iaload, 1) := dk_46 (dk_at dksL_law_61 5 rfl rfl)
theorem dL_law_1609 : decode cL_law 1609 = .ok (.invokevirtual 233, 3) := dk_182 0 233 (dk_at dksL_law_61 6 rfl rfl)
theorem dL_law_1612 : decode cL_law 1612 = .ok (.istore 6, 2) := dk_54 6 (dk_at dksL_law_61 9 rfl rfl)
theorem dL_law_1614 : decode cL_law 1614 = .ok (.aload_n 2, 1) := dk_44 (dk_at dksL_law_61 11 rfl rfl)
theorem dL_law_1615 : decode cL_law 1615 = .ok (.invokevirtual 151, 3) := dk_182 0 151 (dk_at dksL_law_61 12 rfl rfl)
theorem dL_law_1618 : decode cL_law 1618 = .ok (.iload 5, 2) := dk_21 5 (dk_at dksL_law_61 15 rfl rfl)
theorem dL_law_1620 : decode cL_law 1620 = .ok (.if_icmp .eq 5, 3) := dk_159 0 5 (dk_at dksL_law_61 17 rfl rfl)
theorem dL_law_1623 : decode cL_law 1623 = .ok (.iconst 0, 1) := dk_3 (dk_at dksL_law_61 20 rfl rfl)
theorem dL_law_1624 : decode cL_law 1624 = .ok (.ireturn, 1) := dk_172 (dk_at dksL_law_61 21 rfl rfl)
theorem dL_law_1625 : decode cL_law 1625 = .ok (.iload 5, 2) := dk_21 5 (dk_at dksL_law_61 22 rfl rfl)
theorem dL_law_1627 : decode cL_law 1627 = .ok (.ifCond .ne 15, 3) := dk_154 0 15 (dk_at dksL_law_62 0 rfl rfl)
theorem dL_law_1630 : decode cL_law 1630 = .ok (.aload_n 3, 1) := dk_45 (dk_at dksL_law_62 3 rfl rfl)
theorem dL_law_1631 : decode cL_law 1631 = .ok (.iconst 0, 1) := dk_3 (dk_at dksL_law_62 4 rfl rfl)
theorem dL_law_1632 : decode cL_law 1632 = .ok (.laload, 1) := dk_47 (dk_at dksL_law_62 5 rfl rfl)
theorem dL_law_1633 : decode cL_law 1633 = .ok (.iload 6, 2) := dk_21 6 (dk_at dksL_law_62 6 rfl rfl)
theorem dL_law_1635 : decode cL_law 1635 = .ok (.i2l, 1) := dk_133 (dk_at dksL_law_62 8 rfl rfl)
theorem dL_law_1636 : decode cL_law 1636 = .ok (.lcmp, 1) := dk_148 (dk_at dksL_law_62 9 rfl rfl)
theorem dL_law_1637 : decode cL_law 1637 = .ok (.ifCond .eq 5, 3) := dk_153 0 5 (dk_at dksL_law_62 10 rfl rfl)
theorem dL_law_1640 : decode cL_law 1640 = .ok (.iconst 0, 1) := dk_3 (dk_at dksL_law_62 13 rfl rfl)
theorem dL_law_1641 : decode cL_law 1641 = .ok (.ireturn, 1) := dk_172 (dk_at dksL_law_62 14 rfl rfl)
theorem dL_law_1642 : decode cL_law 1642 = .ok (.goto 1087, 3) := dk_167 4 63 (dk_at dksL_law_62 15 rfl rfl)
theorem dL_law_1645 : decode cL_law 1645 = .ok (.aload_n 1, 1) := dk_43 (dk_at dksL_law_62 18 rfl rfl)
theorem dL_law_1646 : decode cL_law 1646 = .ok (.aload_n 0, 1) := dk_42 (dk_at dksL_law_62 19 rfl rfl)
theorem dL_law_1647 : decode cL_law 1647 = .ok (.iload 4, 2) := dk_21 4 (dk_at dksL_law_62 20 rfl rfl)
theorem dL_law_1649 : decode cL_law 1649 = .ok (.iconst 1, 1) := dk_4 (dk_at dksL_law_62 22 rfl rfl)
theorem dL_law_1650 : decode cL_law 1650 = .ok (.iadd, 1) := dk_96 (dk_at dksL_law_62 23 rfl rfl)
theorem dL_law_1651 : decode cL_law 1651 = .ok (.iaload, 1) := dk_46 (dk_at dksL_law_63 0 rfl rfl)
theorem dL_law_1652 : decode cL_law 1652 = .ok (.aload_n 0, 1) := dk_42 (dk_at dksL_law_63 1 rfl rfl)
theorem dL_law_1653 : decode cL_law 1653 = .ok (.iload 4, 2) := dk_21 4 (dk_at dksL_law_63 2 rfl rfl)
theorem dL_law_1655 : decode cL_law 1655 = .ok (.iconst 2, 1) := dk_5 (dk_at dksL_law_63 4 rfl rfl)
theorem dL_law_1656 : decode cL_law 1656 = .ok (.iadd, 1) := dk_96 (dk_at dksL_law_63 5 rfl rfl)
theorem dL_law_1657 : decode cL_law 1657 = .ok (.iaload, 1) := dk_46 (dk_at dksL_law_63 6 rfl rfl)
theorem dL_law_1658 : decode cL_law 1658 = .ok (.aload_n 3, 1) := dk_45 (dk_at dksL_law_63 7 rfl rfl)
theorem dL_law_1659 : decode cL_law 1659 = .ok (.invokestatic 234, 3) := dk_184 0 234 (dk_at dksL_law_63 8 rfl rfl)
theorem dL_law_1662 : decode cL_law 1662 = .ok (.istore 5, 2) := dk_54 5 (dk_at dksL_law_63 11 rfl rfl)
theorem dL_law_1664 : decode cL_law 1664 = .ok (.aload_n 2, 1) := dk_44 (dk_at dksL_law_63 13 rfl rfl)
theorem dL_law_1665 : decode cL_law 1665 = .ok (.aload_n 0, 1) := dk_42 (dk_at dksL_law_63 14 rfl rfl)
theorem dL_law_1666 : decode cL_law 1666 = .ok (.iload 4, 2) := dk_21 4 (dk_at dksL_law_63 15 rfl rfl)
theorem dL_law_1668 : decode cL_law 1668 = .ok (.iconst 1, 1) := dk_4 (dk_at dksL_law_63 17 rfl rfl)
theorem dL_law_1669 : decode cL_law 1669 = .ok (.iadd, 1) := dk_96 (dk_at dksL_law_63 18 rfl rfl)
theorem dL_law_1670 : decode cL_law 1670 = .ok (.iaload, 1) := dk_46 (dk_at dksL_law_63 19 rfl rfl)
theorem dL_law_1671 : decode cL_law 1671 = .ok (.aload_n 0, 1) := dk_42 (dk_at dksL_law_63 20 rfl rfl)
theorem dL_law_1672 : decode cL_law 1672 = .ok (.iload 4, 2) := dk_21 4 (dk_at dksL_law_63 21 rfl rfl)
theorem dL_law_1674 : decode cL_law 1674 = .ok (.iconst 2, 1) := dk_5 (dk_at dksL_law_63 23 rfl rfl)
theorem dL_law_1675 : decode cL_law 1675 = .ok (.iadd, 1) := dk_96 (dk_at dksL_law_64 0 rfl rfl)
theorem dL_law_1676 : decode cL_law 1676 = .ok (.iaload, 1) := dk_46 (dk_at dksL_law_64 1 rfl rfl)
theorem dL_law_1677 : decode cL_law 1677 = .ok (.invokevirtual 236, 3) := dk_182 0 236 (dk_at dksL_law_64 2 rfl rfl)
theorem dL_law_1680 : decode cL_law 1680 = .ok (.istore 6, 2) := dk_54 6 (dk_at dksL_law_64 5 rfl rfl)
theorem dL_law_1682 : decode cL_law 1682 = .ok (.aload_n 2, 1) := dk_44 (dk_at dksL_law_64 7 rfl rfl)
theorem dL_law_1683 : decode cL_law 1683 = .ok (.invokevirtual 151, 3) := dk_182 0 151 (dk_at dksL_law_64 8 rfl rfl)
theorem dL_law_1686 : decode cL_law 1686 = .ok (.iload 5, 2) := dk_21 5 (dk_at dksL_law_64 11 rfl rfl)
theorem dL_law_1688 : decode cL_law 1688 = .ok (.if_icmp .eq 5, 3) := dk_159 0 5 (dk_at dksL_law_64 13 rfl rfl)
theorem dL_law_1691 : decode cL_law 1691 = .ok (.iconst 0, 1) := dk_3 (dk_at dksL_law_64 16 rfl rfl)
theorem dL_law_1692 : decode cL_law 1692 = .ok (.ireturn, 1) := dk_172 (dk_at dksL_law_64 17 rfl rfl)
theorem dL_law_1693 : decode cL_law 1693 = .ok (.iload 5, 2) := dk_21 5 (dk_at dksL_law_64 18 rfl rfl)
theorem dL_law_1695 : decode cL_law 1695 = .ok (.ifCond .ne 15, 3) := dk_154 0 15 (dk_at dksL_law_64 20 rfl rfl)
theorem dL_law_1698 : decode cL_law 1698 = .ok (.aload_n 3, 1) := dk_45 (dk_at dksL_law_64 23 rfl rfl)
theorem dL_law_1699 : decode cL_law 1699 = .ok (.iconst 0, 1) := dk_3 (dk_at dksL_law_65 0 rfl rfl)
theorem dL_law_1700 : decode cL_law 1700 = .ok (.laload, 1) := dk_47 (dk_at dksL_law_65 1 rfl rfl)
theorem dL_law_1701 : decode cL_law 1701 = .ok (.iload 6, 2) := dk_21 6 (dk_at dksL_law_65 2 rfl rfl)
theorem dL_law_1703 : decode cL_law 1703 = .ok (.i2l, 1) := dk_133 (dk_at dksL_law_65 4 rfl rfl)
theorem dL_law_1704 : decode cL_law 1704 = .ok (.lcmp, 1) := dk_148 (dk_at dksL_law_65 5 rfl rfl)
theorem dL_law_1705 : decode cL_law 1705 = .ok (.ifCond .eq 5, 3) := dk_153 0 5 (dk_at dksL_law_65 6 rfl rfl)
theorem dL_law_1708 : decode cL_law 1708 = .ok (.iconst 0, 1) := dk_3 (dk_at dksL_law_65 9 rfl rfl)
theorem dL_law_1709 : decode cL_law 1709 = .ok (.ireturn, 1) := dk_172 (dk_at dksL_law_65 10 rfl rfl)
theorem dL_law_1710 : decode cL_law 1710 = .ok (.goto 1019, 3) := dk_167 3 251 (dk_at dksL_law_65 11 rfl rfl)
theorem dL_law_1713 : decode cL_law 1713 = .ok (.aload_n 1, 1) := dk_43 (dk_at dksL_law_65 14 rfl rfl)
theorem dL_law_1714 : decode cL_law 1714 = .ok (.invokevirtual 237, 3) := dk_182 0 237 (dk_at dksL_law_65 15 rfl rfl)
theorem dL_law_1717 : decode cL_law 1717 = .ok (.aload_n 2, 1) := dk_44 (dk_at dksL_law_65 18 rfl rfl)
theorem dL_law_1718 : decode cL_law 1718 = .ok (.invokevirtual 240, 3) := dk_182 0 240 (dk_at dksL_law_65 19 rfl rfl)
theorem dL_law_1721 : decode cL_law 1721 = .ok (.if_icmp .eq 1008, 3) := dk_159 3 240 (dk_at dksL_law_66 0 rfl rfl)
theorem dL_law_1724 : decode cL_law 1724 = .ok (.iconst 0, 1) := dk_3 (dk_at dksL_law_66 3 rfl rfl)
theorem dL_law_1725 : decode cL_law 1725 = .ok (.ireturn, 1) := dk_172 (dk_at dksL_law_66 4 rfl rfl)
theorem dL_law_1726 : decode cL_law 1726 = .ok (.aload_n 1, 1) := dk_43 (dk_at dksL_law_66 5 rfl rfl)
theorem dL_law_1727 : decode cL_law 1727 = .ok (.aload_n 0, 1) := dk_42 (dk_at dksL_law_66 6 rfl rfl)
theorem dL_law_1728 : decode cL_law 1728 = .ok (.iload 4, 2) := dk_21 4 (dk_at dksL_law_66 7 rfl rfl)
theorem dL_law_1730 : decode cL_law 1730 = .ok (.iconst 1, 1) := dk_4 (dk_at dksL_law_66 9 rfl rfl)
theorem dL_law_1731 : decode cL_law 1731 = .ok (.iadd, 1) := dk_96 (dk_at dksL_law_66 10 rfl rfl)
theorem dL_law_1732 : decode cL_law 1732 = .ok (.iaload, 1) := dk_46 (dk_at dksL_law_66 11 rfl rfl)
theorem dL_law_1733 : decode cL_law 1733 = .ok (.aload_n 3, 1) := dk_45 (dk_at dksL_law_66 12 rfl rfl)
theorem dL_law_1734 : decode cL_law 1734 = .ok (.invokestatic 241, 3) := dk_184 0 241 (dk_at dksL_law_66 13 rfl rfl)
theorem dL_law_1737 : decode cL_law 1737 = .ok (.istore 5, 2) := dk_54 5 (dk_at dksL_law_66 16 rfl rfl)
theorem dL_law_1739 : decode cL_law 1739 = .ok (.aload_n 2, 1) := dk_44 (dk_at dksL_law_66 18 rfl rfl)
theorem dL_law_1740 : decode cL_law 1740 = .ok (.aload_n 0, 1) := dk_42 (dk_at dksL_law_66 19 rfl rfl)
theorem dL_law_1741 : decode cL_law 1741 = .ok (.iload 4, 2) := dk_21 4 (dk_at dksL_law_66 20 rfl rfl)
theorem dL_law_1743 : decode cL_law 1743 = .ok (.iconst 1, 1) := dk_4 (dk_at dksL_law_66 22 rfl rfl)
theorem dL_law_1744 : decode cL_law 1744 = .ok (.iadd, 1) := dk_96 (dk_at dksL_law_66 23 rfl rfl)
theorem dL_law_1745 : decode cL_law 1745 = .ok (.iaload, 1) := dk_46 (dk_at dksL_law_67 0 rfl rfl)
theorem dL_law_1746 : decode cL_law 1746 = .ok (.invokevirtual 243, 3) := dk_182 0 243 (dk_at dksL_law_67 1 rfl rfl)
theorem dL_law_1749 : decode cL_law 1749 = .ok (.istore 6, 2) := dk_54 6 (dk_at dksL_law_67 4 rfl rfl)
theorem dL_law_1751 : decode cL_law 1751 = .ok (.aload_n 2, 1) := dk_44 (dk_at dksL_law_67 6 rfl rfl)
theorem dL_law_1752 : decode cL_law 1752 = .ok (.invokevirtual 151, 3) := dk_182 0 151 (dk_at dksL_law_67 7 rfl rfl)
theorem dL_law_1755 : decode cL_law 1755 = .ok (.iload 5, 2) := dk_21 5 (dk_at dksL_law_67 10 rfl rfl)
theorem dL_law_1757 : decode cL_law 1757 = .ok (.if_icmp .eq 5, 3) := dk_159 0 5 (dk_at dksL_law_67 12 rfl rfl)
theorem dL_law_1760 : decode cL_law 1760 = .ok (.iconst 0, 1) := dk_3 (dk_at dksL_law_67 15 rfl rfl)
theorem dL_law_1761 : decode cL_law 1761 = .ok (.ireturn, 1) := dk_172 (dk_at dksL_law_67 16 rfl rfl)
theorem dL_law_1762 : decode cL_law 1762 = .ok (.iload 5, 2) := dk_21 5 (dk_at dksL_law_67 17 rfl rfl)
theorem dL_law_1764 : decode cL_law 1764 = .ok (.ifCond .ne 22, 3) := dk_154 0 22 (dk_at dksL_law_67 19 rfl rfl)
theorem dL_law_1767 : decode cL_law 1767 = .ok (.aload_n 3, 1) := dk_45 (dk_at dksL_law_67 22 rfl rfl)
theorem dL_law_1768 : decode cL_law 1768 = .ok (.iconst 0, 1) := dk_3 (dk_at dksL_law_67 23 rfl rfl)
theorem dL_law_1769 : decode cL_law 1769 = .ok (.laload, 1) := dk_47 (dk_at dksL_law_68 0 rfl rfl)
theorem dL_law_1770 : decode cL_law 1770 = .ok (.iload 6, 2) := dk_21 6 (dk_at dksL_law_68 1 rfl rfl)
theorem dL_law_1772 : decode cL_law 1772 = .ok (.ifCond .eq 7, 3) := dk_153 0 7 (dk_at dksL_law_68 3 rfl rfl)
theorem dL_law_1775 : decode cL_law 1775 = .ok (.lconst 1, 1) := dk_10 (dk_at dksL_law_68 6 rfl rfl)
theorem dL_law_1776 : decode cL_law 1776 = .ok (.goto 4, 3) := dk_167 0 4 (dk_at dksL_law_68 7 rfl rfl)
theorem dL_law_1779 : decode cL_law 1779 = .ok (.lconst 0, 1) := dk_9 (dk_at dksL_law_68 10 rfl rfl)
theorem dL_law_1780 : decode cL_law 1780 = .ok (.lcmp, 1) := dk_148 (dk_at dksL_law_68 11 rfl rfl)
theorem dL_law_1781 : decode cL_law 1781 = .ok (.ifCond .eq 5, 3) := dk_153 0 5 (dk_at dksL_law_68 12 rfl rfl)
theorem dL_law_1784 : decode cL_law 1784 = .ok (.iconst 0, 1) := dk_3 (dk_at dksL_law_68 15 rfl rfl)
theorem dL_law_1785 : decode cL_law 1785 = .ok (.ireturn, 1) := dk_172 (dk_at dksL_law_68 16 rfl rfl)
theorem dL_law_1786 : decode cL_law 1786 = .ok (.goto 943, 3) := dk_167 3 175 (dk_at dksL_law_68 17 rfl rfl)
theorem dL_law_1789 : decode cL_law 1789 = .ok (.aload_n 1, 1) := dk_43 (dk_at dksL_law_68 20 rfl rfl)
theorem dL_law_1790 : decode cL_law 1790 = .ok (.invokevirtual 244, 3) := dk_182 0 244 (dk_at dksL_law_68 21 rfl rfl)
theorem dL_law_1793 : decode cL_law 1793 = .ok (.aload_n 2, 1) := dk_44 (dk_at dksL_law_69 0 rfl rfl)
theorem dL_law_1794 : decode cL_law 1794 = .ok (.invokevirtual 247, 3) := dk_182 0 247 (dk_at dksL_law_69 1 rfl rfl)
theorem dL_law_1797 : decode cL_law 1797 = .ok (.if_icmp .eq 932, 3) := dk_159 3 164 (dk_at dksL_law_69 4 rfl rfl)
theorem dL_law_1800 : decode cL_law 1800 = .ok (.iconst 0, 1) := dk_3 (dk_at dksL_law_69 7 rfl rfl)
theorem dL_law_1801 : decode cL_law 1801 = .ok (.ireturn, 1) := dk_172 (dk_at dksL_law_69 8 rfl rfl)
theorem dL_law_1802 : decode cL_law 1802 = .ok (.aload_n 1, 1) := dk_43 (dk_at dksL_law_69 9 rfl rfl)
theorem dL_law_1803 : decode cL_law 1803 = .ok (.aload_n 0, 1) := dk_42 (dk_at dksL_law_69 10 rfl rfl)
theorem dL_law_1804 : decode cL_law 1804 = .ok (.iload 4, 2) := dk_21 4 (dk_at dksL_law_69 11 rfl rfl)
theorem dL_law_1806 : decode cL_law 1806 = .ok (.iconst 1, 1) := dk_4 (dk_at dksL_law_69 13 rfl rfl)
theorem dL_law_1807 : decode cL_law 1807 = .ok (.iadd, 1) := dk_96 (dk_at dksL_law_69 14 rfl rfl)
theorem dL_law_1808 : decode cL_law 1808 = .ok (.iaload, 1) := dk_46 (dk_at dksL_law_69 15 rfl rfl)
theorem dL_law_1809 : decode cL_law 1809 = .ok (.aload_n 3, 1) := dk_45 (dk_at dksL_law_69 16 rfl rfl)
theorem dL_law_1810 : decode cL_law 1810 = .ok (.invokestatic 248, 3) := dk_184 0 248 (dk_at dksL_law_69 17 rfl rfl)
theorem dL_law_1813 : decode cL_law 1813 = .ok (.istore 5, 2) := dk_54 5 (dk_at dksL_law_69 20 rfl rfl)
theorem dL_law_1815 : decode cL_law 1815 = .ok (.aload_n 2, 1) := dk_44 (dk_at dksL_law_69 22 rfl rfl)
theorem dL_law_1816 : decode cL_law 1816 = .ok (.aload_n 0, 1) := dk_42 (dk_at dksL_law_69 23 rfl rfl)
theorem dL_law_1817 : decode cL_law 1817 = .ok (.iload 4, 2) := dk_21 4 (dk_at dksL_law_70 0 rfl rfl)
theorem dL_law_1819 : decode cL_law 1819 = .ok (.iconst 1, 1) := dk_4 (dk_at dksL_law_70 2 rfl rfl)
theorem dL_law_1820 : decode cL_law 1820 = .ok (.iadd, 1) := dk_96 (dk_at dksL_law_70 3 rfl rfl)
theorem dL_law_1821 : decode cL_law 1821 = .ok (.iaload, 1) := dk_46 (dk_at dksL_law_70 4 rfl rfl)
theorem dL_law_1822 : decode cL_law 1822 = .ok (.invokevirtual 250, 3) := dk_182 0 250 (dk_at dksL_law_70 5 rfl rfl)
theorem dL_law_1825 : decode cL_law 1825 = .ok (.istore 6, 2) := dk_54 6 (dk_at dksL_law_70 8 rfl rfl)
theorem dL_law_1827 : decode cL_law 1827 = .ok (.aload_n 2, 1) := dk_44 (dk_at dksL_law_70 10 rfl rfl)
theorem dL_law_1828 : decode cL_law 1828 = .ok (.invokevirtual 151, 3) := dk_182 0 151 (dk_at dksL_law_70 11 rfl rfl)
theorem dL_law_1831 : decode cL_law 1831 = .ok (.iload 5, 2) := dk_21 5 (dk_at dksL_law_70 14 rfl rfl)
theorem dL_law_1833 : decode cL_law 1833 = .ok (.if_icmp .eq 5, 3) := dk_159 0 5 (dk_at dksL_law_70 16 rfl rfl)
theorem dL_law_1836 : decode cL_law 1836 = .ok (.iconst 0, 1) := dk_3 (dk_at dksL_law_70 19 rfl rfl)
theorem dL_law_1837 : decode cL_law 1837 = .ok (.ireturn, 1) := dk_172 (dk_at dksL_law_70 20 rfl rfl)
theorem dL_law_1838 : decode cL_law 1838 = .ok (.iload 5, 2) := dk_21 5 (dk_at dksL_law_70 21 rfl rfl)
theorem dL_law_1840 : decode cL_law 1840 = .ok (.ifCond .ne 15, 3) := dk_154 0 15 (dk_at dksL_law_71 0 rfl rfl)
theorem dL_law_1843 : decode cL_law 1843 = .ok (.aload_n 3, 1) := dk_45 (dk_at dksL_law_71 3 rfl rfl)
theorem dL_law_1844 : decode cL_law 1844 = .ok (.iconst 0, 1) := dk_3 (dk_at dksL_law_71 4 rfl rfl)
theorem dL_law_1845 : decode cL_law 1845 = .ok (.laload, 1) := dk_47 (dk_at dksL_law_71 5 rfl rfl)
theorem dL_law_1846 : decode cL_law 1846 = .ok (.iload 6, 2) := dk_21 6 (dk_at dksL_law_71 6 rfl rfl)
theorem dL_law_1848 : decode cL_law 1848 = .ok (.i2l, 1) := dk_133 (dk_at dksL_law_71 8 rfl rfl)
theorem dL_law_1849 : decode cL_law 1849 = .ok (.lcmp, 1) := dk_148 (dk_at dksL_law_71 9 rfl rfl)
theorem dL_law_1850 : decode cL_law 1850 = .ok (.ifCond .eq 5, 3) := dk_153 0 5 (dk_at dksL_law_71 10 rfl rfl)
theorem dL_law_1853 : decode cL_law 1853 = .ok (.iconst 0, 1) := dk_3 (dk_at dksL_law_71 13 rfl rfl)
theorem dL_law_1854 : decode cL_law 1854 = .ok (.ireturn, 1) := dk_172 (dk_at dksL_law_71 14 rfl rfl)
theorem dL_law_1855 : decode cL_law 1855 = .ok (.goto 874, 3) := dk_167 3 106 (dk_at dksL_law_71 15 rfl rfl)
theorem dL_law_1858 : decode cL_law 1858 = .ok (.aload_n 1, 1) := dk_43 (dk_at dksL_law_71 18 rfl rfl)
theorem dL_law_1859 : decode cL_law 1859 = .ok (.invokevirtual 251, 3) := dk_182 0 251 (dk_at dksL_law_71 19 rfl rfl)
theorem dL_law_1862 : decode cL_law 1862 = .ok (.aload_n 2, 1) := dk_44 (dk_at dksL_law_71 22 rfl rfl)
theorem dL_law_1863 : decode cL_law 1863 = .ok (.invokevirtual 254, 3) := dk_182 0 254 (dk_at dksL_law_72 0 rfl rfl)
theorem dL_law_1866 : decode cL_law 1866 = .ok (.if_icmp .eq 863, 3) := dk_159 3 95 (dk_at dksL_law_72 3 rfl rfl)
theorem dL_law_1869 : decode cL_law 1869 = .ok (.iconst 0, 1) := dk_3 (dk_at dksL_law_72 6 rfl rfl)
theorem dL_law_1870 : decode cL_law 1870 = .ok (.ireturn, 1) := dk_172 (dk_at dksL_law_72 7 rfl rfl)
theorem dL_law_1871 : decode cL_law 1871 = .ok (.aload_n 1, 1) := dk_43 (dk_at dksL_law_72 8 rfl rfl)
theorem dL_law_1872 : decode cL_law 1872 = .ok (.aload_n 0, 1) := dk_42 (dk_at dksL_law_72 9 rfl rfl)
theorem dL_law_1873 : decode cL_law 1873 = .ok (.iload 4, 2) := dk_21 4 (dk_at dksL_law_72 10 rfl rfl)
theorem dL_law_1875 : decode cL_law 1875 = .ok (.iconst 1, 1) := dk_4 (dk_at dksL_law_72 12 rfl rfl)
theorem dL_law_1876 : decode cL_law 1876 = .ok (.iadd, 1) := dk_96 (dk_at dksL_law_72 13 rfl rfl)
theorem dL_law_1877 : decode cL_law 1877 = .ok (.iaload, 1) := dk_46 (dk_at dksL_law_72 14 rfl rfl)
theorem dL_law_1878 : decode cL_law 1878 = .ok (.aload_n 3, 1) := dk_45 (dk_at dksL_law_72 15 rfl rfl)
theorem dL_law_1879 : decode cL_law 1879 = .ok (.invokestatic 255, 3) := dk_184 0 255 (dk_at dksL_law_72 16 rfl rfl)
theorem dL_law_1882 : decode cL_law 1882 = .ok (.istore 5, 2) := dk_54 5 (dk_at dksL_law_72 19 rfl rfl)
theorem dL_law_1884 : decode cL_law 1884 = .ok (.aload_n 2, 1) := dk_44 (dk_at dksL_law_72 21 rfl rfl)
theorem dL_law_1885 : decode cL_law 1885 = .ok (.aload_n 0, 1) := dk_42 (dk_at dksL_law_72 22 rfl rfl)
theorem dL_law_1886 : decode cL_law 1886 = .ok (.iload 4, 2) := dk_21 4 (dk_at dksL_law_73 0 rfl rfl)
theorem dL_law_1888 : decode cL_law 1888 = .ok (.iconst 1, 1) := dk_4 (dk_at dksL_law_73 2 rfl rfl)
theorem dL_law_1889 : decode cL_law 1889 = .ok (.iadd, 1) := dk_96 (dk_at dksL_law_73 3 rfl rfl)
theorem dL_law_1890 : decode cL_law 1890 = .ok (.iaload, 1) := dk_46 (dk_at dksL_law_73 4 rfl rfl)
theorem dL_law_1891 : decode cL_law 1891 = .ok (.invokevirtual 257, 3) := dk_182 1 1 (dk_at dksL_law_73 5 rfl rfl)
theorem dL_law_1894 : decode cL_law 1894 = .ok (.istore 6, 2) := dk_54 6 (dk_at dksL_law_73 8 rfl rfl)
theorem dL_law_1896 : decode cL_law 1896 = .ok (.aload_n 2, 1) := dk_44 (dk_at dksL_law_73 10 rfl rfl)
theorem dL_law_1897 : decode cL_law 1897 = .ok (.invokevirtual 151, 3) := dk_182 0 151 (dk_at dksL_law_73 11 rfl rfl)
theorem dL_law_1900 : decode cL_law 1900 = .ok (.iload 5, 2) := dk_21 5 (dk_at dksL_law_73 14 rfl rfl)
theorem dL_law_1902 : decode cL_law 1902 = .ok (.if_icmp .eq 5, 3) := dk_159 0 5 (dk_at dksL_law_73 16 rfl rfl)
theorem dL_law_1905 : decode cL_law 1905 = .ok (.iconst 0, 1) := dk_3 (dk_at dksL_law_73 19 rfl rfl)
theorem dL_law_1906 : decode cL_law 1906 = .ok (.ireturn, 1) := dk_172 (dk_at dksL_law_73 20 rfl rfl)
theorem dL_law_1907 : decode cL_law 1907 = .ok (.iload 5, 2) := dk_21 5 (dk_at dksL_law_73 21 rfl rfl)
theorem dL_law_1909 : decode cL_law 1909 = .ok (.ifCond .ne 15, 3) := dk_154 0 15 (dk_at dksL_law_74 0 rfl rfl)
theorem dL_law_1912 : decode cL_law 1912 = .ok (.aload_n 3, 1) := dk_45 (dk_at dksL_law_74 3 rfl rfl)
theorem dL_law_1913 : decode cL_law 1913 = .ok (.iconst 0, 1) := dk_3 (dk_at dksL_law_74 4 rfl rfl)
theorem dL_law_1914 : decode cL_law 1914 = .ok (.laload, 1) := dk_47 (dk_at dksL_law_74 5 rfl rfl)
theorem dL_law_1915 : decode cL_law 1915 = .ok (.iload 6, 2) := dk_21 6 (dk_at dksL_law_74 6 rfl rfl)
theorem dL_law_1917 : decode cL_law 1917 = .ok (.i2l, 1) := dk_133 (dk_at dksL_law_74 8 rfl rfl)
theorem dL_law_1918 : decode cL_law 1918 = .ok (.lcmp, 1) := dk_148 (dk_at dksL_law_74 9 rfl rfl)
theorem dL_law_1919 : decode cL_law 1919 = .ok (.ifCond .eq 5, 3) := dk_153 0 5 (dk_at dksL_law_74 10 rfl rfl)
theorem dL_law_1922 : decode cL_law 1922 = .ok (.iconst 0, 1) := dk_3 (dk_at dksL_law_74 13 rfl rfl)
theorem dL_law_1923 : decode cL_law 1923 = .ok (.ireturn, 1) := dk_172 (dk_at dksL_law_74 14 rfl rfl)
theorem dL_law_1924 : decode cL_law 1924 = .ok (.goto 805, 3) := dk_167 3 37 (dk_at dksL_law_74 15 rfl rfl)
theorem dL_law_1927 : decode cL_law 1927 = .ok (.aload_n 1, 1) := dk_43 (dk_at dksL_law_74 18 rfl rfl)
theorem dL_law_1928 : decode cL_law 1928 = .ok (.aload_n 0, 1) := dk_42 (dk_at dksL_law_74 19 rfl rfl)
theorem dL_law_1929 : decode cL_law 1929 = .ok (.iload 4, 2) := dk_21 4 (dk_at dksL_law_74 20 rfl rfl)
theorem dL_law_1931 : decode cL_law 1931 = .ok (.iconst 1, 1) := dk_4 (dk_at dksL_law_74 22 rfl rfl)
theorem dL_law_1932 : decode cL_law 1932 = .ok (.iadd, 1) := dk_96 (dk_at dksL_law_74 23 rfl rfl)
theorem dL_law_1933 : decode cL_law 1933 = .ok (.iaload, 1) := dk_46 (dk_at dksL_law_75 0 rfl rfl)
theorem dL_law_1934 : decode cL_law 1934 = .ok (.aload_n 0, 1) := dk_42 (dk_at dksL_law_75 1 rfl rfl)
theorem dL_law_1935 : decode cL_law 1935 = .ok (.iload 4, 2) := dk_21 4 (dk_at dksL_law_75 2 rfl rfl)
theorem dL_law_1937 : decode cL_law 1937 = .ok (.iconst 2, 1) := dk_5 (dk_at dksL_law_75 4 rfl rfl)
theorem dL_law_1938 : decode cL_law 1938 = .ok (.iadd, 1) := dk_96 (dk_at dksL_law_75 5 rfl rfl)
theorem dL_law_1939 : decode cL_law 1939 = .ok (.iaload, 1) := dk_46 (dk_at dksL_law_75 6 rfl rfl)
theorem dL_law_1940 : decode cL_law 1940 = .ok (.aload_n 3, 1) := dk_45 (dk_at dksL_law_75 7 rfl rfl)
theorem dL_law_1941 : decode cL_law 1941 = .ok (.invokestatic 258, 3) := dk_184 1 2 (dk_at dksL_law_75 8 rfl rfl)
theorem dL_law_1944 : decode cL_law 1944 = .ok (.istore 5, 2) := dk_54 5 (dk_at dksL_law_75 11 rfl rfl)
theorem dL_law_1946 : decode cL_law 1946 = .ok (.aload_n 2, 1) := dk_44 (dk_at dksL_law_75 13 rfl rfl)
theorem dL_law_1947 : decode cL_law 1947 = .ok (.aload_n 0, 1) := dk_42 (dk_at dksL_law_75 14 rfl rfl)
theorem dL_law_1948 : decode cL_law 1948 = .ok (.iload 4, 2) := dk_21 4 (dk_at dksL_law_75 15 rfl rfl)
theorem dL_law_1950 : decode cL_law 1950 = .ok (.iconst 1, 1) := dk_4 (dk_at dksL_law_75 17 rfl rfl)
theorem dL_law_1951 : decode cL_law 1951 = .ok (.iadd, 1) := dk_96 (dk_at dksL_law_75 18 rfl rfl)
theorem dL_law_1952 : decode cL_law 1952 = .ok (.iaload, 1) := dk_46 (dk_at dksL_law_75 19 rfl rfl)
theorem dL_law_1953 : decode cL_law 1953 = .ok (.aload_n 0, 1) := dk_42 (dk_at dksL_law_75 20 rfl rfl)
theorem dL_law_1954 : decode cL_law 1954 = .ok (.iload 4, 2) := dk_21 4 (dk_at dksL_law_75 21 rfl rfl)
theorem dL_law_1956 : decode cL_law 1956 = .ok (.iconst 2, 1) := dk_5 (dk_at dksL_law_75 23 rfl rfl)
theorem dL_law_1957 : decode cL_law 1957 = .ok (.iadd, 1) := dk_96 (dk_at dksL_law_76 0 rfl rfl)
theorem dL_law_1958 : decode cL_law 1958 = .ok (.iaload, 1) := dk_46 (dk_at dksL_law_76 1 rfl rfl)
theorem dL_law_1959 : decode cL_law 1959 = .ok (.invokevirtual 260, 3) := dk_182 1 4 (dk_at dksL_law_76 2 rfl rfl)
theorem dL_law_1962 : decode cL_law 1962 = .ok (.istore 6, 2) := dk_54 6 (dk_at dksL_law_76 5 rfl rfl)
theorem dL_law_1964 : decode cL_law 1964 = .ok (.aload_n 2, 1) := dk_44 (dk_at dksL_law_76 7 rfl rfl)
theorem dL_law_1965 : decode cL_law 1965 = .ok (.invokevirtual 151, 3) := dk_182 0 151 (dk_at dksL_law_76 8 rfl rfl)
theorem dL_law_1968 : decode cL_law 1968 = .ok (.iload 5, 2) := dk_21 5 (dk_at dksL_law_76 11 rfl rfl)
theorem dL_law_1970 : decode cL_law 1970 = .ok (.if_icmp .eq 5, 3) := dk_159 0 5 (dk_at dksL_law_76 13 rfl rfl)
theorem dL_law_1973 : decode cL_law 1973 = .ok (.iconst 0, 1) := dk_3 (dk_at dksL_law_76 16 rfl rfl)
theorem dL_law_1974 : decode cL_law 1974 = .ok (.ireturn, 1) := dk_172 (dk_at dksL_law_76 17 rfl rfl)
theorem dL_law_1975 : decode cL_law 1975 = .ok (.iload 5, 2) := dk_21 5 (dk_at dksL_law_76 18 rfl rfl)
theorem dL_law_1977 : decode cL_law 1977 = .ok (.ifCond .ne 15, 3) := dk_154 0 15 (dk_at dksL_law_76 20 rfl rfl)
theorem dL_law_1980 : decode cL_law 1980 = .ok (.aload_n 3, 1) := dk_45 (dk_at dksL_law_76 23 rfl rfl)
theorem dL_law_1981 : decode cL_law 1981 = .ok (.iconst 0, 1) := dk_3 (dk_at dksL_law_77 0 rfl rfl)
theorem dL_law_1982 : decode cL_law 1982 = .ok (.laload, 1) := dk_47 (dk_at dksL_law_77 1 rfl rfl)
theorem dL_law_1983 : decode cL_law 1983 = .ok (.iload 6, 2) := dk_21 6 (dk_at dksL_law_77 2 rfl rfl)
theorem dL_law_1985 : decode cL_law 1985 = .ok (.i2l, 1) := dk_133 (dk_at dksL_law_77 4 rfl rfl)
theorem dL_law_1986 : decode cL_law 1986 = .ok (.lcmp, 1) := dk_148 (dk_at dksL_law_77 5 rfl rfl)
theorem dL_law_1987 : decode cL_law 1987 = .ok (.ifCond .eq 5, 3) := dk_153 0 5 (dk_at dksL_law_77 6 rfl rfl)
theorem dL_law_1990 : decode cL_law 1990 = .ok (.iconst 0, 1) := dk_3 (dk_at dksL_law_77 9 rfl rfl)
theorem dL_law_1991 : decode cL_law 1991 = .ok (.ireturn, 1) := dk_172 (dk_at dksL_law_77 10 rfl rfl)
theorem dL_law_1992 : decode cL_law 1992 = .ok (.goto 737, 3) := dk_167 2 225 (dk_at dksL_law_77 11 rfl rfl)
theorem dL_law_1995 : decode cL_law 1995 = .ok (.aload_n 1, 1) := dk_43 (dk_at dksL_law_77 14 rfl rfl)
theorem dL_law_1996 : decode cL_law 1996 = .ok (.invokevirtual 261, 3) := dk_182 1 5 (dk_at dksL_law_77 15 rfl rfl)
theorem dL_law_1999 : decode cL_law 1999 = .ok (.aload_n 2, 1) := dk_44 (dk_at dksL_law_77 18 rfl rfl)
theorem dL_law_2000 : decode cL_law 2000 = .ok (.invokevirtual 264, 3) := dk_182 1 8 (dk_at dksL_law_77 19 rfl rfl)
theorem dL_law_2003 : decode cL_law 2003 = .ok (.if_icmp .eq 726, 3) := dk_159 2 214 (dk_at dksL_law_78 0 rfl rfl)
theorem dL_law_2006 : decode cL_law 2006 = .ok (.iconst 0, 1) := dk_3 (dk_at dksL_law_78 3 rfl rfl)
theorem dL_law_2007 : decode cL_law 2007 = .ok (.ireturn, 1) := dk_172 (dk_at dksL_law_78 4 rfl rfl)
theorem dL_law_2008 : decode cL_law 2008 = .ok (.aload_n 1, 1) := dk_43 (dk_at dksL_law_78 5 rfl rfl)
theorem dL_law_2009 : decode cL_law 2009 = .ok (.invokevirtual 265, 3) := dk_182 1 9 (dk_at dksL_law_78 6 rfl rfl)
theorem dL_law_2012 : decode cL_law 2012 = .ok (.aload_n 2, 1) := dk_44 (dk_at dksL_law_78 9 rfl rfl)
theorem dL_law_2013 : decode cL_law 2013 = .ok (.invokevirtual 268, 3) := dk_182 1 12 (dk_at dksL_law_78 10 rfl rfl)
theorem dL_law_2016 : decode cL_law 2016 = .ok (.if_icmp .eq 713, 3) := dk_159 2 201 (dk_at dksL_law_78 13 rfl rfl)
theorem dL_law_2019 : decode cL_law 2019 = .ok (.iconst 0, 1) := dk_3 (dk_at dksL_law_78 16 rfl rfl)
theorem dL_law_2020 : decode cL_law 2020 = .ok (.ireturn, 1) := dk_172 (dk_at dksL_law_78 17 rfl rfl)
theorem dL_law_2021 : decode cL_law 2021 = .ok (.aload_n 1, 1) := dk_43 (dk_at dksL_law_78 18 rfl rfl)
theorem dL_law_2022 : decode cL_law 2022 = .ok (.aload_n 0, 1) := dk_42 (dk_at dksL_law_78 19 rfl rfl)
theorem dL_law_2023 : decode cL_law 2023 = .ok (.iload 4, 2) := dk_21 4 (dk_at dksL_law_78 20 rfl rfl)
theorem dL_law_2025 : decode cL_law 2025 = .ok (.iconst 1, 1) := dk_4 (dk_at dksL_law_78 22 rfl rfl)
theorem dL_law_2026 : decode cL_law 2026 = .ok (.iadd, 1) := dk_96 (dk_at dksL_law_78 23 rfl rfl)
theorem dL_law_2027 : decode cL_law 2027 = .ok (.iaload, 1) := dk_46 (dk_at dksL_law_79 0 rfl rfl)
theorem dL_law_2028 : decode cL_law 2028 = .ok (.aload_n 0, 1) := dk_42 (dk_at dksL_law_79 1 rfl rfl)
theorem dL_law_2029 : decode cL_law 2029 = .ok (.iload 4, 2) := dk_21 4 (dk_at dksL_law_79 2 rfl rfl)
theorem dL_law_2031 : decode cL_law 2031 = .ok (.iconst 2, 1) := dk_5 (dk_at dksL_law_79 4 rfl rfl)
theorem dL_law_2032 : decode cL_law 2032 = .ok (.iadd, 1) := dk_96 (dk_at dksL_law_79 5 rfl rfl)
theorem dL_law_2033 : decode cL_law 2033 = .ok (.iaload, 1) := dk_46 (dk_at dksL_law_79 6 rfl rfl)
theorem dL_law_2034 : decode cL_law 2034 = .ok (.aload_n 3, 1) := dk_45 (dk_at dksL_law_79 7 rfl rfl)
theorem dL_law_2035 : decode cL_law 2035 = .ok (.invokestatic 269, 3) := dk_184 1 13 (dk_at dksL_law_79 8 rfl rfl)
theorem dL_law_2038 : decode cL_law 2038 = .ok (.istore 5, 2) := dk_54 5 (dk_at dksL_law_79 11 rfl rfl)
theorem dL_law_2040 : decode cL_law 2040 = .ok (.aload_n 2, 1) := dk_44 (dk_at dksL_law_79 13 rfl rfl)
theorem dL_law_2041 : decode cL_law 2041 = .ok (.aload_n 0, 1) := dk_42 (dk_at dksL_law_79 14 rfl rfl)
theorem dL_law_2042 : decode cL_law 2042 = .ok (.iload 4, 2) := dk_21 4 (dk_at dksL_law_79 15 rfl rfl)
theorem dL_law_2044 : decode cL_law 2044 = .ok (.iconst 1, 1) := dk_4 (dk_at dksL_law_79 17 rfl rfl)
theorem dL_law_2045 : decode cL_law 2045 = .ok (.iadd, 1) := dk_96 (dk_at dksL_law_79 18 rfl rfl)
theorem dL_law_2046 : decode cL_law 2046 = .ok (.iaload, 1) := dk_46 (dk_at dksL_law_79 19 rfl rfl)
theorem dL_law_2047 : decode cL_law 2047 = .ok (.aload_n 0, 1) := dk_42 (dk_at dksL_law_79 20 rfl rfl)
theorem dL_law_2048 : decode cL_law 2048 = .ok (.iload 4, 2) := dk_21 4 (dk_at dksL_law_79 21 rfl rfl)
theorem dL_law_2050 : decode cL_law 2050 = .ok (.iconst 2, 1) := dk_5 (dk_at dksL_law_79 23 rfl rfl)
theorem dL_law_2051 : decode cL_law 2051 = .ok (.iadd, 1) := dk_96 (dk_at dksL_law_80 0 rfl rfl)
theorem dL_law_2052 : decode cL_law 2052 = .ok (.iaload, 1) := dk_46 (dk_at dksL_law_80 1 rfl rfl)
theorem dL_law_2053 : decode cL_law 2053 = .ok (.invokevirtual 271, 3) := dk_182 1 15 (dk_at dksL_law_80 2 rfl rfl)
theorem dL_law_2056 : decode cL_law 2056 = .ok (.istore 6, 2) := dk_54 6 (dk_at dksL_law_80 5 rfl rfl)
theorem dL_law_2058 : decode cL_law 2058 = .ok (.aload_n 2, 1) := dk_44 (dk_at dksL_law_80 7 rfl rfl)
theorem dL_law_2059 : decode cL_law 2059 = .ok (.invokevirtual 151, 3) := dk_182 0 151 (dk_at dksL_law_80 8 rfl rfl)
theorem dL_law_2062 : decode cL_law 2062 = .ok (.iload 5, 2) := dk_21 5 (dk_at dksL_law_80 11 rfl rfl)
theorem dL_law_2064 : decode cL_law 2064 = .ok (.if_icmp .eq 5, 3) := dk_159 0 5 (dk_at dksL_law_80 13 rfl rfl)
theorem dL_law_2067 : decode cL_law 2067 = .ok (.iconst 0, 1) := dk_3 (dk_at dksL_law_80 16 rfl rfl)
theorem dL_law_2068 : decode cL_law 2068 = .ok (.ireturn, 1) := dk_172 (dk_at dksL_law_80 17 rfl rfl)
theorem dL_law_2069 : decode cL_law 2069 = .ok (.iload 5, 2) := dk_21 5 (dk_at dksL_law_80 18 rfl rfl)
theorem dL_law_2071 : decode cL_law 2071 = .ok (.ifCond .ne 15, 3) := dk_154 0 15 (dk_at dksL_law_80 20 rfl rfl)
theorem dL_law_2074 : decode cL_law 2074 = .ok (.aload_n 3, 1) := dk_45 (dk_at dksL_law_80 23 rfl rfl)
theorem dL_law_2075 : decode cL_law 2075 = .ok (.iconst 0, 1) := dk_3 (dk_at dksL_law_81 0 rfl rfl)
theorem dL_law_2076 : decode cL_law 2076 = .ok (.laload, 1) := dk_47 (dk_at dksL_law_81 1 rfl rfl)
theorem dL_law_2077 : decode cL_law 2077 = .ok (.iload 6, 2) := dk_21 6 (dk_at dksL_law_81 2 rfl rfl)
theorem dL_law_2079 : decode cL_law 2079 = .ok (.i2l, 1) := dk_133 (dk_at dksL_law_81 4 rfl rfl)
theorem dL_law_2080 : decode cL_law 2080 = .ok (.lcmp, 1) := dk_148 (dk_at dksL_law_81 5 rfl rfl)
theorem dL_law_2081 : decode cL_law 2081 = .ok (.ifCond .eq 5, 3) := dk_153 0 5 (dk_at dksL_law_81 6 rfl rfl)
theorem dL_law_2084 : decode cL_law 2084 = .ok (.iconst 0, 1) := dk_3 (dk_at dksL_law_81 9 rfl rfl)
theorem dL_law_2085 : decode cL_law 2085 = .ok (.ireturn, 1) := dk_172 (dk_at dksL_law_81 10 rfl rfl)
theorem dL_law_2086 : decode cL_law 2086 = .ok (.goto 643, 3) := dk_167 2 131 (dk_at dksL_law_81 11 rfl rfl)
theorem dL_law_2089 : decode cL_law 2089 = .ok (.aload_n 1, 1) := dk_43 (dk_at dksL_law_81 14 rfl rfl)
theorem dL_law_2090 : decode cL_law 2090 = .ok (.aload_n 0, 1) := dk_42 (dk_at dksL_law_81 15 rfl rfl)
theorem dL_law_2091 : decode cL_law 2091 = .ok (.iload 4, 2) := dk_21 4 (dk_at dksL_law_81 16 rfl rfl)
theorem dL_law_2093 : decode cL_law 2093 = .ok (.iconst 1, 1) := dk_4 (dk_at dksL_law_81 18 rfl rfl)
theorem dL_law_2094 : decode cL_law 2094 = .ok (.iadd, 1) := dk_96 (dk_at dksL_law_81 19 rfl rfl)
theorem dL_law_2095 : decode cL_law 2095 = .ok (.iaload, 1) := dk_46 (dk_at dksL_law_81 20 rfl rfl)
theorem dL_law_2096 : decode cL_law 2096 = .ok (.aload_n 3, 1) := dk_45 (dk_at dksL_law_81 21 rfl rfl)
theorem dL_law_2097 : decode cL_law 2097 = .ok (.invokestatic 272, 3) := dk_184 1 16 (dk_at dksL_law_82 0 rfl rfl)
theorem dL_law_2100 : decode cL_law 2100 = .ok (.istore 5, 2) := dk_54 5 (dk_at dksL_law_82 3 rfl rfl)
theorem dL_law_2102 : decode cL_law 2102 = .ok (.aload_n 2, 1) := dk_44 (dk_at dksL_law_82 5 rfl rfl)
theorem dL_law_2103 : decode cL_law 2103 = .ok (.aload_n 0, 1) := dk_42 (dk_at dksL_law_82 6 rfl rfl)
theorem dL_law_2104 : decode cL_law 2104 = .ok (.iload 4, 2) := dk_21 4 (dk_at dksL_law_82 7 rfl rfl)
theorem dL_law_2106 : decode cL_law 2106 = .ok (.iconst 1, 1) := dk_4 (dk_at dksL_law_82 9 rfl rfl)
theorem dL_law_2107 : decode cL_law 2107 = .ok (.iadd, 1) := dk_96 (dk_at dksL_law_82 10 rfl rfl)
theorem dL_law_2108 : decode cL_law 2108 = .ok (.iaload, 1) := dk_46 (dk_at dksL_law_82 11 rfl rfl)
theorem dL_law_2109 : decode cL_law 2109 = .ok (.invokevirtual 274, 3) := dk_182 1 18 (dk_at dksL_law_82 12 rfl rfl)
theorem dL_law_2112 : decode cL_law 2112 = .ok (.istore 6, 2) := dk_54 6 (dk_at dksL_law_82 15 rfl rfl)
theorem dL_law_2114 : decode cL_law 2114 = .ok (.aload_n 2, 1) := dk_44 (dk_at dksL_law_82 17 rfl rfl)
theorem dL_law_2115 : decode cL_law 2115 = .ok (.invokevirtual 151, 3) := dk_182 0 151 (dk_at dksL_law_82 18 rfl rfl)
theorem dL_law_2118 : decode cL_law 2118 = .ok (.iload 5, 2) := dk_21 5 (dk_at dksL_law_82 21 rfl rfl)
theorem dL_law_2120 : decode cL_law 2120 = .ok (.if_icmp .eq 5, 3) := dk_159 0 5 (dk_at dksL_law_83 0 rfl rfl)
theorem dL_law_2123 : decode cL_law 2123 = .ok (.iconst 0, 1) := dk_3 (dk_at dksL_law_83 3 rfl rfl)
theorem dL_law_2124 : decode cL_law 2124 = .ok (.ireturn, 1) := dk_172 (dk_at dksL_law_83 4 rfl rfl)
theorem dL_law_2125 : decode cL_law 2125 = .ok (.iload 5, 2) := dk_21 5 (dk_at dksL_law_83 5 rfl rfl)
theorem dL_law_2127 : decode cL_law 2127 = .ok (.ifCond .ne 15, 3) := dk_154 0 15 (dk_at dksL_law_83 7 rfl rfl)
theorem dL_law_2130 : decode cL_law 2130 = .ok (.aload_n 3, 1) := dk_45 (dk_at dksL_law_83 10 rfl rfl)
theorem dL_law_2131 : decode cL_law 2131 = .ok (.iconst 0, 1) := dk_3 (dk_at dksL_law_83 11 rfl rfl)
theorem dL_law_2132 : decode cL_law 2132 = .ok (.laload, 1) := dk_47 (dk_at dksL_law_83 12 rfl rfl)
theorem dL_law_2133 : decode cL_law 2133 = .ok (.iload 6, 2) := dk_21 6 (dk_at dksL_law_83 13 rfl rfl)
theorem dL_law_2135 : decode cL_law 2135 = .ok (.i2l, 1) := dk_133 (dk_at dksL_law_83 15 rfl rfl)
theorem dL_law_2136 : decode cL_law 2136 = .ok (.lcmp, 1) := dk_148 (dk_at dksL_law_83 16 rfl rfl)
theorem dL_law_2137 : decode cL_law 2137 = .ok (.ifCond .eq 5, 3) := dk_153 0 5 (dk_at dksL_law_83 17 rfl rfl)
theorem dL_law_2140 : decode cL_law 2140 = .ok (.iconst 0, 1) := dk_3 (dk_at dksL_law_83 20 rfl rfl)
theorem dL_law_2141 : decode cL_law 2141 = .ok (.ireturn, 1) := dk_172 (dk_at dksL_law_83 21 rfl rfl)
theorem dL_law_2142 : decode cL_law 2142 = .ok (.goto 587, 3) := dk_167 2 75 (dk_at dksL_law_84 0 rfl rfl)
theorem dL_law_2145 : decode cL_law 2145 = .ok (.aload_n 1, 1) := dk_43 (dk_at dksL_law_84 3 rfl rfl)
theorem dL_law_2146 : decode cL_law 2146 = .ok (.aload_n 0, 1) := dk_42 (dk_at dksL_law_84 4 rfl rfl)
theorem dL_law_2147 : decode cL_law 2147 = .ok (.iload 4, 2) := dk_21 4 (dk_at dksL_law_84 5 rfl rfl)
theorem dL_law_2149 : decode cL_law 2149 = .ok (.iconst 1, 1) := dk_4 (dk_at dksL_law_84 7 rfl rfl)
theorem dL_law_2150 : decode cL_law 2150 = .ok (.iadd, 1) := dk_96 (dk_at dksL_law_84 8 rfl rfl)
theorem dL_law_2151 : decode cL_law 2151 = .ok (.iaload, 1) := dk_46 (dk_at dksL_law_84 9 rfl rfl)
theorem dL_law_2152 : decode cL_law 2152 = .ok (.aload_n 3, 1) := dk_45 (dk_at dksL_law_84 10 rfl rfl)
theorem dL_law_2153 : decode cL_law 2153 = .ok (.invokestatic 275, 3) := dk_184 1 19 (dk_at dksL_law_84 11 rfl rfl)
theorem dL_law_2156 : decode cL_law 2156 = .ok (.istore 5, 2) := dk_54 5 (dk_at dksL_law_84 14 rfl rfl)
theorem dL_law_2158 : decode cL_law 2158 = .ok (.aload_n 2, 1) := dk_44 (dk_at dksL_law_84 16 rfl rfl)
theorem dL_law_2159 : decode cL_law 2159 = .ok (.aload_n 0, 1) := dk_42 (dk_at dksL_law_84 17 rfl rfl)
theorem dL_law_2160 : decode cL_law 2160 = .ok (.iload 4, 2) := dk_21 4 (dk_at dksL_law_84 18 rfl rfl)
theorem dL_law_2162 : decode cL_law 2162 = .ok (.iconst 1, 1) := dk_4 (dk_at dksL_law_84 20 rfl rfl)
theorem dL_law_2163 : decode cL_law 2163 = .ok (.iadd, 1) := dk_96 (dk_at dksL_law_84 21 rfl rfl)
theorem dL_law_2164 : decode cL_law 2164 = .ok (.iaload, 1) := dk_46 (dk_at dksL_law_84 22 rfl rfl)
theorem dL_law_2165 : decode cL_law 2165 = .ok (.invokevirtual 277, 3) := dk_182 1 21 (dk_at dksL_law_85 0 rfl rfl)
theorem dL_law_2168 : decode cL_law 2168 = .ok (.istore 6, 2) := dk_54 6 (dk_at dksL_law_85 3 rfl rfl)
theorem dL_law_2170 : decode cL_law 2170 = .ok (.aload_n 2, 1) := dk_44 (dk_at dksL_law_85 5 rfl rfl)
theorem dL_law_2171 : decode cL_law 2171 = .ok (.invokevirtual 151, 3) := dk_182 0 151 (dk_at dksL_law_85 6 rfl rfl)
theorem dL_law_2174 : decode cL_law 2174 = .ok (.iload 5, 2) := dk_21 5 (dk_at dksL_law_85 9 rfl rfl)
theorem dL_law_2176 : decode cL_law 2176 = .ok (.if_icmp .eq 5, 3) := dk_159 0 5 (dk_at dksL_law_85 11 rfl rfl)
theorem dL_law_2179 : decode cL_law 2179 = .ok (.iconst 0, 1) := dk_3 (dk_at dksL_law_85 14 rfl rfl)
theorem dL_law_2180 : decode cL_law 2180 = .ok (.ireturn, 1) := dk_172 (dk_at dksL_law_85 15 rfl rfl)
theorem dL_law_2181 : decode cL_law 2181 = .ok (.iload 5, 2) := dk_21 5 (dk_at dksL_law_85 16 rfl rfl)
theorem dL_law_2183 : decode cL_law 2183 = .ok (.ifCond .ne 15, 3) := dk_154 0 15 (dk_at dksL_law_85 18 rfl rfl)
theorem dL_law_2186 : decode cL_law 2186 = .ok (.aload_n 3, 1) := dk_45 (dk_at dksL_law_85 21 rfl rfl)
theorem dL_law_2187 : decode cL_law 2187 = .ok (.iconst 0, 1) := dk_3 (dk_at dksL_law_85 22 rfl rfl)
theorem dL_law_2188 : decode cL_law 2188 = .ok (.laload, 1) := dk_47 (dk_at dksL_law_85 23 rfl rfl)
theorem dL_law_2189 : decode cL_law 2189 = .ok (.iload 6, 2) := dk_21 6 (dk_at dksL_law_86 0 rfl rfl)
theorem dL_law_2191 : decode cL_law 2191 = .ok (.i2l, 1) := dk_133 (dk_at dksL_law_86 2 rfl rfl)
theorem dL_law_2192 : decode cL_law 2192 = .ok (.lcmp, 1) := dk_148 (dk_at dksL_law_86 3 rfl rfl)
theorem dL_law_2193 : decode cL_law 2193 = .ok (.ifCond .eq 5, 3) := dk_153 0 5 (dk_at dksL_law_86 4 rfl rfl)
theorem dL_law_2196 : decode cL_law 2196 = .ok (.iconst 0, 1) := dk_3 (dk_at dksL_law_86 7 rfl rfl)
theorem dL_law_2197 : decode cL_law 2197 = .ok (.ireturn, 1) := dk_172 (dk_at dksL_law_86 8 rfl rfl)
theorem dL_law_2198 : decode cL_law 2198 = .ok (.goto 531, 3) := dk_167 2 19 (dk_at dksL_law_86 9 rfl rfl)
theorem dL_law_2201 : decode cL_law 2201 = .ok (.aload_n 1, 1) := dk_43 (dk_at dksL_law_86 12 rfl rfl)
theorem dL_law_2202 : decode cL_law 2202 = .ok (.aload_n 0, 1) := dk_42 (dk_at dksL_law_86 13 rfl rfl)
theorem dL_law_2203 : decode cL_law 2203 = .ok (.iload 4, 2) := dk_21 4 (dk_at dksL_law_86 14 rfl rfl)
theorem dL_law_2205 : decode cL_law 2205 = .ok (.iconst 1, 1) := dk_4 (dk_at dksL_law_86 16 rfl rfl)
theorem dL_law_2206 : decode cL_law 2206 = .ok (.iadd, 1) := dk_96 (dk_at dksL_law_86 17 rfl rfl)
theorem dL_law_2207 : decode cL_law 2207 = .ok (.iaload, 1) := dk_46 (dk_at dksL_law_86 18 rfl rfl)
theorem dL_law_2208 : decode cL_law 2208 = .ok (.aload_n 0, 1) := dk_42 (dk_at dksL_law_86 19 rfl rfl)
theorem dL_law_2209 : decode cL_law 2209 = .ok (.iload 4, 2) := dk_21 4 (dk_at dksL_law_86 20 rfl rfl)
theorem dL_law_2211 : decode cL_law 2211 = .ok (.iconst 2, 1) := dk_5 (dk_at dksL_law_86 22 rfl rfl)
theorem dL_law_2212 : decode cL_law 2212 = .ok (.iadd, 1) := dk_96 (dk_at dksL_law_86 23 rfl rfl)
theorem dL_law_2213 : decode cL_law 2213 = .ok (.iaload, 1) := dk_46 (dk_at dksL_law_87 0 rfl rfl)
theorem dL_law_2214 : decode cL_law 2214 = .ok (.aload_n 3, 1) := dk_45 (dk_at dksL_law_87 1 rfl rfl)
theorem dL_law_2215 : decode cL_law 2215 = .ok (.invokestatic 278, 3) := dk_184 1 22 (dk_at dksL_law_87 2 rfl rfl)
theorem dL_law_2218 : decode cL_law 2218 = .ok (.istore 5, 2) := dk_54 5 (dk_at dksL_law_87 5 rfl rfl)
theorem dL_law_2220 : decode cL_law 2220 = .ok (.aload_n 2, 1) := dk_44 (dk_at dksL_law_87 7 rfl rfl)
theorem dL_law_2221 : decode cL_law 2221 = .ok (.aload_n 0, 1) := dk_42 (dk_at dksL_law_87 8 rfl rfl)
theorem dL_law_2222 : decode cL_law 2222 = .ok (.iload 4, 2) := dk_21 4 (dk_at dksL_law_87 9 rfl rfl)
theorem dL_law_2224 : decode cL_law 2224 = .ok (.iconst 1, 1) := dk_4 (dk_at dksL_law_87 11 rfl rfl)
theorem dL_law_2225 : decode cL_law 2225 = .ok (.iadd, 1) := dk_96 (dk_at dksL_law_87 12 rfl rfl)
theorem dL_law_2226 : decode cL_law 2226 = .ok (.iaload, 1) := dk_46 (dk_at dksL_law_87 13 rfl rfl)
theorem dL_law_2227 : decode cL_law 2227 = .ok (.aload_n 0, 1) := dk_42 (dk_at dksL_law_87 14 rfl rfl)
theorem dL_law_2228 : decode cL_law 2228 = .ok (.iload 4, 2) := dk_21 4 (dk_at dksL_law_87 15 rfl rfl)
theorem dL_law_2230 : decode cL_law 2230 = .ok (.iconst 2, 1) := dk_5 (dk_at dksL_law_87 17 rfl rfl)
theorem dL_law_2231 : decode cL_law 2231 = .ok (.iadd, 1) := dk_96 (dk_at dksL_law_87 18 rfl rfl)
theorem dL_law_2232 : decode cL_law 2232 = .ok (.iaload, 1) := dk_46 (dk_at dksL_law_87 19 rfl rfl)
theorem dL_law_2233 : decode cL_law 2233 = .ok (.invokevirtual 280, 3) := dk_182 1 24 (dk_at dksL_law_87 20 rfl rfl)
theorem dL_law_2236 : decode cL_law 2236 = .ok (.istore 6, 2) := dk_54 6 (dk_at dksL_law_88 0 rfl rfl)
theorem dL_law_2238 : decode cL_law 2238 = .ok (.aload_n 2, 1) := dk_44 (dk_at dksL_law_88 2 rfl rfl)
theorem dL_law_2239 : decode cL_law 2239 = .ok (.invokevirtual 151, 3) := dk_182 0 151 (dk_at dksL_law_88 3 rfl rfl)
theorem dL_law_2242 : decode cL_law 2242 = .ok (.iload 5, 2) := dk_21 5 (dk_at dksL_law_88 6 rfl rfl)
theorem dL_law_2244 : decode cL_law 2244 = .ok (.if_icmp .eq 5, 3) := dk_159 0 5 (dk_at dksL_law_88 8 rfl rfl)
theorem dL_law_2247 : decode cL_law 2247 = .ok (.iconst 0, 1) := dk_3 (dk_at dksL_law_88 11 rfl rfl)
theorem dL_law_2248 : decode cL_law 2248 = .ok (.ireturn, 1) := dk_172 (dk_at dksL_law_88 12 rfl rfl)
theorem dL_law_2249 : decode cL_law 2249 = .ok (.iload 5, 2) := dk_21 5 (dk_at dksL_law_88 13 rfl rfl)
theorem dL_law_2251 : decode cL_law 2251 = .ok (.ifCond .ne 15, 3) := dk_154 0 15 (dk_at dksL_law_88 15 rfl rfl)
theorem dL_law_2254 : decode cL_law 2254 = .ok (.aload_n 3, 1) := dk_45 (dk_at dksL_law_88 18 rfl rfl)
theorem dL_law_2255 : decode cL_law 2255 = .ok (.iconst 0, 1) := dk_3 (dk_at dksL_law_88 19 rfl rfl)
theorem dL_law_2256 : decode cL_law 2256 = .ok (.laload, 1) := dk_47 (dk_at dksL_law_88 20 rfl rfl)
theorem dL_law_2257 : decode cL_law 2257 = .ok (.iload 6, 2) := dk_21 6 (dk_at dksL_law_88 21 rfl rfl)
theorem dL_law_2259 : decode cL_law 2259 = .ok (.i2l, 1) := dk_133 (dk_at dksL_law_88 23 rfl rfl)
theorem dL_law_2260 : decode cL_law 2260 = .ok (.lcmp, 1) := dk_148 (dk_at dksL_law_89 0 rfl rfl)
theorem dL_law_2261 : decode cL_law 2261 = .ok (.ifCond .eq 5, 3) := dk_153 0 5 (dk_at dksL_law_89 1 rfl rfl)
theorem dL_law_2264 : decode cL_law 2264 = .ok (.iconst 0, 1) := dk_3 (dk_at dksL_law_89 4 rfl rfl)
theorem dL_law_2265 : decode cL_law 2265 = .ok (.ireturn, 1) := dk_172 (dk_at dksL_law_89 5 rfl rfl)
theorem dL_law_2266 : decode cL_law 2266 = .ok (.goto 463, 3) := dk_167 1 207 (dk_at dksL_law_89 6 rfl rfl)
theorem dL_law_2269 : decode cL_law 2269 = .ok (.aload_n 1, 1) := dk_43 (dk_at dksL_law_89 9 rfl rfl)
theorem dL_law_2270 : decode cL_law 2270 = .ok (.aload_n 0, 1) := dk_42 (dk_at dksL_law_89 10 rfl rfl)
theorem dL_law_2271 : decode cL_law 2271 = .ok (.iload 4, 2) := dk_21 4 (dk_at dksL_law_89 11 rfl rfl)
theorem dL_law_2273 : decode cL_law 2273 = .ok (.iconst 1, 1) := dk_4 (dk_at dksL_law_89 13 rfl rfl)
theorem dL_law_2274 : decode cL_law 2274 = .ok (.iadd, 1) := dk_96 (dk_at dksL_law_89 14 rfl rfl)
theorem dL_law_2275 : decode cL_law 2275 = .ok (.iaload, 1) := dk_46 (dk_at dksL_law_89 15 rfl rfl)
theorem dL_law_2276 : decode cL_law 2276 = .ok (.aload_n 0, 1) := dk_42 (dk_at dksL_law_89 16 rfl rfl)
theorem dL_law_2277 : decode cL_law 2277 = .ok (.iload 4, 2) := dk_21 4 (dk_at dksL_law_89 17 rfl rfl)
theorem dL_law_2279 : decode cL_law 2279 = .ok (.iconst 2, 1) := dk_5 (dk_at dksL_law_89 19 rfl rfl)
theorem dL_law_2280 : decode cL_law 2280 = .ok (.iadd, 1) := dk_96 (dk_at dksL_law_89 20 rfl rfl)
theorem dL_law_2281 : decode cL_law 2281 = .ok (.iaload, 1) := dk_46 (dk_at dksL_law_89 21 rfl rfl)
theorem dL_law_2282 : decode cL_law 2282 = .ok (.aload_n 3, 1) := dk_45 (dk_at dksL_law_89 22 rfl rfl)
theorem dL_law_2283 : decode cL_law 2283 = .ok (.invokestatic 281, 3) := dk_184 1 25 (dk_at dksL_law_90 0 rfl rfl)
theorem dL_law_2286 : decode cL_law 2286 = .ok (.istore 5, 2) := dk_54 5 (dk_at dksL_law_90 3 rfl rfl)
theorem dL_law_2288 : decode cL_law 2288 = .ok (.aload_n 2, 1) := dk_44 (dk_at dksL_law_90 5 rfl rfl)
theorem dL_law_2289 : decode cL_law 2289 = .ok (.aload_n 0, 1) := dk_42 (dk_at dksL_law_90 6 rfl rfl)
theorem dL_law_2290 : decode cL_law 2290 = .ok (.iload 4, 2) := dk_21 4 (dk_at dksL_law_90 7 rfl rfl)
theorem dL_law_2292 : decode cL_law 2292 = .ok (.iconst 1, 1) := dk_4 (dk_at dksL_law_90 9 rfl rfl)
theorem dL_law_2293 : decode cL_law 2293 = .ok (.iadd, 1) := dk_96 (dk_at dksL_law_90 10 rfl rfl)
theorem dL_law_2294 : decode cL_law 2294 = .ok (.iaload, 1) := dk_46 (dk_at dksL_law_90 11 rfl rfl)
theorem dL_law_2295 : decode cL_law 2295 = .ok (.aload_n 0, 1) := dk_42 (dk_at dksL_law_90 12 rfl rfl)
theorem dL_law_2296 : decode cL_law 2296 = .ok (.iload 4, 2) := dk_21 4 (dk_at dksL_law_90 13 rfl rfl)
theorem dL_law_2298 : decode cL_law 2298 = .ok (.iconst 2, 1) := dk_5 (dk_at dksL_law_90 15 rfl rfl)
theorem dL_law_2299 : decode cL_law 2299 = .ok (.iadd, 1) := dk_96 (dk_at dksL_law_90 16 rfl rfl)
theorem dL_law_2300 : decode cL_law 2300 = .ok (.iaload, 1) := dk_46 (dk_at dksL_law_90 17 rfl rfl)
theorem dL_law_2301 : decode cL_law 2301 = .ok (.invokevirtual 283, 3) := dk_182 1 27 (dk_at dksL_law_90 18 rfl rfl)
theorem dL_law_2304 : decode cL_law 2304 = .ok (.istore 6, 2) := dk_54 6 (dk_at dksL_law_90 21 rfl rfl)
theorem dL_law_2306 : decode cL_law 2306 = .ok (.aload_n 2, 1) := dk_44 (dk_at dksL_law_90 23 rfl rfl)
theorem dL_law_2307 : decode cL_law 2307 = .ok (.invokevirtual 151, 3) := dk_182 0 151 (dk_at dksL_law_91 0 rfl rfl)
theorem dL_law_2310 : decode cL_law 2310 = .ok (.iload 5, 2) := dk_21 5 (dk_at dksL_law_91 3 rfl rfl)
theorem dL_law_2312 : decode cL_law 2312 = .ok (.if_icmp .eq 5, 3) := dk_159 0 5 (dk_at dksL_law_91 5 rfl rfl)
theorem dL_law_2315 : decode cL_law 2315 = .ok (.iconst 0, 1) := dk_3 (dk_at dksL_law_91 8 rfl rfl)
theorem dL_law_2316 : decode cL_law 2316 = .ok (.ireturn, 1) := dk_172 (dk_at dksL_law_91 9 rfl rfl)
theorem dL_law_2317 : decode cL_law 2317 = .ok (.iload 5, 2) := dk_21 5 (dk_at dksL_law_91 10 rfl rfl)
theorem dL_law_2319 : decode cL_law 2319 = .ok (.ifCond .ne 15, 3) := dk_154 0 15 (dk_at dksL_law_91 12 rfl rfl)
theorem dL_law_2322 : decode cL_law 2322 = .ok (.aload_n 3, 1) := dk_45 (dk_at dksL_law_91 15 rfl rfl)
theorem dL_law_2323 : decode cL_law 2323 = .ok (.iconst 0, 1) := dk_3 (dk_at dksL_law_91 16 rfl rfl)
theorem dL_law_2324 : decode cL_law 2324 = .ok (.laload, 1) := dk_47 (dk_at dksL_law_91 17 rfl rfl)
theorem dL_law_2325 : decode cL_law 2325 = .ok (.iload 6, 2) := dk_21 6 (dk_at dksL_law_91 18 rfl rfl)
theorem dL_law_2327 : decode cL_law 2327 = .ok (.i2l, 1) := dk_133 (dk_at dksL_law_91 20 rfl rfl)
theorem dL_law_2328 : decode cL_law 2328 = .ok (.lcmp, 1) := dk_148 (dk_at dksL_law_91 21 rfl rfl)
theorem dL_law_2329 : decode cL_law 2329 = .ok (.ifCond .eq 5, 3) := dk_153 0 5 (dk_at dksL_law_92 0 rfl rfl)
theorem dL_law_2332 : decode cL_law 2332 = .ok (.iconst 0, 1) := dk_3 (dk_at dksL_law_92 3 rfl rfl)
theorem dL_law_2333 : decode cL_law 2333 = .ok (.ireturn, 1) := dk_172 (dk_at dksL_law_92 4 rfl rfl)
theorem dL_law_2334 : decode cL_law 2334 = .ok (.goto 395, 3) := dk_167 1 139 (dk_at dksL_law_92 5 rfl rfl)
theorem dL_law_2337 : decode cL_law 2337 = .ok (.aload_n 1, 1) := dk_43 (dk_at dksL_law_92 8 rfl rfl)
theorem dL_law_2338 : decode cL_law 2338 = .ok (.aload_n 0, 1) := dk_42 (dk_at dksL_law_92 9 rfl rfl)
theorem dL_law_2339 : decode cL_law 2339 = .ok (.iload 4, 2) := dk_21 4 (dk_at dksL_law_92 10 rfl rfl)
theorem dL_law_2341 : decode cL_law 2341 = .ok (.iconst 1, 1) := dk_4 (dk_at dksL_law_92 12 rfl rfl)
theorem dL_law_2342 : decode cL_law 2342 = .ok (.iadd, 1) := dk_96 (dk_at dksL_law_92 13 rfl rfl)
theorem dL_law_2343 : decode cL_law 2343 = .ok (.iaload, 1) := dk_46 (dk_at dksL_law_92 14 rfl rfl)
theorem dL_law_2344 : decode cL_law 2344 = .ok (.aload_n 0, 1) := dk_42 (dk_at dksL_law_92 15 rfl rfl)
theorem dL_law_2345 : decode cL_law 2345 = .ok (.iload 4, 2) := dk_21 4 (dk_at dksL_law_92 16 rfl rfl)
theorem dL_law_2347 : decode cL_law 2347 = .ok (.iconst 2, 1) := dk_5 (dk_at dksL_law_92 18 rfl rfl)
theorem dL_law_2348 : decode cL_law 2348 = .ok (.iadd, 1) := dk_96 (dk_at dksL_law_92 19 rfl rfl)
theorem dL_law_2349 : decode cL_law 2349 = .ok (.iaload, 1) := dk_46 (dk_at dksL_law_92 20 rfl rfl)
theorem dL_law_2350 : decode cL_law 2350 = .ok (.aload_n 3, 1) := dk_45 (dk_at dksL_law_92 21 rfl rfl)
theorem dL_law_2351 : decode cL_law 2351 = .ok (.invokestatic 284, 3) := dk_184 1 28 (dk_at dksL_law_93 0 rfl rfl)
theorem dL_law_2354 : decode cL_law 2354 = .ok (.istore 5, 2) := dk_54 5 (dk_at dksL_law_93 3 rfl rfl)
theorem dL_law_2356 : decode cL_law 2356 = .ok (.aload_n 2, 1) := dk_44 (dk_at dksL_law_93 5 rfl rfl)
theorem dL_law_2357 : decode cL_law 2357 = .ok (.aload_n 0, 1) := dk_42 (dk_at dksL_law_93 6 rfl rfl)
theorem dL_law_2358 : decode cL_law 2358 = .ok (.iload 4, 2) := dk_21 4 (dk_at dksL_law_93 7 rfl rfl)
theorem dL_law_2360 : decode cL_law 2360 = .ok (.iconst 1, 1) := dk_4 (dk_at dksL_law_93 9 rfl rfl)
theorem dL_law_2361 : decode cL_law 2361 = .ok (.iadd, 1) := dk_96 (dk_at dksL_law_93 10 rfl rfl)
theorem dL_law_2362 : decode cL_law 2362 = .ok (.iaload, 1) := dk_46 (dk_at dksL_law_93 11 rfl rfl)
theorem dL_law_2363 : decode cL_law 2363 = .ok (.aload_n 0, 1) := dk_42 (dk_at dksL_law_93 12 rfl rfl)
theorem dL_law_2364 : decode cL_law 2364 = .ok (.iload 4, 2) := dk_21 4 (dk_at dksL_law_93 13 rfl rfl)
theorem dL_law_2366 : decode cL_law 2366 = .ok (.iconst 2, 1) := dk_5 (dk_at dksL_law_93 15 rfl rfl)
theorem dL_law_2367 : decode cL_law 2367 = .ok (.iadd, 1) := dk_96 (dk_at dksL_law_93 16 rfl rfl)
theorem dL_law_2368 : decode cL_law 2368 = .ok (.iaload, 1) := dk_46 (dk_at dksL_law_93 17 rfl rfl)
theorem dL_law_2369 : decode cL_law 2369 = .ok (.invokevirtual 286, 3) := dk_182 1 30 (dk_at dksL_law_93 18 rfl rfl)
theorem dL_law_2372 : decode cL_law 2372 = .ok (.istore 6, 2) := dk_54 6 (dk_at dksL_law_93 21 rfl rfl)
theorem dL_law_2374 : decode cL_law 2374 = .ok (.aload_n 2, 1) := dk_44 (dk_at dksL_law_93 23 rfl rfl)
theorem dL_law_2375 : decode cL_law 2375 = .ok (.invokevirtual 151, 3) := dk_182 0 151 (dk_at dksL_law_94 0 rfl rfl)
theorem dL_law_2378 : decode cL_law 2378 = .ok (.iload 5, 2) := dk_21 5 (dk_at dksL_law_94 3 rfl rfl)
theorem dL_law_2380 : decode cL_law 2380 = .ok (.if_icmp .eq 5, 3) := dk_159 0 5 (dk_at dksL_law_94 5 rfl rfl)
theorem dL_law_2383 : decode cL_law 2383 = .ok (.iconst 0, 1) := dk_3 (dk_at dksL_law_94 8 rfl rfl)
theorem dL_law_2384 : decode cL_law 2384 = .ok (.ireturn, 1) := dk_172 (dk_at dksL_law_94 9 rfl rfl)
theorem dL_law_2385 : decode cL_law 2385 = .ok (.iload 5, 2) := dk_21 5 (dk_at dksL_law_94 10 rfl rfl)
theorem dL_law_2387 : decode cL_law 2387 = .ok (.ifCond .ne 15, 3) := dk_154 0 15 (dk_at dksL_law_94 12 rfl rfl)
theorem dL_law_2390 : decode cL_law 2390 = .ok (.aload_n 3, 1) := dk_45 (dk_at dksL_law_94 15 rfl rfl)
theorem dL_law_2391 : decode cL_law 2391 = .ok (.iconst 0, 1) := dk_3 (dk_at dksL_law_94 16 rfl rfl)
theorem dL_law_2392 : decode cL_law 2392 = .ok (.laload, 1) := dk_47 (dk_at dksL_law_94 17 rfl rfl)
theorem dL_law_2393 : decode cL_law 2393 = .ok (.iload 6, 2) := dk_21 6 (dk_at dksL_law_94 18 rfl rfl)
theorem dL_law_2395 : decode cL_law 2395 = .ok (.i2l, 1) := dk_133 (dk_at dksL_law_94 20 rfl rfl)
theorem dL_law_2396 : decode cL_law 2396 = .ok (.lcmp, 1) := dk_148 (dk_at dksL_law_94 21 rfl rfl)
theorem dL_law_2397 : decode cL_law 2397 = .ok (.ifCond .eq 5, 3) := dk_153 0 5 (dk_at dksL_law_95 0 rfl rfl)
theorem dL_law_2400 : decode cL_law 2400 = .ok (.iconst 0, 1) := dk_3 (dk_at dksL_law_95 3 rfl rfl)
theorem dL_law_2401 : decode cL_law 2401 = .ok (.ireturn, 1) := dk_172 (dk_at dksL_law_95 4 rfl rfl)
theorem dL_law_2402 : decode cL_law 2402 = .ok (.goto 327, 3) := dk_167 1 71 (dk_at dksL_law_95 5 rfl rfl)
theorem dL_law_2405 : decode cL_law 2405 = .ok (.aload_n 1, 1) := dk_43 (dk_at dksL_law_95 8 rfl rfl)
theorem dL_law_2406 : decode cL_law 2406 = .ok (.aload_n 0, 1) := dk_42 (dk_at dksL_law_95 9 rfl rfl)
theorem dL_law_2407 : decode cL_law 2407 = .ok (.iload 4, 2) := dk_21 4 (dk_at dksL_law_95 10 rfl rfl)
theorem dL_law_2409 : decode cL_law 2409 = .ok (.iconst 1, 1) := dk_4 (dk_at dksL_law_95 12 rfl rfl)
theorem dL_law_2410 : decode cL_law 2410 = .ok (.iadd, 1) := dk_96 (dk_at dksL_law_95 13 rfl rfl)
theorem dL_law_2411 : decode cL_law 2411 = .ok (.iaload, 1) := dk_46 (dk_at dksL_law_95 14 rfl rfl)
theorem dL_law_2412 : decode cL_law 2412 = .ok (.aload_n 0, 1) := dk_42 (dk_at dksL_law_95 15 rfl rfl)
theorem dL_law_2413 : decode cL_law 2413 = .ok (.iload 4, 2) := dk_21 4 (dk_at dksL_law_95 16 rfl rfl)
theorem dL_law_2415 : decode cL_law 2415 = .ok (.iconst 2, 1) := dk_5 (dk_at dksL_law_95 18 rfl rfl)
theorem dL_law_2416 : decode cL_law 2416 = .ok (.iadd, 1) := dk_96 (dk_at dksL_law_95 19 rfl rfl)
theorem dL_law_2417 : decode cL_law 2417 = .ok (.iaload, 1) := dk_46 (dk_at dksL_law_95 20 rfl rfl)
theorem dL_law_2418 : decode cL_law 2418 = .ok (.aload_n 0, 1) := dk_42 (dk_at dksL_law_95 21 rfl rfl)
theorem dL_law_2419 : decode cL_law 2419 = .ok (.iload 4, 2) := dk_21 4 (dk_at dksL_law_95 22 rfl rfl)
theorem dL_law_2421 : decode cL_law 2421 = .ok (.iconst 3, 1) := dk_6 (dk_at dksL_law_96 0 rfl rfl)
theorem dL_law_2422 : decode cL_law 2422 = .ok (.iadd, 1) := dk_96 (dk_at dksL_law_96 1 rfl rfl)
theorem dL_law_2423 : decode cL_law 2423 = .ok (.iaload, 1) := dk_46 (dk_at dksL_law_96 2 rfl rfl)
theorem dL_law_2424 : decode cL_law 2424 = .ok (.invokestatic 287, 3) := dk_184 1 31 (dk_at dksL_law_96 3 rfl rfl)
theorem dL_law_2427 : decode cL_law 2427 = .ok (.istore 5, 2) := dk_54 5 (dk_at dksL_law_96 6 rfl rfl)
theorem dL_law_2429 : decode cL_law 2429 = .ok (.aload_n 2, 1) := dk_44 (dk_at dksL_law_96 8 rfl rfl)
theorem dL_law_2430 : decode cL_law 2430 = .ok (.aload_n 0, 1) := dk_42 (dk_at dksL_law_96 9 rfl rfl)
theorem dL_law_2431 : decode cL_law 2431 = .ok (.iload 4, 2) := dk_21 4 (dk_at dksL_law_96 10 rfl rfl)
theorem dL_law_2433 : decode cL_law 2433 = .ok (.iconst 1, 1) := dk_4 (dk_at dksL_law_96 12 rfl rfl)
theorem dL_law_2434 : decode cL_law 2434 = .ok (.iadd, 1) := dk_96 (dk_at dksL_law_96 13 rfl rfl)
theorem dL_law_2435 : decode cL_law 2435 = .ok (.iaload, 1) := dk_46 (dk_at dksL_law_96 14 rfl rfl)
theorem dL_law_2436 : decode cL_law 2436 = .ok (.aload_n 0, 1) := dk_42 (dk_at dksL_law_96 15 rfl rfl)
theorem dL_law_2437 : decode cL_law 2437 = .ok (.iload 4, 2) := dk_21 4 (dk_at dksL_law_96 16 rfl rfl)
theorem dL_law_2439 : decode cL_law 2439 = .ok (.iconst 2, 1) := dk_5 (dk_at dksL_law_96 18 rfl rfl)
theorem dL_law_2440 : decode cL_law 2440 = .ok (.iadd, 1) := dk_96 (dk_at dksL_law_96 19 rfl rfl)
theorem dL_law_2441 : decode cL_law 2441 = .ok (.iaload, 1) := dk_46 (dk_at dksL_law_96 20 rfl rfl)
theorem dL_law_2442 : decode cL_law 2442 = .ok (.aload_n 0, 1) := dk_42 (dk_at dksL_law_96 21 rfl rfl)
theorem dL_law_2443 : decode cL_law 2443 = .ok (.iload 4, 2) := dk_21 4 (dk_at dksL_law_96 22 rfl rfl)
theorem dL_law_2445 : decode cL_law 2445 = .ok (.iconst 3, 1) := dk_6 (dk_at dksL_law_97 0 rfl rfl)
theorem dL_law_2446 : decode cL_law 2446 = .ok (.iadd, 1) := dk_96 (dk_at dksL_law_97 1 rfl rfl)
theorem dL_law_2447 : decode cL_law 2447 = .ok (.iaload, 1) := dk_46 (dk_at dksL_law_97 2 rfl rfl)
theorem dL_law_2448 : decode cL_law 2448 = .ok (.invokevirtual 290, 3) := dk_182 1 34 (dk_at dksL_law_97 3 rfl rfl)
theorem dL_law_2451 : decode cL_law 2451 = .ok (.aload_n 2, 1) := dk_44 (dk_at dksL_law_97 6 rfl rfl)
theorem dL_law_2452 : decode cL_law 2452 = .ok (.invokevirtual 151, 3) := dk_182 0 151 (dk_at dksL_law_97 7 rfl rfl)
theorem dL_law_2455 : decode cL_law 2455 = .ok (.iload 5, 2) := dk_21 5 (dk_at dksL_law_97 10 rfl rfl)
theorem dL_law_2457 : decode cL_law 2457 = .ok (.if_icmp .eq 5, 3) := dk_159 0 5 (dk_at dksL_law_97 12 rfl rfl)
theorem dL_law_2460 : decode cL_law 2460 = .ok (.iconst 0, 1) := dk_3 (dk_at dksL_law_97 15 rfl rfl)
theorem dL_law_2461 : decode cL_law 2461 = .ok (.ireturn, 1) := dk_172 (dk_at dksL_law_97 16 rfl rfl)
theorem dL_law_2462 : decode cL_law 2462 = .ok (.goto 267, 3) := dk_167 1 11 (dk_at dksL_law_97 17 rfl rfl)
theorem dL_law_2465 : decode cL_law 2465 = .ok (.aload_n 1, 1) := dk_43 (dk_at dksL_law_97 20 rfl rfl)
theorem dL_law_2466 : decode cL_law 2466 = .ok (.aload_n 0, 1) := dk_42 (dk_at dksL_law_97 21 rfl rfl)
theorem dL_law_2467 : decode cL_law 2467 = .ok (.iload 4, 2) := dk_21 4 (dk_at dksL_law_97 22 rfl rfl)
theorem dL_law_2469 : decode cL_law 2469 = .ok (.iconst 1, 1) := dk_4 (dk_at dksL_law_98 0 rfl rfl)
theorem dL_law_2470 : decode cL_law 2470 = .ok (.iadd, 1) := dk_96 (dk_at dksL_law_98 1 rfl rfl)
theorem dL_law_2471 : decode cL_law 2471 = .ok (.iaload, 1) := dk_46 (dk_at dksL_law_98 2 rfl rfl)
theorem dL_law_2472 : decode cL_law 2472 = .ok (.aload_n 0, 1) := dk_42 (dk_at dksL_law_98 3 rfl rfl)
theorem dL_law_2473 : decode cL_law 2473 = .ok (.iload 4, 2) := dk_21 4 (dk_at dksL_law_98 4 rfl rfl)
theorem dL_law_2475 : decode cL_law 2475 = .ok (.iconst 2, 1) := dk_5 (dk_at dksL_law_98 6 rfl rfl)
theorem dL_law_2476 : decode cL_law 2476 = .ok (.iadd, 1) := dk_96 (dk_at dksL_law_98 7 rfl rfl)
theorem dL_law_2477 : decode cL_law 2477 = .ok (.iaload, 1) := dk_46 (dk_at dksL_law_98 8 rfl rfl)
theorem dL_law_2478 : decode cL_law 2478 = .ok (.aload_n 0, 1) := dk_42 (dk_at dksL_law_98 9 rfl rfl)
theorem dL_law_2479 : decode cL_law 2479 = .ok (.iload 4, 2) := dk_21 4 (dk_at dksL_law_98 10 rfl rfl)
theorem dL_law_2481 : decode cL_law 2481 = .ok (.iconst 3, 1) := dk_6 (dk_at dksL_law_98 12 rfl rfl)
theorem dL_law_2482 : decode cL_law 2482 = .ok (.iadd, 1) := dk_96 (dk_at dksL_law_98 13 rfl rfl)
theorem dL_law_2483 : decode cL_law 2483 = .ok (.iaload, 1) := dk_46 (dk_at dksL_law_98 14 rfl rfl)
theorem dL_law_2484 : decode cL_law 2484 = .ok (.i2l, 1) := dk_133 (dk_at dksL_law_98 15 rfl rfl)
theorem dL_law_2485 : decode cL_law 2485 = .ok (.bipush 32, 2) := dk_16 32 (dk_at dksL_law_98 16 rfl rfl)
theorem dL_law_2487 : decode cL_law 2487 = .ok (.lshl, 1) := dk_121 (dk_at dksL_law_98 18 rfl rfl)
theorem dL_law_2488 : decode cL_law 2488 = .ok (.aload_n 0, 1) := dk_42 (dk_at dksL_law_98 19 rfl rfl)
theorem dL_law_2489 : decode cL_law 2489 = .ok (.iload 4, 2) := dk_21 4 (dk_at dksL_law_98 20 rfl rfl)
theorem dL_law_2491 : decode cL_law 2491 = .ok (.iconst 4, 1) := dk_7 (dk_at dksL_law_98 22 rfl rfl)
theorem dL_law_2492 : decode cL_law 2492 = .ok (.iadd, 1) := dk_96 (dk_at dksL_law_98 23 rfl rfl)
theorem dL_law_2493 : decode cL_law 2493 = .ok (.iaload, 1) := dk_46 (dk_at dksL_law_99 0 rfl rfl)
theorem dL_law_2494 : decode cL_law 2494 = .ok (.i2l, 1) := dk_133 (dk_at dksL_law_99 1 rfl rfl)
theorem dL_law_2495 : decode cL_law 2495 = .ok (.ldc2_w 291, 3) := dk_20 1 35 (dk_at dksL_law_99 2 rfl rfl)
theorem dL_law_2498 : decode cL_law 2498 = .ok (.land, 1) := dk_127 (dk_at dksL_law_99 5 rfl rfl)
theorem dL_law_2499 : decode cL_law 2499 = .ok (.lor, 1) := dk_129 (dk_at dksL_law_99 6 rfl rfl)
theorem dL_law_2500 : decode cL_law 2500 = .ok (.aload_n 3, 1) := dk_45 (dk_at dksL_law_99 7 rfl rfl)
theorem dL_law_2501 : decode cL_law 2501 = .ok (.invokestatic 293, 3) := dk_184 1 37 (dk_at dksL_law_99 8 rfl rfl)
theorem dL_law_2504 : decode cL_law 2504 = .ok (.istore 5, 2) := dk_54 5 (dk_at dksL_law_99 11 rfl rfl)
theorem dL_law_2506 : decode cL_law 2506 = .ok (.aload_n 2, 1) := dk_44 (dk_at dksL_law_99 13 rfl rfl)
theorem dL_law_2507 : decode cL_law 2507 = .ok (.aload_n 0, 1) := dk_42 (dk_at dksL_law_99 14 rfl rfl)
theorem dL_law_2508 : decode cL_law 2508 = .ok (.iload 4, 2) := dk_21 4 (dk_at dksL_law_99 15 rfl rfl)
theorem dL_law_2510 : decode cL_law 2510 = .ok (.iconst 1, 1) := dk_4 (dk_at dksL_law_99 17 rfl rfl)
theorem dL_law_2511 : decode cL_law 2511 = .ok (.iadd, 1) := dk_96 (dk_at dksL_law_99 18 rfl rfl)
theorem dL_law_2512 : decode cL_law 2512 = .ok (.iaload, 1) := dk_46 (dk_at dksL_law_99 19 rfl rfl)
theorem dL_law_2513 : decode cL_law 2513 = .ok (.aload_n 0, 1) := dk_42 (dk_at dksL_law_99 20 rfl rfl)
theorem dL_law_2514 : decode cL_law 2514 = .ok (.iload 4, 2) := dk_21 4 (dk_at dksL_law_99 21 rfl rfl)
theorem dL_law_2516 : decode cL_law 2516 = .ok (.iconst 2, 1) := dk_5 (dk_at dksL_law_99 23 rfl rfl)
theorem dL_law_2517 : decode cL_law 2517 = .ok (.iadd, 1) := dk_96 (dk_at dksL_law_100 0 rfl rfl)
theorem dL_law_2518 : decode cL_law 2518 = .ok (.iaload, 1) := dk_46 (dk_at dksL_law_100 1 rfl rfl)
theorem dL_law_2519 : decode cL_law 2519 = .ok (.aload_n 0, 1) := dk_42 (dk_at dksL_law_100 2 rfl rfl)
theorem dL_law_2520 : decode cL_law 2520 = .ok (.iload 4, 2) := dk_21 4 (dk_at dksL_law_100 3 rfl rfl)
theorem dL_law_2522 : decode cL_law 2522 = .ok (.iconst 3, 1) := dk_6 (dk_at dksL_law_100 5 rfl rfl)
theorem dL_law_2523 : decode cL_law 2523 = .ok (.iadd, 1) := dk_96 (dk_at dksL_law_100 6 rfl rfl)
theorem dL_law_2524 : decode cL_law 2524 = .ok (.iaload, 1) := dk_46 (dk_at dksL_law_100 7 rfl rfl)
theorem dL_law_2525 : decode cL_law 2525 = .ok (.i2l, 1) := dk_133 (dk_at dksL_law_100 8 rfl rfl)
theorem dL_law_2526 : decode cL_law 2526 = .ok (.bipush 32, 2) := dk_16 32 (dk_at dksL_law_100 9 rfl rfl)
theorem dL_law_2528 : decode cL_law 2528 = .ok (.lshl, 1) := dk_121 (dk_at dksL_law_100 11 rfl rfl)
theorem dL_law_2529 : decode cL_law 2529 = .ok (.aload_n 0, 1) := dk_42 (dk_at dksL_law_100 12 rfl rfl)
theorem dL_law_2530 : decode cL_law 2530 = .ok (.iload 4, 2) := dk_21 4 (dk_at dksL_law_100 13 rfl rfl)
theorem dL_law_2532 : decode cL_law 2532 = .ok (.iconst 4, 1) := dk_7 (dk_at dksL_law_100 15 rfl rfl)
theorem dL_law_2533 : decode cL_law 2533 = .ok (.iadd, 1) := dk_96 (dk_at dksL_law_100 16 rfl rfl)
theorem dL_law_2534 : decode cL_law 2534 = .ok (.iaload, 1) := dk_46 (dk_at dksL_law_100 17 rfl rfl)
theorem dL_law_2535 : decode cL_law 2535 = .ok (.i2l, 1) := dk_133 (dk_at dksL_law_100 18 rfl rfl)
theorem dL_law_2536 : decode cL_law 2536 = .ok (.ldc2_w 291, 3) := dk_20 1 35 (dk_at dksL_law_100 19 rfl rfl)
theorem dL_law_2539 : decode cL_law 2539 = .ok (.land, 1) := dk_127 (dk_at dksL_law_100 22 rfl rfl)
theorem dL_law_2540 : decode cL_law 2540 = .ok (.lor, 1) := dk_129 (dk_at dksL_law_100 23 rfl rfl)
theorem dL_law_2541 : decode cL_law 2541 = .ok (.invokevirtual 296, 3) := dk_182 1 40 (dk_at dksL_law_101 0 rfl rfl)
theorem dL_law_2544 : decode cL_law 2544 = .ok (.lstore 6, 2) := dk_55 6 (dk_at dksL_law_101 3 rfl rfl)
theorem dL_law_2546 : decode cL_law 2546 = .ok (.aload_n 2, 1) := dk_44 (dk_at dksL_law_101 5 rfl rfl)
theorem dL_law_2547 : decode cL_law 2547 = .ok (.invokevirtual 151, 3) := dk_182 0 151 (dk_at dksL_law_101 6 rfl rfl)
theorem dL_law_2550 : decode cL_law 2550 = .ok (.iload 5, 2) := dk_21 5 (dk_at dksL_law_101 9 rfl rfl)
theorem dL_law_2552 : decode cL_law 2552 = .ok (.if_icmp .eq 5, 3) := dk_159 0 5 (dk_at dksL_law_101 11 rfl rfl)
theorem dL_law_2555 : decode cL_law 2555 = .ok (.iconst 0, 1) := dk_3 (dk_at dksL_law_101 14 rfl rfl)
theorem dL_law_2556 : decode cL_law 2556 = .ok (.ireturn, 1) := dk_172 (dk_at dksL_law_101 15 rfl rfl)
theorem dL_law_2557 : decode cL_law 2557 = .ok (.iload 5, 2) := dk_21 5 (dk_at dksL_law_101 16 rfl rfl)
theorem dL_law_2559 : decode cL_law 2559 = .ok (.ifCond .ne 14, 3) := dk_154 0 14 (dk_at dksL_law_101 18 rfl rfl)
theorem dL_law_2562 : decode cL_law 2562 = .ok (.aload_n 3, 1) := dk_45 (dk_at dksL_law_101 21 rfl rfl)
theorem dL_law_2563 : decode cL_law 2563 = .ok (.iconst 0, 1) := dk_3 (dk_at dksL_law_101 22 rfl rfl)
theorem dL_law_2564 : decode cL_law 2564 = .ok (.laload, 1) := dk_47 (dk_at dksL_law_101 23 rfl rfl)
theorem dL_law_2565 : decode cL_law 2565 = .ok (.lload 6, 2) := dk_22 6 (dk_at dksL_law_102 0 rfl rfl)
theorem dL_law_2567 : decode cL_law 2567 = .ok (.lcmp, 1) := dk_148 (dk_at dksL_law_102 2 rfl rfl)
theorem dL_law_2568 : decode cL_law 2568 = .ok (.ifCond .eq 5, 3) := dk_153 0 5 (dk_at dksL_law_102 3 rfl rfl)
theorem dL_law_2571 : decode cL_law 2571 = .ok (.iconst 0, 1) := dk_3 (dk_at dksL_law_102 6 rfl rfl)
theorem dL_law_2572 : decode cL_law 2572 = .ok (.ireturn, 1) := dk_172 (dk_at dksL_law_102 7 rfl rfl)
theorem dL_law_2573 : decode cL_law 2573 = .ok (.goto 156, 3) := dk_167 0 156 (dk_at dksL_law_102 8 rfl rfl)
theorem dL_law_2576 : decode cL_law 2576 = .ok (.aload_n 1, 1) := dk_43 (dk_at dksL_law_102 11 rfl rfl)
theorem dL_law_2577 : decode cL_law 2577 = .ok (.aload_n 0, 1) := dk_42 (dk_at dksL_law_102 12 rfl rfl)
theorem dL_law_2578 : decode cL_law 2578 = .ok (.iload 4, 2) := dk_21 4 (dk_at dksL_law_102 13 rfl rfl)
theorem dL_law_2580 : decode cL_law 2580 = .ok (.iconst 1, 1) := dk_4 (dk_at dksL_law_102 15 rfl rfl)
theorem dL_law_2581 : decode cL_law 2581 = .ok (.iadd, 1) := dk_96 (dk_at dksL_law_102 16 rfl rfl)
theorem dL_law_2582 : decode cL_law 2582 = .ok (.iaload, 1) := dk_46 (dk_at dksL_law_102 17 rfl rfl)
theorem dL_law_2583 : decode cL_law 2583 = .ok (.aload_n 3, 1) := dk_45 (dk_at dksL_law_102 18 rfl rfl)
theorem dL_law_2584 : decode cL_law 2584 = .ok (.invokestatic 297, 3) := dk_184 1 41 (dk_at dksL_law_102 19 rfl rfl)
theorem dL_law_2587 : decode cL_law 2587 = .ok (.istore 5, 2) := dk_54 5 (dk_at dksL_law_102 22 rfl rfl)
theorem dL_law_2589 : decode cL_law 2589 = .ok (.aload_n 2, 1) := dk_44 (dk_at dksL_law_103 0 rfl rfl)
theorem dL_law_2590 : decode cL_law 2590 = .ok (.aload_n 0, 1) := dk_42 (dk_at dksL_law_103 1 rfl rfl)
theorem dL_law_2591 : decode cL_law 2591 = .ok (.iload 4, 2) := dk_21 4 (dk_at dksL_law_103 2 rfl rfl)
theorem dL_law_2593 : decode cL_law 2593 = .ok (.iconst 1, 1) := dk_4 (dk_at dksL_law_103 4 rfl rfl)
theorem dL_law_2594 : decode cL_law 2594 = .ok (.iadd, 1) := dk_96 (dk_at dksL_law_103 5 rfl rfl)
theorem dL_law_2595 : decode cL_law 2595 = .ok (.iaload, 1) := dk_46 (dk_at dksL_law_103 6 rfl rfl)
theorem dL_law_2596 : decode cL_law 2596 = .ok (.invokevirtual 299, 3) := dk_182 1 43 (dk_at dksL_law_103 7 rfl rfl)
theorem dL_law_2599 : decode cL_law 2599 = .ok (.istore 6, 2) := dk_54 6 (dk_at dksL_law_103 10 rfl rfl)
theorem dL_law_2601 : decode cL_law 2601 = .ok (.aload_n 2, 1) := dk_44 (dk_at dksL_law_103 12 rfl rfl)
theorem dL_law_2602 : decode cL_law 2602 = .ok (.invokevirtual 151, 3) := dk_182 0 151 (dk_at dksL_law_103 13 rfl rfl)
theorem dL_law_2605 : decode cL_law 2605 = .ok (.iload 5, 2) := dk_21 5 (dk_at dksL_law_103 16 rfl rfl)
theorem dL_law_2607 : decode cL_law 2607 = .ok (.if_icmp .eq 5, 3) := dk_159 0 5 (dk_at dksL_law_103 18 rfl rfl)
theorem dL_law_2610 : decode cL_law 2610 = .ok (.iconst 0, 1) := dk_3 (dk_at dksL_law_103 21 rfl rfl)
theorem dL_law_2611 : decode cL_law 2611 = .ok (.ireturn, 1) := dk_172 (dk_at dksL_law_103 22 rfl rfl)
theorem dL_law_2612 : decode cL_law 2612 = .ok (.iload 5, 2) := dk_21 5 (dk_at dksL_law_104 0 rfl rfl)
theorem dL_law_2614 : decode cL_law 2614 = .ok (.ifCond .ne 15, 3) := dk_154 0 15 (dk_at dksL_law_104 2 rfl rfl)
theorem dL_law_2617 : decode cL_law 2617 = .ok (.aload_n 3, 1) := dk_45 (dk_at dksL_law_104 5 rfl rfl)
theorem dL_law_2618 : decode cL_law 2618 = .ok (.iconst 0, 1) := dk_3 (dk_at dksL_law_104 6 rfl rfl)
theorem dL_law_2619 : decode cL_law 2619 = .ok (.laload, 1) := dk_47 (dk_at dksL_law_104 7 rfl rfl)
theorem dL_law_2620 : decode cL_law 2620 = .ok (.iload 6, 2) := dk_21 6 (dk_at dksL_law_104 8 rfl rfl)
theorem dL_law_2622 : decode cL_law 2622 = .ok (.i2l, 1) := dk_133 (dk_at dksL_law_104 10 rfl rfl)
theorem dL_law_2623 : decode cL_law 2623 = .ok (.lcmp, 1) := dk_148 (dk_at dksL_law_104 11 rfl rfl)
theorem dL_law_2624 : decode cL_law 2624 = .ok (.ifCond .eq 5, 3) := dk_153 0 5 (dk_at dksL_law_104 12 rfl rfl)
theorem dL_law_2627 : decode cL_law 2627 = .ok (.iconst 0, 1) := dk_3 (dk_at dksL_law_104 15 rfl rfl)
theorem dL_law_2628 : decode cL_law 2628 = .ok (.ireturn, 1) := dk_172 (dk_at dksL_law_104 16 rfl rfl)
theorem dL_law_2629 : decode cL_law 2629 = .ok (.goto 100, 3) := dk_167 0 100 (dk_at dksL_law_104 17 rfl rfl)
theorem dL_law_2632 : decode cL_law 2632 = .ok (.aload_n 1, 1) := dk_43 (dk_at dksL_law_104 20 rfl rfl)
theorem dL_law_2633 : decode cL_law 2633 = .ok (.aload_n 0, 1) := dk_42 (dk_at dksL_law_104 21 rfl rfl)
theorem dL_law_2634 : decode cL_law 2634 = .ok (.iload 4, 2) := dk_21 4 (dk_at dksL_law_104 22 rfl rfl)
theorem dL_law_2636 : decode cL_law 2636 = .ok (.iconst 1, 1) := dk_4 (dk_at dksL_law_105 0 rfl rfl)
theorem dL_law_2637 : decode cL_law 2637 = .ok (.iadd, 1) := dk_96 (dk_at dksL_law_105 1 rfl rfl)
theorem dL_law_2638 : decode cL_law 2638 = .ok (.iaload, 1) := dk_46 (dk_at dksL_law_105 2 rfl rfl)
theorem dL_law_2639 : decode cL_law 2639 = .ok (.invokestatic 300, 3) := dk_184 1 44 (dk_at dksL_law_105 3 rfl rfl)
theorem dL_law_2642 : decode cL_law 2642 = .ok (.istore 5, 2) := dk_54 5 (dk_at dksL_law_105 6 rfl rfl)
theorem dL_law_2644 : decode cL_law 2644 = .ok (.aload_n 2, 1) := dk_44 (dk_at dksL_law_105 8 rfl rfl)
theorem dL_law_2645 : decode cL_law 2645 = .ok (.aload_n 0, 1) := dk_42 (dk_at dksL_law_105 9 rfl rfl)
theorem dL_law_2646 : decode cL_law 2646 = .ok (.iload 4, 2) := dk_21 4 (dk_at dksL_law_105 10 rfl rfl)
theorem dL_law_2648 : decode cL_law 2648 = .ok (.iconst 1, 1) := dk_4 (dk_at dksL_law_105 12 rfl rfl)
theorem dL_law_2649 : decode cL_law 2649 = .ok (.iadd, 1) := dk_96 (dk_at dksL_law_105 13 rfl rfl)
theorem dL_law_2650 : decode cL_law 2650 = .ok (.iaload, 1) := dk_46 (dk_at dksL_law_105 14 rfl rfl)
theorem dL_law_2651 : decode cL_law 2651 = .ok (.invokevirtual 303, 3) := dk_182 1 47 (dk_at dksL_law_105 15 rfl rfl)
theorem dL_law_2654 : decode cL_law 2654 = .ok (.aload_n 2, 1) := dk_44 (dk_at dksL_law_105 18 rfl rfl)
theorem dL_law_2655 : decode cL_law 2655 = .ok (.invokevirtual 151, 3) := dk_182 0 151 (dk_at dksL_law_105 19 rfl rfl)
theorem dL_law_2658 : decode cL_law 2658 = .ok (.iload 5, 2) := dk_21 5 (dk_at dksL_law_105 22 rfl rfl)
theorem dL_law_2660 : decode cL_law 2660 = .ok (.if_icmp .eq 5, 3) := dk_159 0 5 (dk_at dksL_law_106 0 rfl rfl)
theorem dL_law_2663 : decode cL_law 2663 = .ok (.iconst 0, 1) := dk_3 (dk_at dksL_law_106 3 rfl rfl)
theorem dL_law_2664 : decode cL_law 2664 = .ok (.ireturn, 1) := dk_172 (dk_at dksL_law_106 4 rfl rfl)
theorem dL_law_2665 : decode cL_law 2665 = .ok (.goto 64, 3) := dk_167 0 64 (dk_at dksL_law_106 5 rfl rfl)
theorem dL_law_2668 : decode cL_law 2668 = .ok (.aload_n 1, 1) := dk_43 (dk_at dksL_law_106 8 rfl rfl)
theorem dL_law_2669 : decode cL_law 2669 = .ok (.aload_n 0, 1) := dk_42 (dk_at dksL_law_106 9 rfl rfl)
theorem dL_law_2670 : decode cL_law 2670 = .ok (.iload 4, 2) := dk_21 4 (dk_at dksL_law_106 10 rfl rfl)
theorem dL_law_2672 : decode cL_law 2672 = .ok (.iconst 1, 1) := dk_4 (dk_at dksL_law_106 12 rfl rfl)
theorem dL_law_2673 : decode cL_law 2673 = .ok (.iadd, 1) := dk_96 (dk_at dksL_law_106 13 rfl rfl)
theorem dL_law_2674 : decode cL_law 2674 = .ok (.iaload, 1) := dk_46 (dk_at dksL_law_106 14 rfl rfl)
theorem dL_law_2675 : decode cL_law 2675 = .ok (.invokestatic 304, 3) := dk_184 1 48 (dk_at dksL_law_106 15 rfl rfl)
theorem dL_law_2678 : decode cL_law 2678 = .ok (.istore 5, 2) := dk_54 5 (dk_at dksL_law_106 18 rfl rfl)
theorem dL_law_2680 : decode cL_law 2680 = .ok (.aload_n 2, 1) := dk_44 (dk_at dksL_law_106 20 rfl rfl)
theorem dL_law_2681 : decode cL_law 2681 = .ok (.aload_n 0, 1) := dk_42 (dk_at dksL_law_106 21 rfl rfl)
theorem dL_law_2682 : decode cL_law 2682 = .ok (.iload 4, 2) := dk_21 4 (dk_at dksL_law_106 22 rfl rfl)
theorem dL_law_2684 : decode cL_law 2684 = .ok (.iconst 1, 1) := dk_4 (dk_at dksL_law_107 0 rfl rfl)
theorem dL_law_2685 : decode cL_law 2685 = .ok (.iadd, 1) := dk_96 (dk_at dksL_law_107 1 rfl rfl)
theorem dL_law_2686 : decode cL_law 2686 = .ok (.iaload, 1) := dk_46 (dk_at dksL_law_107 2 rfl rfl)
theorem dL_law_2687 : decode cL_law 2687 = .ok (.invokevirtual 306, 3) := dk_182 1 50 (dk_at dksL_law_107 3 rfl rfl)
theorem dL_law_2690 : decode cL_law 2690 = .ok (.aload_n 2, 1) := dk_44 (dk_at dksL_law_107 6 rfl rfl)
theorem dL_law_2691 : decode cL_law 2691 = .ok (.invokevirtual 151, 3) := dk_182 0 151 (dk_at dksL_law_107 7 rfl rfl)
theorem dL_law_2694 : decode cL_law 2694 = .ok (.iload 5, 2) := dk_21 5 (dk_at dksL_law_107 10 rfl rfl)
theorem dL_law_2696 : decode cL_law 2696 = .ok (.if_icmp .eq 5, 3) := dk_159 0 5 (dk_at dksL_law_107 12 rfl rfl)
theorem dL_law_2699 : decode cL_law 2699 = .ok (.iconst 0, 1) := dk_3 (dk_at dksL_law_107 15 rfl rfl)
theorem dL_law_2700 : decode cL_law 2700 = .ok (.ireturn, 1) := dk_172 (dk_at dksL_law_107 16 rfl rfl)
theorem dL_law_2701 : decode cL_law 2701 = .ok (.goto 28, 3) := dk_167 0 28 (dk_at dksL_law_107 17 rfl rfl)
theorem dL_law_2704 : decode cL_law 2704 = .ok (.aload_n 1, 1) := dk_43 (dk_at dksL_law_107 20 rfl rfl)
theorem dL_law_2705 : decode cL_law 2705 = .ok (.aload_n 0, 1) := dk_42 (dk_at dksL_law_107 21 rfl rfl)
theorem dL_law_2706 : decode cL_law 2706 = .ok (.iload 4, 2) := dk_21 4 (dk_at dksL_law_107 22 rfl rfl)
theorem dL_law_2708 : decode cL_law 2708 = .ok (.iconst 1, 1) := dk_4 (dk_at dksL_law_108 0 rfl rfl)
theorem dL_law_2709 : decode cL_law 2709 = .ok (.iadd, 1) := dk_96 (dk_at dksL_law_108 1 rfl rfl)
theorem dL_law_2710 : decode cL_law 2710 = .ok (.iaload, 1) := dk_46 (dk_at dksL_law_108 2 rfl rfl)
theorem dL_law_2711 : decode cL_law 2711 = .ok (.invokevirtual 307, 3) := dk_182 1 51 (dk_at dksL_law_108 3 rfl rfl)
theorem dL_law_2714 : decode cL_law 2714 = .ok (.aload_n 2, 1) := dk_44 (dk_at dksL_law_108 6 rfl rfl)
theorem dL_law_2715 : decode cL_law 2715 = .ok (.aload_n 0, 1) := dk_42 (dk_at dksL_law_108 7 rfl rfl)
theorem dL_law_2716 : decode cL_law 2716 = .ok (.iload 4, 2) := dk_21 4 (dk_at dksL_law_108 8 rfl rfl)
theorem dL_law_2718 : decode cL_law 2718 = .ok (.iconst 1, 1) := dk_4 (dk_at dksL_law_108 10 rfl rfl)
theorem dL_law_2719 : decode cL_law 2719 = .ok (.iadd, 1) := dk_96 (dk_at dksL_law_108 11 rfl rfl)
theorem dL_law_2720 : decode cL_law 2720 = .ok (.iaload, 1) := dk_46 (dk_at dksL_law_108 12 rfl rfl)
theorem dL_law_2721 : decode cL_law 2721 = .ok (.invokevirtual 310, 3) := dk_182 1 54 (dk_at dksL_law_108 13 rfl rfl)
theorem dL_law_2724 : decode cL_law 2724 = .ok (.if_icmp .eq 5, 3) := dk_159 0 5 (dk_at dksL_law_108 16 rfl rfl)
theorem dL_law_2727 : decode cL_law 2727 = .ok (.iconst 0, 1) := dk_3 (dk_at dksL_law_108 19 rfl rfl)
theorem dL_law_2728 : decode cL_law 2728 = .ok (.ireturn, 1) := dk_172 (dk_at dksL_law_108 20 rfl rfl)
theorem dL_law_2729 : decode cL_law 2729 = .ok (.iinc 4 6, 3) := dk_132 4 6 (dk_at dksL_law_108 21 rfl rfl)
theorem dL_law_2732 : decode cL_law 2732 = .ok (.goto (-2709), 3) := dk_167 245 107 (dk_at dksL_law_109 0 rfl rfl)
theorem dL_law_2735 : decode cL_law 2735 = .ok (.iconst 1, 1) := dk_4 (dk_at dksL_law_109 3 rfl rfl)
theorem dL_law_2736 : decode cL_law 2736 = .ok (.ireturn, 1) := dk_172 (dk_at dksL_law_109 4 rfl rfl)
