/-! BogsignLaw -/
set_option maxRecDepth 100000
def RX0 : String := "BogsignLaw"
abbrev cX0_pass : ByteArray := method_3_code
def yX0_pass : MethodName := ⟨RX0, "pass", "(LBogsign;I[J)I"⟩
def dkwX0_pass_0 : List UInt8 := [44, 3, 42, 27, 182, 0, 7, 133, 80, 167, 0, 9, 78, 4, 172, 78, 5, 172, 3, 172]
abbrev dktX0_pass_0 : List UInt8 := dkwX0_pass_0 ++ []
theorem dksX0_pass_0 : cX0_pass.data.toList.drop 0 = dktX0_pass_0 := by decide +kernel
theorem dX0_pass_0 : decode cX0_pass 0 = .ok (.aload_n 2, 1) := dk_44 (dk_at dksX0_pass_0 0 rfl rfl)
theorem dX0_pass_1 : decode cX0_pass 1 = .ok (.iconst 0, 1) := dk_3 (dk_at dksX0_pass_0 1 rfl rfl)
theorem dX0_pass_2 : decode cX0_pass 2 = .ok (.aload_n 0, 1) := dk_42 (dk_at dksX0_pass_0 2 rfl rfl)
theorem dX0_pass_3 : decode cX0_pass 3 = .ok (.iload_n 1, 1) := dk_27 (dk_at dksX0_pass_0 3 rfl rfl)
theorem dX0_pass_4 : decode cX0_pass 4 = .ok (.invokevirtual 7, 3) := dk_182 0 7 (dk_at dksX0_pass_0 4 rfl rfl)
theorem dX0_pass_7 : decode cX0_pass 7 = .ok (.i2l, 1) := dk_133 (dk_at dksX0_pass_0 7 rfl rfl)
theorem dX0_pass_8 : decode cX0_pass 8 = .ok (.lastore, 1) := dk_80 (dk_at dksX0_pass_0 8 rfl rfl)
theorem dX0_pass_9 : decode cX0_pass 9 = .ok (.goto 9, 3) := dk_167 0 9 (dk_at dksX0_pass_0 9 rfl rfl)
theorem dX0_pass_12 : decode cX0_pass 12 = .ok (.astore_n 3, 1) := dk_78 (dk_at dksX0_pass_0 12 rfl rfl)
theorem dX0_pass_13 : decode cX0_pass 13 = .ok (.iconst 1, 1) := dk_4 (dk_at dksX0_pass_0 13 rfl rfl)
theorem dX0_pass_14 : decode cX0_pass 14 = .ok (.ireturn, 1) := dk_172 (dk_at dksX0_pass_0 14 rfl rfl)
theorem dX0_pass_15 : decode cX0_pass 15 = .ok (.astore_n 3, 1) := dk_78 (dk_at dksX0_pass_0 15 rfl rfl)
theorem dX0_pass_16 : decode cX0_pass 16 = .ok (.iconst 2, 1) := dk_5 (dk_at dksX0_pass_0 16 rfl rfl)
theorem dX0_pass_17 : decode cX0_pass 17 = .ok (.ireturn, 1) := dk_172 (dk_at dksX0_pass_0 17 rfl rfl)
theorem dX0_pass_18 : decode cX0_pass 18 = .ok (.iconst 0, 1) := dk_3 (dk_at dksX0_pass_0 18 rfl rfl)
theorem dX0_pass_19 : decode cX0_pass 19 = .ok (.ireturn, 1) := dk_172 (dk_at dksX0_pass_0 19 rfl rfl)
abbrev cX0_setSoftness : ByteArray := method_4_code
def yX0_setSoftness : MethodName := ⟨RX0, "setSoftness", "(LBogsign;II[J)I"⟩
def dkwX0_setSoftness_0 : List UInt8 := [45, 3, 42, 27, 28, 182, 0, 17, 133, 80, 167, 0, 11, 58, 4, 4, 172, 58, 4, 5, 172, 3, 172]
abbrev dktX0_setSoftness_0 : List UInt8 := dkwX0_setSoftness_0 ++ []
theorem dksX0_setSoftness_0 : cX0_setSoftness.data.toList.drop 0 = dktX0_setSoftness_0 := by decide +kernel
theorem dX0_setSoftness_0 : decode cX0_setSoftness 0 = .ok (.aload_n 3, 1) := dk_45 (dk_at dksX0_setSoftness_0 0 rfl rfl)
theorem dX0_setSoftness_1 : decode cX0_setSoftness 1 = .ok (.iconst 0, 1) := dk_3 (dk_at dksX0_setSoftness_0 1 rfl rfl)
theorem dX0_setSoftness_2 : decode cX0_setSoftness 2 = .ok (.aload_n 0, 1) := dk_42 (dk_at dksX0_setSoftness_0 2 rfl rfl)
theorem dX0_setSoftness_3 : decode cX0_setSoftness 3 = .ok (.iload_n 1, 1) := dk_27 (dk_at dksX0_setSoftness_0 3 rfl rfl)
theorem dX0_setSoftness_4 : decode cX0_setSoftness 4 = .ok (.iload_n 2, 1) := dk_28 (dk_at dksX0_setSoftness_0 4 rfl rfl)
theorem dX0_setSoftness_5 : decode cX0_setSoftness 5 = .ok (.invokevirtual 17, 3) := dk_182 0 17 (dk_at dksX0_setSoftness_0 5 rfl rfl)
theorem dX0_setSoftness_8 : decode cX0_setSoftness 8 = .ok (.i2l, 1) := dk_133 (dk_at dksX0_setSoftness_0 8 rfl rfl)
theorem dX0_setSoftness_9 : decode cX0_setSoftness 9 = .ok (.lastore, 1) := dk_80 (dk_at dksX0_setSoftness_0 9 rfl rfl)
theorem dX0_setSoftness_10 : decode cX0_setSoftness 10 = .ok (.goto 11, 3) := dk_167 0 11 (dk_at dksX0_setSoftness_0 10 rfl rfl)
theorem dX0_setSoftness_13 : decode cX0_setSoftness 13 = .ok (.astore 4, 2) := dk_58 4 (dk_at dksX0_setSoftness_0 13 rfl rfl)
theorem dX0_setSoftness_15 : decode cX0_setSoftness 15 = .ok (.iconst 1, 1) := dk_4 (dk_at dksX0_setSoftness_0 15 rfl rfl)
theorem dX0_setSoftness_16 : decode cX0_setSoftness 16 = .ok (.ireturn, 1) := dk_172 (dk_at dksX0_setSoftness_0 16 rfl rfl)
theorem dX0_setSoftness_17 : decode cX0_setSoftness 17 = .ok (.astore 4, 2) := dk_58 4 (dk_at dksX0_setSoftness_0 17 rfl rfl)
theorem dX0_setSoftness_19 : decode cX0_setSoftness 19 = .ok (.iconst 2, 1) := dk_5 (dk_at dksX0_setSoftness_0 19 rfl rfl)
theorem dX0_setSoftness_20 : decode cX0_setSoftness 20 = .ok (.ireturn, 1) := dk_172 (dk_at dksX0_setSoftness_0 20 rfl rfl)
theorem dX0_setSoftness_21 : decode cX0_setSoftness 21 = .ok (.iconst 0, 1) := dk_3 (dk_at dksX0_setSoftness_0 21 rfl rfl)
theorem dX0_setSoftness_22 : decode cX0_setSoftness 22 = .ok (.ireturn, 1) := dk_172 (dk_at dksX0_setSoftness_0 22 rfl rfl)
abbrev cX0_setDays : ByteArray := method_5_code
def yX0_setDays : MethodName := ⟨RX0, "setDays", "(LBogsign;II[J)I"⟩
def dkwX0_setDays_0 : List UInt8 := [45, 3, 42, 27, 28, 182, 0, 23, 133, 80, 167, 0, 11, 58, 4, 4, 172, 58, 4, 5, 172, 3, 172]
abbrev dktX0_setDays_0 : List UInt8 := dkwX0_setDays_0 ++ []
theorem dksX0_setDays_0 : cX0_setDays.data.toList.drop 0 = dktX0_setDays_0 := by decide +kernel
theorem dX0_setDays_0 : decode cX0_setDays 0 = .ok (.aload_n 3, 1) := dk_45 (dk_at dksX0_setDays_0 0 rfl rfl)
theorem dX0_setDays_1 : decode cX0_setDays 1 = .ok (.iconst 0, 1) := dk_3 (dk_at dksX0_setDays_0 1 rfl rfl)
theorem dX0_setDays_2 : decode cX0_setDays 2 = .ok (.aload_n 0, 1) := dk_42 (dk_at dksX0_setDays_0 2 rfl rfl)
theorem dX0_setDays_3 : decode cX0_setDays 3 = .ok (.iload_n 1, 1) := dk_27 (dk_at dksX0_setDays_0 3 rfl rfl)
theorem dX0_setDays_4 : decode cX0_setDays 4 = .ok (.iload_n 2, 1) := dk_28 (dk_at dksX0_setDays_0 4 rfl rfl)
theorem dX0_setDays_5 : decode cX0_setDays 5 = .ok (.invokevirtual 23, 3) := dk_182 0 23 (dk_at dksX0_setDays_0 5 rfl rfl)
theorem dX0_setDays_8 : decode cX0_setDays 8 = .ok (.i2l, 1) := dk_133 (dk_at dksX0_setDays_0 8 rfl rfl)
theorem dX0_setDays_9 : decode cX0_setDays 9 = .ok (.lastore, 1) := dk_80 (dk_at dksX0_setDays_0 9 rfl rfl)
theorem dX0_setDays_10 : decode cX0_setDays 10 = .ok (.goto 11, 3) := dk_167 0 11 (dk_at dksX0_setDays_0 10 rfl rfl)
theorem dX0_setDays_13 : decode cX0_setDays 13 = .ok (.astore 4, 2) := dk_58 4 (dk_at dksX0_setDays_0 13 rfl rfl)
theorem dX0_setDays_15 : decode cX0_setDays 15 = .ok (.iconst 1, 1) := dk_4 (dk_at dksX0_setDays_0 15 rfl rfl)
theorem dX0_setDays_16 : decode cX0_setDays 16 = .ok (.ireturn, 1) := dk_172 (dk_at dksX0_setDays_0 16 rfl rfl)
theorem dX0_setDays_17 : decode cX0_setDays 17 = .ok (.astore 4, 2) := dk_58 4 (dk_at dksX0_setDays_0 17 rfl rfl)
theorem dX0_setDays_19 : decode cX0_setDays 19 = .ok (.iconst 2, 1) := dk_5 (dk_at dksX0_setDays_0 19 rfl rfl)
theorem dX0_setDays_20 : decode cX0_setDays 20 = .ok (.ireturn, 1) := dk_172 (dk_at dksX0_setDays_0 20 rfl rfl)
theorem dX0_setDays_21 : decode cX0_setDays 21 = .ok (.iconst 0, 1) := dk_3 (dk_at dksX0_setDays_0 21 rfl rfl)
theorem dX0_setDays_22 : decode cX0_setDays 22 = .ok (.ireturn, 1) := dk_172 (dk_at dksX0_setDays_0 22 rfl rfl)
abbrev cX0_setLimit : ByteArray := method_6_code
def yX0_setLimit : MethodName := ⟨RX0, "setLimit", "(LBogsign;I[J)I"⟩
def dkwX0_setLimit_0 : List UInt8 := [44, 3, 42, 27, 182, 0, 26, 133, 80, 167, 0, 6, 78, 4, 172, 3, 172]
abbrev dktX0_setLimit_0 : List UInt8 := dkwX0_setLimit_0 ++ []
theorem dksX0_setLimit_0 : cX0_setLimit.data.toList.drop 0 = dktX0_setLimit_0 := by decide +kernel
theorem dX0_setLimit_0 : decode cX0_setLimit 0 = .ok (.aload_n 2, 1) := dk_44 (dk_at dksX0_setLimit_0 0 rfl rfl)
theorem dX0_setLimit_1 : decode cX0_setLimit 1 = .ok (.iconst 0, 1) := dk_3 (dk_at dksX0_setLimit_0 1 rfl rfl)
theorem dX0_setLimit_2 : decode cX0_setLimit 2 = .ok (.aload_n 0, 1) := dk_42 (dk_at dksX0_setLimit_0 2 rfl rfl)
theorem dX0_setLimit_3 : decode cX0_setLimit 3 = .ok (.iload_n 1, 1) := dk_27 (dk_at dksX0_setLimit_0 3 rfl rfl)
theorem dX0_setLimit_4 : decode cX0_setLimit 4 = .ok (.invokevirtual 26, 3) := dk_182 0 26 (dk_at dksX0_setLimit_0 4 rfl rfl)
theorem dX0_setLimit_7 : decode cX0_setLimit 7 = .ok (.i2l, 1) := dk_133 (dk_at dksX0_setLimit_0 7 rfl rfl)
theorem dX0_setLimit_8 : decode cX0_setLimit 8 = .ok (.lastore, 1) := dk_80 (dk_at dksX0_setLimit_0 8 rfl rfl)
theorem dX0_setLimit_9 : decode cX0_setLimit 9 = .ok (.goto 6, 3) := dk_167 0 6 (dk_at dksX0_setLimit_0 9 rfl rfl)
theorem dX0_setLimit_12 : decode cX0_setLimit 12 = .ok (.astore_n 3, 1) := dk_78 (dk_at dksX0_setLimit_0 12 rfl rfl)
theorem dX0_setLimit_13 : decode cX0_setLimit 13 = .ok (.iconst 1, 1) := dk_4 (dk_at dksX0_setLimit_0 13 rfl rfl)
theorem dX0_setLimit_14 : decode cX0_setLimit 14 = .ok (.ireturn, 1) := dk_172 (dk_at dksX0_setLimit_0 14 rfl rfl)
theorem dX0_setLimit_15 : decode cX0_setLimit 15 = .ok (.iconst 0, 1) := dk_3 (dk_at dksX0_setLimit_0 15 rfl rfl)
theorem dX0_setLimit_16 : decode cX0_setLimit 16 = .ok (.ireturn, 1) := dk_172 (dk_at dksX0_setLimit_0 16 rfl rfl)
abbrev cX0_cut : ByteArray := method_7_code
def yX0_cut : MethodName := ⟨RX0, "cut", "(LBogsign;I[J)I"⟩
def dkwX0_cut_0 : List UInt8 := [44, 3, 42, 27, 182, 0, 29, 133, 80, 167, 0, 9, 78, 4, 172, 78, 5, 172, 3, 172]
abbrev dktX0_cut_0 : List UInt8 := dkwX0_cut_0 ++ []
theorem dksX0_cut_0 : cX0_cut.data.toList.drop 0 = dktX0_cut_0 := by decide +kernel
theorem dX0_cut_0 : decode cX0_cut 0 = .ok (.aload_n 2, 1) := dk_44 (dk_at dksX0_cut_0 0 rfl rfl)
theorem dX0_cut_1 : decode cX0_cut 1 = .ok (.iconst 0, 1) := dk_3 (dk_at dksX0_cut_0 1 rfl rfl)
theorem dX0_cut_2 : decode cX0_cut 2 = .ok (.aload_n 0, 1) := dk_42 (dk_at dksX0_cut_0 2 rfl rfl)
theorem dX0_cut_3 : decode cX0_cut 3 = .ok (.iload_n 1, 1) := dk_27 (dk_at dksX0_cut_0 3 rfl rfl)
theorem dX0_cut_4 : decode cX0_cut 4 = .ok (.invokevirtual 29, 3) := dk_182 0 29 (dk_at dksX0_cut_0 4 rfl rfl)
theorem dX0_cut_7 : decode cX0_cut 7 = .ok (.i2l, 1) := dk_133 (dk_at dksX0_cut_0 7 rfl rfl)
theorem dX0_cut_8 : decode cX0_cut 8 = .ok (.lastore, 1) := dk_80 (dk_at dksX0_cut_0 8 rfl rfl)
theorem dX0_cut_9 : decode cX0_cut 9 = .ok (.goto 9, 3) := dk_167 0 9 (dk_at dksX0_cut_0 9 rfl rfl)
theorem dX0_cut_12 : decode cX0_cut 12 = .ok (.astore_n 3, 1) := dk_78 (dk_at dksX0_cut_0 12 rfl rfl)
theorem dX0_cut_13 : decode cX0_cut 13 = .ok (.iconst 1, 1) := dk_4 (dk_at dksX0_cut_0 13 rfl rfl)
theorem dX0_cut_14 : decode cX0_cut 14 = .ok (.ireturn, 1) := dk_172 (dk_at dksX0_cut_0 14 rfl rfl)
theorem dX0_cut_15 : decode cX0_cut 15 = .ok (.astore_n 3, 1) := dk_78 (dk_at dksX0_cut_0 15 rfl rfl)
theorem dX0_cut_16 : decode cX0_cut 16 = .ok (.iconst 2, 1) := dk_5 (dk_at dksX0_cut_0 16 rfl rfl)
theorem dX0_cut_17 : decode cX0_cut 17 = .ok (.ireturn, 1) := dk_172 (dk_at dksX0_cut_0 17 rfl rfl)
theorem dX0_cut_18 : decode cX0_cut 18 = .ok (.iconst 0, 1) := dk_3 (dk_at dksX0_cut_0 18 rfl rfl)
theorem dX0_cut_19 : decode cX0_cut 19 = .ok (.ireturn, 1) := dk_172 (dk_at dksX0_cut_0 19 rfl rfl)
abbrev cX0_lay : ByteArray := method_8_code
def yX0_lay : MethodName := ⟨RX0, "lay", "(LBogsign;II[J)I"⟩
def dkwX0_lay_1 : List UInt8 := [172, 3, 172]
abbrev dktX0_lay_1 : List UInt8 := dkwX0_lay_1 ++ []
def dkwX0_lay_0 : List UInt8 := [45, 3, 42, 27, 28, 182, 0, 32, 133, 80, 167, 0, 15, 58, 4, 4, 172, 58, 4, 5, 172, 58, 4, 6]
abbrev dktX0_lay_0 : List UInt8 := dkwX0_lay_0 ++ dktX0_lay_1
theorem dksX0_lay_0 : cX0_lay.data.toList.drop 0 = dktX0_lay_0 := by decide +kernel
theorem dksX0_lay_1 : cX0_lay.data.toList.drop 24 = dktX0_lay_1 := dk_seg dksX0_lay_0 24 rfl rfl
theorem dX0_lay_0 : decode cX0_lay 0 = .ok (.aload_n 3, 1) := dk_45 (dk_at dksX0_lay_0 0 rfl rfl)
theorem dX0_lay_1 : decode cX0_lay 1 = .ok (.iconst 0, 1) := dk_3 (dk_at dksX0_lay_0 1 rfl rfl)
theorem dX0_lay_2 : decode cX0_lay 2 = .ok (.aload_n 0, 1) := dk_42 (dk_at dksX0_lay_0 2 rfl rfl)
theorem dX0_lay_3 : decode cX0_lay 3 = .ok (.iload_n 1, 1) := dk_27 (dk_at dksX0_lay_0 3 rfl rfl)
theorem dX0_lay_4 : decode cX0_lay 4 = .ok (.iload_n 2, 1) := dk_28 (dk_at dksX0_lay_0 4 rfl rfl)
theorem dX0_lay_5 : decode cX0_lay 5 = .ok (.invokevirtual 32, 3) := dk_182 0 32 (dk_at dksX0_lay_0 5 rfl rfl)
theorem dX0_lay_8 : decode cX0_lay 8 = .ok (.i2l, 1) := dk_133 (dk_at dksX0_lay_0 8 rfl rfl)
theorem dX0_lay_9 : decode cX0_lay 9 = .ok (.lastore, 1) := dk_80 (dk_at dksX0_lay_0 9 rfl rfl)
theorem dX0_lay_10 : decode cX0_lay 10 = .ok (.goto 15, 3) := dk_167 0 15 (dk_at dksX0_lay_0 10 rfl rfl)
theorem dX0_lay_13 : decode cX0_lay 13 = .ok (.astore 4, 2) := dk_58 4 (dk_at dksX0_lay_0 13 rfl rfl)
theorem dX0_lay_15 : decode cX0_lay 15 = .ok (.iconst 1, 1) := dk_4 (dk_at dksX0_lay_0 15 rfl rfl)
theorem dX0_lay_16 : decode cX0_lay 16 = .ok (.ireturn, 1) := dk_172 (dk_at dksX0_lay_0 16 rfl rfl)
theorem dX0_lay_17 : decode cX0_lay 17 = .ok (.astore 4, 2) := dk_58 4 (dk_at dksX0_lay_0 17 rfl rfl)
theorem dX0_lay_19 : decode cX0_lay 19 = .ok (.iconst 2, 1) := dk_5 (dk_at dksX0_lay_0 19 rfl rfl)
theorem dX0_lay_20 : decode cX0_lay 20 = .ok (.ireturn, 1) := dk_172 (dk_at dksX0_lay_0 20 rfl rfl)
theorem dX0_lay_21 : decode cX0_lay 21 = .ok (.astore 4, 2) := dk_58 4 (dk_at dksX0_lay_0 21 rfl rfl)
theorem dX0_lay_23 : decode cX0_lay 23 = .ok (.iconst 3, 1) := dk_6 (dk_at dksX0_lay_0 23 rfl rfl)
theorem dX0_lay_24 : decode cX0_lay 24 = .ok (.ireturn, 1) := dk_172 (dk_at dksX0_lay_1 0 rfl rfl)
theorem dX0_lay_25 : decode cX0_lay 25 = .ok (.iconst 0, 1) := dk_3 (dk_at dksX0_lay_1 1 rfl rfl)
theorem dX0_lay_26 : decode cX0_lay 26 = .ok (.ireturn, 1) := dk_172 (dk_at dksX0_lay_1 2 rfl rfl)
abbrev cX0_stock : ByteArray := method_9_code
def yX0_stock : MethodName := ⟨RX0, "stock", "(LBogsign;I[J)I"⟩
def dkwX0_stock_0 : List UInt8 := [44, 3, 42, 27, 182, 0, 35, 133, 80, 167, 0, 6, 78, 4, 172, 3, 172]
abbrev dktX0_stock_0 : List UInt8 := dkwX0_stock_0 ++ []
theorem dksX0_stock_0 : cX0_stock.data.toList.drop 0 = dktX0_stock_0 := by decide +kernel
theorem dX0_stock_0 : decode cX0_stock 0 = .ok (.aload_n 2, 1) := dk_44 (dk_at dksX0_stock_0 0 rfl rfl)
theorem dX0_stock_1 : decode cX0_stock 1 = .ok (.iconst 0, 1) := dk_3 (dk_at dksX0_stock_0 1 rfl rfl)
theorem dX0_stock_2 : decode cX0_stock 2 = .ok (.aload_n 0, 1) := dk_42 (dk_at dksX0_stock_0 2 rfl rfl)
theorem dX0_stock_3 : decode cX0_stock 3 = .ok (.iload_n 1, 1) := dk_27 (dk_at dksX0_stock_0 3 rfl rfl)
theorem dX0_stock_4 : decode cX0_stock 4 = .ok (.invokevirtual 35, 3) := dk_182 0 35 (dk_at dksX0_stock_0 4 rfl rfl)
theorem dX0_stock_7 : decode cX0_stock 7 = .ok (.i2l, 1) := dk_133 (dk_at dksX0_stock_0 7 rfl rfl)
theorem dX0_stock_8 : decode cX0_stock 8 = .ok (.lastore, 1) := dk_80 (dk_at dksX0_stock_0 8 rfl rfl)
theorem dX0_stock_9 : decode cX0_stock 9 = .ok (.goto 6, 3) := dk_167 0 6 (dk_at dksX0_stock_0 9 rfl rfl)
theorem dX0_stock_12 : decode cX0_stock 12 = .ok (.astore_n 3, 1) := dk_78 (dk_at dksX0_stock_0 12 rfl rfl)
theorem dX0_stock_13 : decode cX0_stock 13 = .ok (.iconst 1, 1) := dk_4 (dk_at dksX0_stock_0 13 rfl rfl)
theorem dX0_stock_14 : decode cX0_stock 14 = .ok (.ireturn, 1) := dk_172 (dk_at dksX0_stock_0 14 rfl rfl)
theorem dX0_stock_15 : decode cX0_stock 15 = .ok (.iconst 0, 1) := dk_3 (dk_at dksX0_stock_0 15 rfl rfl)
theorem dX0_stock_16 : decode cX0_stock 16 = .ok (.ireturn, 1) := dk_172 (dk_at dksX0_stock_0 16 rfl rfl)
abbrev cX0_board : ByteArray := method_10_code
def yX0_board : MethodName := ⟨RX0, "board", "(LBogsign;II[J)I"⟩
def dkwX0_board_0 : List UInt8 := [45, 3, 42, 27, 28, 182, 0, 38, 133, 80, 167, 0, 11, 58, 4, 4, 172, 58, 4, 5, 172, 3, 172]
abbrev dktX0_board_0 : List UInt8 := dkwX0_board_0 ++ []
theorem dksX0_board_0 : cX0_board.data.toList.drop 0 = dktX0_board_0 := by decide +kernel
theorem dX0_board_0 : decode cX0_board 0 = .ok (.aload_n 3, 1) := dk_45 (dk_at dksX0_board_0 0 rfl rfl)
theorem dX0_board_1 : decode cX0_board 1 = .ok (.iconst 0, 1) := dk_3 (dk_at dksX0_board_0 1 rfl rfl)
theorem dX0_board_2 : decode cX0_board 2 = .ok (.aload_n 0, 1) := dk_42 (dk_at dksX0_board_0 2 rfl rfl)
theorem dX0_board_3 : decode cX0_board 3 = .ok (.iload_n 1, 1) := dk_27 (dk_at dksX0_board_0 3 rfl rfl)
theorem dX0_board_4 : decode cX0_board 4 = .ok (.iload_n 2, 1) := dk_28 (dk_at dksX0_board_0 4 rfl rfl)
theorem dX0_board_5 : decode cX0_board 5 = .ok (.invokevirtual 38, 3) := dk_182 0 38 (dk_at dksX0_board_0 5 rfl rfl)
theorem dX0_board_8 : decode cX0_board 8 = .ok (.i2l, 1) := dk_133 (dk_at dksX0_board_0 8 rfl rfl)
theorem dX0_board_9 : decode cX0_board 9 = .ok (.lastore, 1) := dk_80 (dk_at dksX0_board_0 9 rfl rfl)
theorem dX0_board_10 : decode cX0_board 10 = .ok (.goto 11, 3) := dk_167 0 11 (dk_at dksX0_board_0 10 rfl rfl)
theorem dX0_board_13 : decode cX0_board 13 = .ok (.astore 4, 2) := dk_58 4 (dk_at dksX0_board_0 13 rfl rfl)
theorem dX0_board_15 : decode cX0_board 15 = .ok (.iconst 1, 1) := dk_4 (dk_at dksX0_board_0 15 rfl rfl)
theorem dX0_board_16 : decode cX0_board 16 = .ok (.ireturn, 1) := dk_172 (dk_at dksX0_board_0 16 rfl rfl)
theorem dX0_board_17 : decode cX0_board 17 = .ok (.astore 4, 2) := dk_58 4 (dk_at dksX0_board_0 17 rfl rfl)
theorem dX0_board_19 : decode cX0_board 19 = .ok (.iconst 2, 1) := dk_5 (dk_at dksX0_board_0 19 rfl rfl)
theorem dX0_board_20 : decode cX0_board 20 = .ok (.ireturn, 1) := dk_172 (dk_at dksX0_board_0 20 rfl rfl)
theorem dX0_board_21 : decode cX0_board 21 = .ok (.iconst 0, 1) := dk_3 (dk_at dksX0_board_0 21 rfl rfl)
theorem dX0_board_22 : decode cX0_board 22 = .ok (.ireturn, 1) := dk_172 (dk_at dksX0_board_0 22 rfl rfl)
abbrev cX0_owed : ByteArray := method_11_code
def yX0_owed : MethodName := ⟨RX0, "owed", "(LBogsign;I[J)I"⟩
def dkwX0_owed_0 : List UInt8 := [44, 3, 42, 27, 182, 0, 41, 133, 80, 167, 0, 6, 78, 4, 172, 3, 172]
abbrev dktX0_owed_0 : List UInt8 := dkwX0_owed_0 ++ []
theorem dksX0_owed_0 : cX0_owed.data.toList.drop 0 = dktX0_owed_0 := by decide +kernel
theorem dX0_owed_0 : decode cX0_owed 0 = .ok (.aload_n 2, 1) := dk_44 (dk_at dksX0_owed_0 0 rfl rfl)
theorem dX0_owed_1 : decode cX0_owed 1 = .ok (.iconst 0, 1) := dk_3 (dk_at dksX0_owed_0 1 rfl rfl)
theorem dX0_owed_2 : decode cX0_owed 2 = .ok (.aload_n 0, 1) := dk_42 (dk_at dksX0_owed_0 2 rfl rfl)
theorem dX0_owed_3 : decode cX0_owed 3 = .ok (.iload_n 1, 1) := dk_27 (dk_at dksX0_owed_0 3 rfl rfl)
theorem dX0_owed_4 : decode cX0_owed 4 = .ok (.invokevirtual 41, 3) := dk_182 0 41 (dk_at dksX0_owed_0 4 rfl rfl)
theorem dX0_owed_7 : decode cX0_owed 7 = .ok (.i2l, 1) := dk_133 (dk_at dksX0_owed_0 7 rfl rfl)
theorem dX0_owed_8 : decode cX0_owed 8 = .ok (.lastore, 1) := dk_80 (dk_at dksX0_owed_0 8 rfl rfl)
theorem dX0_owed_9 : decode cX0_owed 9 = .ok (.goto 6, 3) := dk_167 0 6 (dk_at dksX0_owed_0 9 rfl rfl)
theorem dX0_owed_12 : decode cX0_owed 12 = .ok (.astore_n 3, 1) := dk_78 (dk_at dksX0_owed_0 12 rfl rfl)
theorem dX0_owed_13 : decode cX0_owed 13 = .ok (.iconst 1, 1) := dk_4 (dk_at dksX0_owed_0 13 rfl rfl)
theorem dX0_owed_14 : decode cX0_owed 14 = .ok (.ireturn, 1) := dk_172 (dk_at dksX0_owed_0 14 rfl rfl)
theorem dX0_owed_15 : decode cX0_owed 15 = .ok (.iconst 0, 1) := dk_3 (dk_at dksX0_owed_0 15 rfl rfl)
theorem dX0_owed_16 : decode cX0_owed 16 = .ok (.ireturn, 1) := dk_172 (dk_at dksX0_owed_0 16 rfl rfl)
abbrev cX0_send : ByteArray := method_12_code
def yX0_send : MethodName := ⟨RX0, "send", "(LBogsign;III[J)I"⟩
def dkwX0_send_1 : List UInt8 := [58, 5, 6, 172, 3, 172]
abbrev dktX0_send_1 : List UInt8 := dkwX0_send_1 ++ []
def dkwX0_send_0 : List UInt8 := [25, 4, 3, 42, 27, 28, 29, 182, 0, 46, 133, 80, 167, 0, 15, 58, 5, 4, 172, 58, 5, 5, 172]
abbrev dktX0_send_0 : List UInt8 := dkwX0_send_0 ++ dktX0_send_1
theorem dksX0_send_0 : cX0_send.data.toList.drop 0 = dktX0_send_0 := by decide +kernel
theorem dksX0_send_1 : cX0_send.data.toList.drop 23 = dktX0_send_1 := dk_seg dksX0_send_0 23 rfl rfl
theorem dX0_send_0 : decode cX0_send 0 = .ok (.aload 4, 2) := dk_25 4 (dk_at dksX0_send_0 0 rfl rfl)
theorem dX0_send_2 : decode cX0_send 2 = .ok (.iconst 0, 1) := dk_3 (dk_at dksX0_send_0 2 rfl rfl)
theorem dX0_send_3 : decode cX0_send 3 = .ok (.aload_n 0, 1) := dk_42 (dk_at dksX0_send_0 3 rfl rfl)
theorem dX0_send_4 : decode cX0_send 4 = .ok (.iload_n 1, 1) := dk_27 (dk_at dksX0_send_0 4 rfl rfl)
theorem dX0_send_5 : decode cX0_send 5 = .ok (.iload_n 2, 1) := dk_28 (dk_at dksX0_send_0 5 rfl rfl)
theorem dX0_send_6 : decode cX0_send 6 = .ok (.iload_n 3, 1) := dk_29 (dk_at dksX0_send_0 6 rfl rfl)
theorem dX0_send_7 : decode cX0_send 7 = .ok (.invokevirtual 46, 3) := dk_182 0 46 (dk_at dksX0_send_0 7 rfl rfl)
theorem dX0_send_10 : decode cX0_send 10 = .ok (.i2l, 1) := dk_133 (dk_at dksX0_send_0 10 rfl rfl)
theorem dX0_send_11 : decode cX0_send 11 = .ok (.lastore, 1) := dk_80 (dk_at dksX0_send_0 11 rfl rfl)
theorem dX0_send_12 : decode cX0_send 12 = .ok (.goto 15, 3) := dk_167 0 15 (dk_at dksX0_send_0 12 rfl rfl)
theorem dX0_send_15 : decode cX0_send 15 = .ok (.astore 5, 2) := dk_58 5 (dk_at dksX0_send_0 15 rfl rfl)
theorem dX0_send_17 : decode cX0_send 17 = .ok (.iconst 1, 1) := dk_4 (dk_at dksX0_send_0 17 rfl rfl)
theorem dX0_send_18 : decode cX0_send 18 = .ok (.ireturn, 1) := dk_172 (dk_at dksX0_send_0 18 rfl rfl)
theorem dX0_send_19 : decode cX0_send 19 = .ok (.astore 5, 2) := dk_58 5 (dk_at dksX0_send_0 19 rfl rfl)
theorem dX0_send_21 : decode cX0_send 21 = .ok (.iconst 2, 1) := dk_5 (dk_at dksX0_send_0 21 rfl rfl)
theorem dX0_send_22 : decode cX0_send 22 = .ok (.ireturn, 1) := dk_172 (dk_at dksX0_send_0 22 rfl rfl)
theorem dX0_send_23 : decode cX0_send 23 = .ok (.astore 5, 2) := dk_58 5 (dk_at dksX0_send_1 0 rfl rfl)
theorem dX0_send_25 : decode cX0_send 25 = .ok (.iconst 3, 1) := dk_6 (dk_at dksX0_send_1 2 rfl rfl)
theorem dX0_send_26 : decode cX0_send 26 = .ok (.ireturn, 1) := dk_172 (dk_at dksX0_send_1 3 rfl rfl)
theorem dX0_send_27 : decode cX0_send 27 = .ok (.iconst 0, 1) := dk_3 (dk_at dksX0_send_1 4 rfl rfl)
theorem dX0_send_28 : decode cX0_send 28 = .ok (.ireturn, 1) := dk_172 (dk_at dksX0_send_1 5 rfl rfl)
abbrev cX0_message : ByteArray := method_13_code
def yX0_message : MethodName := ⟨RX0, "message", "(LBogsign;II[J)I"⟩
def dkwX0_message_0 : List UInt8 := [45, 3, 42, 27, 28, 182, 0, 50, 133, 80, 167, 0, 11, 58, 4, 4, 172, 58, 4, 5, 172, 3, 172]
abbrev dktX0_message_0 : List UInt8 := dkwX0_message_0 ++ []
theorem dksX0_message_0 : cX0_message.data.toList.drop 0 = dktX0_message_0 := by decide +kernel
theorem dX0_message_0 : decode cX0_message 0 = .ok (.aload_n 3, 1) := dk_45 (dk_at dksX0_message_0 0 rfl rfl)
theorem dX0_message_1 : decode cX0_message 1 = .ok (.iconst 0, 1) := dk_3 (dk_at dksX0_message_0 1 rfl rfl)
theorem dX0_message_2 : decode cX0_message 2 = .ok (.aload_n 0, 1) := dk_42 (dk_at dksX0_message_0 2 rfl rfl)
theorem dX0_message_3 : decode cX0_message 3 = .ok (.iload_n 1, 1) := dk_27 (dk_at dksX0_message_0 3 rfl rfl)
theorem dX0_message_4 : decode cX0_message 4 = .ok (.iload_n 2, 1) := dk_28 (dk_at dksX0_message_0 4 rfl rfl)
theorem dX0_message_5 : decode cX0_message 5 = .ok (.invokevirtual 50, 3) := dk_182 0 50 (dk_at dksX0_message_0 5 rfl rfl)
theorem dX0_message_8 : decode cX0_message 8 = .ok (.i2l, 1) := dk_133 (dk_at dksX0_message_0 8 rfl rfl)
theorem dX0_message_9 : decode cX0_message 9 = .ok (.lastore, 1) := dk_80 (dk_at dksX0_message_0 9 rfl rfl)
theorem dX0_message_10 : decode cX0_message 10 = .ok (.goto 11, 3) := dk_167 0 11 (dk_at dksX0_message_0 10 rfl rfl)
theorem dX0_message_13 : decode cX0_message 13 = .ok (.astore 4, 2) := dk_58 4 (dk_at dksX0_message_0 13 rfl rfl)
theorem dX0_message_15 : decode cX0_message 15 = .ok (.iconst 1, 1) := dk_4 (dk_at dksX0_message_0 15 rfl rfl)
theorem dX0_message_16 : decode cX0_message 16 = .ok (.ireturn, 1) := dk_172 (dk_at dksX0_message_0 16 rfl rfl)
theorem dX0_message_17 : decode cX0_message 17 = .ok (.astore 4, 2) := dk_58 4 (dk_at dksX0_message_0 17 rfl rfl)
theorem dX0_message_19 : decode cX0_message 19 = .ok (.iconst 2, 1) := dk_5 (dk_at dksX0_message_0 19 rfl rfl)
theorem dX0_message_20 : decode cX0_message 20 = .ok (.ireturn, 1) := dk_172 (dk_at dksX0_message_0 20 rfl rfl)
theorem dX0_message_21 : decode cX0_message 21 = .ok (.iconst 0, 1) := dk_3 (dk_at dksX0_message_0 21 rfl rfl)
theorem dX0_message_22 : decode cX0_message 22 = .ok (.ireturn, 1) := dk_172 (dk_at dksX0_message_0 22 rfl rfl)
abbrev cX0_sign : ByteArray := method_14_code
def yX0_sign : MethodName := ⟨RX0, "sign", "(LBogsign;II[J)I"⟩
def dkwX0_sign_0 : List UInt8 := [45, 3, 42, 27, 28, 182, 0, 53, 133, 80, 167, 0, 7, 58, 4, 4, 172, 3, 172]
abbrev dktX0_sign_0 : List UInt8 := dkwX0_sign_0 ++ []
theorem dksX0_sign_0 : cX0_sign.data.toList.drop 0 = dktX0_sign_0 := by decide +kernel
theorem dX0_sign_0 : decode cX0_sign 0 = .ok (.aload_n 3, 1) := dk_45 (dk_at dksX0_sign_0 0 rfl rfl)
theorem dX0_sign_1 : decode cX0_sign 1 = .ok (.iconst 0, 1) := dk_3 (dk_at dksX0_sign_0 1 rfl rfl)
theorem dX0_sign_2 : decode cX0_sign 2 = .ok (.aload_n 0, 1) := dk_42 (dk_at dksX0_sign_0 2 rfl rfl)
theorem dX0_sign_3 : decode cX0_sign 3 = .ok (.iload_n 1, 1) := dk_27 (dk_at dksX0_sign_0 3 rfl rfl)
theorem dX0_sign_4 : decode cX0_sign 4 = .ok (.iload_n 2, 1) := dk_28 (dk_at dksX0_sign_0 4 rfl rfl)
theorem dX0_sign_5 : decode cX0_sign 5 = .ok (.invokevirtual 53, 3) := dk_182 0 53 (dk_at dksX0_sign_0 5 rfl rfl)
theorem dX0_sign_8 : decode cX0_sign 8 = .ok (.i2l, 1) := dk_133 (dk_at dksX0_sign_0 8 rfl rfl)
theorem dX0_sign_9 : decode cX0_sign 9 = .ok (.lastore, 1) := dk_80 (dk_at dksX0_sign_0 9 rfl rfl)
theorem dX0_sign_10 : decode cX0_sign 10 = .ok (.goto 7, 3) := dk_167 0 7 (dk_at dksX0_sign_0 10 rfl rfl)
theorem dX0_sign_13 : decode cX0_sign 13 = .ok (.astore 4, 2) := dk_58 4 (dk_at dksX0_sign_0 13 rfl rfl)
theorem dX0_sign_15 : decode cX0_sign 15 = .ok (.iconst 1, 1) := dk_4 (dk_at dksX0_sign_0 15 rfl rfl)
theorem dX0_sign_16 : decode cX0_sign 16 = .ok (.ireturn, 1) := dk_172 (dk_at dksX0_sign_0 16 rfl rfl)
theorem dX0_sign_17 : decode cX0_sign 17 = .ok (.iconst 0, 1) := dk_3 (dk_at dksX0_sign_0 17 rfl rfl)
theorem dX0_sign_18 : decode cX0_sign 18 = .ok (.ireturn, 1) := dk_172 (dk_at dksX0_sign_0 18 rfl rfl)
abbrev cX0_meaning : ByteArray := method_15_code
def yX0_meaning : MethodName := ⟨RX0, "meaning", "(LBogsign;II[J)I"⟩
def dkwX0_meaning_0 : List UInt8 := [45, 3, 42, 27, 28, 182, 0, 56, 133, 80, 167, 0, 11, 58, 4, 4, 172, 58, 4, 5, 172, 3, 172]
abbrev dktX0_meaning_0 : List UInt8 := dkwX0_meaning_0 ++ []
theorem dksX0_meaning_0 : cX0_meaning.data.toList.drop 0 = dktX0_meaning_0 := by decide +kernel
theorem dX0_meaning_0 : decode cX0_meaning 0 = .ok (.aload_n 3, 1) := dk_45 (dk_at dksX0_meaning_0 0 rfl rfl)
theorem dX0_meaning_1 : decode cX0_meaning 1 = .ok (.iconst 0, 1) := dk_3 (dk_at dksX0_meaning_0 1 rfl rfl)
theorem dX0_meaning_2 : decode cX0_meaning 2 = .ok (.aload_n 0, 1) := dk_42 (dk_at dksX0_meaning_0 2 rfl rfl)
theorem dX0_meaning_3 : decode cX0_meaning 3 = .ok (.iload_n 1, 1) := dk_27 (dk_at dksX0_meaning_0 3 rfl rfl)
theorem dX0_meaning_4 : decode cX0_meaning 4 = .ok (.iload_n 2, 1) := dk_28 (dk_at dksX0_meaning_0 4 rfl rfl)
theorem dX0_meaning_5 : decode cX0_meaning 5 = .ok (.invokevirtual 56, 3) := dk_182 0 56 (dk_at dksX0_meaning_0 5 rfl rfl)
theorem dX0_meaning_8 : decode cX0_meaning 8 = .ok (.i2l, 1) := dk_133 (dk_at dksX0_meaning_0 8 rfl rfl)
theorem dX0_meaning_9 : decode cX0_meaning 9 = .ok (.lastore, 1) := dk_80 (dk_at dksX0_meaning_0 9 rfl rfl)
theorem dX0_meaning_10 : decode cX0_meaning 10 = .ok (.goto 11, 3) := dk_167 0 11 (dk_at dksX0_meaning_0 10 rfl rfl)
theorem dX0_meaning_13 : decode cX0_meaning 13 = .ok (.astore 4, 2) := dk_58 4 (dk_at dksX0_meaning_0 13 rfl rfl)
theorem dX0_meaning_15 : decode cX0_meaning 15 = .ok (.iconst 1, 1) := dk_4 (dk_at dksX0_meaning_0 15 rfl rfl)
theorem dX0_meaning_16 : decode cX0_meaning 16 = .ok (.ireturn, 1) := dk_172 (dk_at dksX0_meaning_0 16 rfl rfl)
theorem dX0_meaning_17 : decode cX0_meaning 17 = .ok (.astore 4, 2) := dk_58 4 (dk_at dksX0_meaning_0 17 rfl rfl)
theorem dX0_meaning_19 : decode cX0_meaning 19 = .ok (.iconst 2, 1) := dk_5 (dk_at dksX0_meaning_0 19 rfl rfl)
theorem dX0_meaning_20 : decode cX0_meaning 20 = .ok (.ireturn, 1) := dk_172 (dk_at dksX0_meaning_0 20 rfl rfl)
theorem dX0_meaning_21 : decode cX0_meaning 21 = .ok (.iconst 0, 1) := dk_3 (dk_at dksX0_meaning_0 21 rfl rfl)
theorem dX0_meaning_22 : decode cX0_meaning 22 = .ok (.ireturn, 1) := dk_172 (dk_at dksX0_meaning_0 22 rfl rfl)
abbrev cX0_inspect : ByteArray := method_16_code
def yX0_inspect : MethodName := ⟨RX0, "inspect", "(LBogsign;I[J)I"⟩
def dkwX0_inspect_0 : List UInt8 := [44, 3, 42, 27, 182, 0, 59, 133, 80, 167, 0, 6, 78, 4, 172, 3, 172]
abbrev dktX0_inspect_0 : List UInt8 := dkwX0_inspect_0 ++ []
theorem dksX0_inspect_0 : cX0_inspect.data.toList.drop 0 = dktX0_inspect_0 := by decide +kernel
theorem dX0_inspect_0 : decode cX0_inspect 0 = .ok (.aload_n 2, 1) := dk_44 (dk_at dksX0_inspect_0 0 rfl rfl)
theorem dX0_inspect_1 : decode cX0_inspect 1 = .ok (.iconst 0, 1) := dk_3 (dk_at dksX0_inspect_0 1 rfl rfl)
theorem dX0_inspect_2 : decode cX0_inspect 2 = .ok (.aload_n 0, 1) := dk_42 (dk_at dksX0_inspect_0 2 rfl rfl)
theorem dX0_inspect_3 : decode cX0_inspect 3 = .ok (.iload_n 1, 1) := dk_27 (dk_at dksX0_inspect_0 3 rfl rfl)
theorem dX0_inspect_4 : decode cX0_inspect 4 = .ok (.invokevirtual 59, 3) := dk_182 0 59 (dk_at dksX0_inspect_0 4 rfl rfl)
theorem dX0_inspect_7 : decode cX0_inspect 7 = .ok (.i2l, 1) := dk_133 (dk_at dksX0_inspect_0 7 rfl rfl)
theorem dX0_inspect_8 : decode cX0_inspect 8 = .ok (.lastore, 1) := dk_80 (dk_at dksX0_inspect_0 8 rfl rfl)
theorem dX0_inspect_9 : decode cX0_inspect 9 = .ok (.goto 6, 3) := dk_167 0 6 (dk_at dksX0_inspect_0 9 rfl rfl)
theorem dX0_inspect_12 : decode cX0_inspect 12 = .ok (.astore_n 3, 1) := dk_78 (dk_at dksX0_inspect_0 12 rfl rfl)
theorem dX0_inspect_13 : decode cX0_inspect 13 = .ok (.iconst 1, 1) := dk_4 (dk_at dksX0_inspect_0 13 rfl rfl)
theorem dX0_inspect_14 : decode cX0_inspect 14 = .ok (.ireturn, 1) := dk_172 (dk_at dksX0_inspect_0 14 rfl rfl)
theorem dX0_inspect_15 : decode cX0_inspect 15 = .ok (.iconst 0, 1) := dk_3 (dk_at dksX0_inspect_0 15 rfl rfl)
theorem dX0_inspect_16 : decode cX0_inspect 16 = .ok (.ireturn, 1) := dk_172 (dk_at dksX0_inspect_0 16 rfl rfl)
abbrev cX0_stretch : ByteArray := method_17_code
def yX0_stretch : MethodName := ⟨RX0, "stretch", "(LBogsign;II[J)I"⟩
def dkwX0_stretch_0 : List UInt8 := [45, 3, 42, 27, 28, 182, 0, 62, 133, 80, 167, 0, 11, 58, 4, 4, 172, 58, 4, 5, 172, 3, 172]
abbrev dktX0_stretch_0 : List UInt8 := dkwX0_stretch_0 ++ []
theorem dksX0_stretch_0 : cX0_stretch.data.toList.drop 0 = dktX0_stretch_0 := by decide +kernel
theorem dX0_stretch_0 : decode cX0_stretch 0 = .ok (.aload_n 3, 1) := dk_45 (dk_at dksX0_stretch_0 0 rfl rfl)
theorem dX0_stretch_1 : decode cX0_stretch 1 = .ok (.iconst 0, 1) := dk_3 (dk_at dksX0_stretch_0 1 rfl rfl)
theorem dX0_stretch_2 : decode cX0_stretch 2 = .ok (.aload_n 0, 1) := dk_42 (dk_at dksX0_stretch_0 2 rfl rfl)
theorem dX0_stretch_3 : decode cX0_stretch 3 = .ok (.iload_n 1, 1) := dk_27 (dk_at dksX0_stretch_0 3 rfl rfl)
theorem dX0_stretch_4 : decode cX0_stretch 4 = .ok (.iload_n 2, 1) := dk_28 (dk_at dksX0_stretch_0 4 rfl rfl)
theorem dX0_stretch_5 : decode cX0_stretch 5 = .ok (.invokevirtual 62, 3) := dk_182 0 62 (dk_at dksX0_stretch_0 5 rfl rfl)
theorem dX0_stretch_8 : decode cX0_stretch 8 = .ok (.i2l, 1) := dk_133 (dk_at dksX0_stretch_0 8 rfl rfl)
theorem dX0_stretch_9 : decode cX0_stretch 9 = .ok (.lastore, 1) := dk_80 (dk_at dksX0_stretch_0 9 rfl rfl)
theorem dX0_stretch_10 : decode cX0_stretch 10 = .ok (.goto 11, 3) := dk_167 0 11 (dk_at dksX0_stretch_0 10 rfl rfl)
theorem dX0_stretch_13 : decode cX0_stretch 13 = .ok (.astore 4, 2) := dk_58 4 (dk_at dksX0_stretch_0 13 rfl rfl)
theorem dX0_stretch_15 : decode cX0_stretch 15 = .ok (.iconst 1, 1) := dk_4 (dk_at dksX0_stretch_0 15 rfl rfl)
theorem dX0_stretch_16 : decode cX0_stretch 16 = .ok (.ireturn, 1) := dk_172 (dk_at dksX0_stretch_0 16 rfl rfl)
theorem dX0_stretch_17 : decode cX0_stretch 17 = .ok (.astore 4, 2) := dk_58 4 (dk_at dksX0_stretch_0 17 rfl rfl)
theorem dX0_stretch_19 : decode cX0_stretch 19 = .ok (.iconst 2, 1) := dk_5 (dk_at dksX0_stretch_0 19 rfl rfl)
theorem dX0_stretch_20 : decode cX0_stretch 20 = .ok (.ireturn, 1) := dk_172 (dk_at dksX0_stretch_0 20 rfl rfl)
theorem dX0_stretch_21 : decode cX0_stretch 21 = .ok (.iconst 0, 1) := dk_3 (dk_at dksX0_stretch_0 21 rfl rfl)
theorem dX0_stretch_22 : decode cX0_stretch 22 = .ok (.ireturn, 1) := dk_172 (dk_at dksX0_stretch_0 22 rfl rfl)
abbrev cX0_cart : ByteArray := method_18_code
def yX0_cart : MethodName := ⟨RX0, "cart", "(LBogsign;III[J)I"⟩
def dkwX0_cart_1 : List UInt8 := [172]
abbrev dktX0_cart_1 : List UInt8 := dkwX0_cart_1 ++ []
def dkwX0_cart_0 : List UInt8 := [25, 4, 3, 42, 27, 28, 29, 182, 0, 65, 133, 80, 167, 0, 11, 58, 5, 4, 172, 58, 5, 5, 172, 3]
abbrev dktX0_cart_0 : List UInt8 := dkwX0_cart_0 ++ dktX0_cart_1
theorem dksX0_cart_0 : cX0_cart.data.toList.drop 0 = dktX0_cart_0 := by decide +kernel
theorem dksX0_cart_1 : cX0_cart.data.toList.drop 24 = dktX0_cart_1 := dk_seg dksX0_cart_0 24 rfl rfl
theorem dX0_cart_0 : decode cX0_cart 0 = .ok (.aload 4, 2) := dk_25 4 (dk_at dksX0_cart_0 0 rfl rfl)
theorem dX0_cart_2 : decode cX0_cart 2 = .ok (.iconst 0, 1) := dk_3 (dk_at dksX0_cart_0 2 rfl rfl)
theorem dX0_cart_3 : decode cX0_cart 3 = .ok (.aload_n 0, 1) := dk_42 (dk_at dksX0_cart_0 3 rfl rfl)
theorem dX0_cart_4 : decode cX0_cart 4 = .ok (.iload_n 1, 1) := dk_27 (dk_at dksX0_cart_0 4 rfl rfl)
theorem dX0_cart_5 : decode cX0_cart 5 = .ok (.iload_n 2, 1) := dk_28 (dk_at dksX0_cart_0 5 rfl rfl)
theorem dX0_cart_6 : decode cX0_cart 6 = .ok (.iload_n 3, 1) := dk_29 (dk_at dksX0_cart_0 6 rfl rfl)
theorem dX0_cart_7 : decode cX0_cart 7 = .ok (.invokevirtual 65, 3) := dk_182 0 65 (dk_at dksX0_cart_0 7 rfl rfl)
theorem dX0_cart_10 : decode cX0_cart 10 = .ok (.i2l, 1) := dk_133 (dk_at dksX0_cart_0 10 rfl rfl)
theorem dX0_cart_11 : decode cX0_cart 11 = .ok (.lastore, 1) := dk_80 (dk_at dksX0_cart_0 11 rfl rfl)
theorem dX0_cart_12 : decode cX0_cart 12 = .ok (.goto 11, 3) := dk_167 0 11 (dk_at dksX0_cart_0 12 rfl rfl)
theorem dX0_cart_15 : decode cX0_cart 15 = .ok (.astore 5, 2) := dk_58 5 (dk_at dksX0_cart_0 15 rfl rfl)
theorem dX0_cart_17 : decode cX0_cart 17 = .ok (.iconst 1, 1) := dk_4 (dk_at dksX0_cart_0 17 rfl rfl)
theorem dX0_cart_18 : decode cX0_cart 18 = .ok (.ireturn, 1) := dk_172 (dk_at dksX0_cart_0 18 rfl rfl)
theorem dX0_cart_19 : decode cX0_cart 19 = .ok (.astore 5, 2) := dk_58 5 (dk_at dksX0_cart_0 19 rfl rfl)
theorem dX0_cart_21 : decode cX0_cart 21 = .ok (.iconst 2, 1) := dk_5 (dk_at dksX0_cart_0 21 rfl rfl)
theorem dX0_cart_22 : decode cX0_cart 22 = .ok (.ireturn, 1) := dk_172 (dk_at dksX0_cart_0 22 rfl rfl)
theorem dX0_cart_23 : decode cX0_cart 23 = .ok (.iconst 0, 1) := dk_3 (dk_at dksX0_cart_0 23 rfl rfl)
theorem dX0_cart_24 : decode cX0_cart 24 = .ok (.ireturn, 1) := dk_172 (dk_at dksX0_cart_1 0 rfl rfl)
abbrev cX0_round : ByteArray := method_19_code
def yX0_round : MethodName := ⟨RX0, "round", "(LBogsign;II[J)I"⟩
def dkwX0_round_0 : List UInt8 := [45, 3, 42, 27, 28, 182, 0, 68, 133, 80, 167, 0, 11, 58, 4, 4, 172, 58, 4, 5, 172, 3, 172]
abbrev dktX0_round_0 : List UInt8 := dkwX0_round_0 ++ []
theorem dksX0_round_0 : cX0_round.data.toList.drop 0 = dktX0_round_0 := by decide +kernel
theorem dX0_round_0 : decode cX0_round 0 = .ok (.aload_n 3, 1) := dk_45 (dk_at dksX0_round_0 0 rfl rfl)
theorem dX0_round_1 : decode cX0_round 1 = .ok (.iconst 0, 1) := dk_3 (dk_at dksX0_round_0 1 rfl rfl)
theorem dX0_round_2 : decode cX0_round 2 = .ok (.aload_n 0, 1) := dk_42 (dk_at dksX0_round_0 2 rfl rfl)
theorem dX0_round_3 : decode cX0_round 3 = .ok (.iload_n 1, 1) := dk_27 (dk_at dksX0_round_0 3 rfl rfl)
theorem dX0_round_4 : decode cX0_round 4 = .ok (.iload_n 2, 1) := dk_28 (dk_at dksX0_round_0 4 rfl rfl)
theorem dX0_round_5 : decode cX0_round 5 = .ok (.invokevirtual 68, 3) := dk_182 0 68 (dk_at dksX0_round_0 5 rfl rfl)
theorem dX0_round_8 : decode cX0_round 8 = .ok (.i2l, 1) := dk_133 (dk_at dksX0_round_0 8 rfl rfl)
theorem dX0_round_9 : decode cX0_round 9 = .ok (.lastore, 1) := dk_80 (dk_at dksX0_round_0 9 rfl rfl)
theorem dX0_round_10 : decode cX0_round 10 = .ok (.goto 11, 3) := dk_167 0 11 (dk_at dksX0_round_0 10 rfl rfl)
theorem dX0_round_13 : decode cX0_round 13 = .ok (.astore 4, 2) := dk_58 4 (dk_at dksX0_round_0 13 rfl rfl)
theorem dX0_round_15 : decode cX0_round 15 = .ok (.iconst 1, 1) := dk_4 (dk_at dksX0_round_0 15 rfl rfl)
theorem dX0_round_16 : decode cX0_round 16 = .ok (.ireturn, 1) := dk_172 (dk_at dksX0_round_0 16 rfl rfl)
theorem dX0_round_17 : decode cX0_round 17 = .ok (.astore 4, 2) := dk_58 4 (dk_at dksX0_round_0 17 rfl rfl)
theorem dX0_round_19 : decode cX0_round 19 = .ok (.iconst 2, 1) := dk_5 (dk_at dksX0_round_0 19 rfl rfl)
theorem dX0_round_20 : decode cX0_round 20 = .ok (.ireturn, 1) := dk_172 (dk_at dksX0_round_0 20 rfl rfl)
theorem dX0_round_21 : decode cX0_round 21 = .ok (.iconst 0, 1) := dk_3 (dk_at dksX0_round_0 21 rfl rfl)
theorem dX0_round_22 : decode cX0_round 22 = .ok (.ireturn, 1) := dk_172 (dk_at dksX0_round_0 22 rfl rfl)
theorem q71 : (Jvm.Cond.initialized "BogsignLaw") ∈ lw_all := lw_g (lw_at lw_m1 0 rfl) rfl
theorem q127 : (Jvm.Cond.classLink "BogsignLaw" (8 : Nat) "Bogsign") ∈ lw_all := lw_g (lw_at lw_m1 56 rfl) rfl
theorem q129 : (Jvm.Cond.methodLink "BogsignLaw" (71 : Nat) ({ cls := "Bogsign", name := "<init>", desc := "()V" } : Jvm.MethodName)) ∈ lw_all := lw_g (lw_at lw_m1 58 rfl) rfl
theorem q358 : (Jvm.Cond.methodLink "BogsignLaw" (85 : Nat) ({ cls := "Bogsign", name := "season", desc := "()I" } : Jvm.MethodName)) ∈ lw_all := lw_g (lw_at lw_m2 47 rfl) rfl
theorem q365 : (Jvm.Cond.methodLink "BogsignLaw" (139 : Nat) ({ cls := "Bogsign", name := "boardErrors", desc := "()I" } : Jvm.MethodName)) ∈ lw_all := lw_g (lw_at lw_m2 54 rfl) rfl
theorem q1095 : (Jvm.Cond.methodLink "BogsignLaw" (143 : Nat) ({ cls := "Bogsign", name := "meanDepth", desc := "()D" } : Jvm.MethodName)) ∈ lw_all := lw_g (lw_at lw_m5 64 rfl) rfl
theorem q1103 : (Jvm.Cond.methodLink "BogsignLaw" (148 : Nat) ({ cls := "Bogsign", name := "doubtedShare", desc := "()F" } : Jvm.MethodName)) ∈ lw_all := lw_g (lw_at lw_m5 72 rfl) rfl
theorem q1246 : (Jvm.Cond.methodLink "BogsignLaw" (75 : Nat) ({ cls := "BogsignLaw", name := "pass", desc := "(LBogsign;I[J)I" } : Jvm.MethodName)) ∈ lw_all := lw_g (lw_at lw_m5 215 rfl) rfl
theorem q1247 : (Jvm.Cond.static ({ cls := "BogsignLaw", name := "pass", desc := "(LBogsign;I[J)I" } : Jvm.MethodName)) ∈ lw_all := lw_g (lw_at lw_m5 216 rfl) rfl
theorem q1248 : (Jvm.Cond.codeWith ({ cls := "BogsignLaw", name := "pass", desc := "(LBogsign;I[J)I" } : Jvm.MethodName) method_3_code (4 : Nat) (Option.some Jvm.ClassFile.FieldType.int) [((0 : Nat), (9 : Nat), (12 : Nat), (13 : Nat)), ((0 : Nat), (9 : Nat), (15 : Nat), (15 : Nat))]) ∈ lw_all := lw_g (lw_at lw_m5 217 rfl) rfl
theorem q1249 : (Jvm.Cond.classLink "BogsignLaw" (13 : Nat) "java/lang/IllegalArgumentException") ∈ lw_all := lw_g (lw_at lw_m5 218 rfl) rfl
theorem q1250 : (Jvm.Cond.classLink "BogsignLaw" (15 : Nat) "java/lang/IllegalStateException") ∈ lw_all := lw_g (lw_at lw_m5 219 rfl) rfl
theorem q1251 : (Jvm.Cond.methodLink "BogsignLaw" (7 : Nat) ({ cls := "Bogsign", name := "pass", desc := "(I)I" } : Jvm.MethodName)) ∈ lw_all := lw_g (lw_at lw_m5 220 rfl) rfl
theorem q2040 : (Jvm.Cond.methodLink "BogsignLaw" (89 : Nat) ({ cls := "BogsignLaw", name := "setSoftness", desc := "(LBogsign;II[J)I" } : Jvm.MethodName)) ∈ lw_all := lw_g (lw_at lw_m9 49 rfl) rfl
theorem q2041 : (Jvm.Cond.static ({ cls := "BogsignLaw", name := "setSoftness", desc := "(LBogsign;II[J)I" } : Jvm.MethodName)) ∈ lw_all := lw_g (lw_at lw_m9 50 rfl) rfl
theorem q2042 : (Jvm.Cond.codeWith ({ cls := "BogsignLaw", name := "setSoftness", desc := "(LBogsign;II[J)I" } : Jvm.MethodName) method_4_code (5 : Nat) (Option.some Jvm.ClassFile.FieldType.int) [((0 : Nat), (10 : Nat), (13 : Nat), (21 : Nat)), ((0 : Nat), (10 : Nat), (17 : Nat), (13 : Nat))]) ∈ lw_all := lw_g (lw_at lw_m9 51 rfl) rfl
theorem q2043 : (Jvm.Cond.classLink "BogsignLaw" (21 : Nat) "java/lang/IndexOutOfBoundsException") ∈ lw_all := lw_g (lw_at lw_m9 52 rfl) rfl
theorem q2059 : (Jvm.Cond.methodLink "BogsignLaw" (17 : Nat) ({ cls := "Bogsign", name := "setSoftness", desc := "(II)I" } : Jvm.MethodName)) ∈ lw_all := lw_g (lw_at lw_m9 68 rfl) rfl
theorem q2075 : (Jvm.Cond.methodLink "BogsignLaw" (93 : Nat) ({ cls := "BogsignLaw", name := "setDays", desc := "(LBogsign;II[J)I" } : Jvm.MethodName)) ∈ lw_all := lw_g (lw_at lw_m9 84 rfl) rfl
theorem q2076 : (Jvm.Cond.static ({ cls := "BogsignLaw", name := "setDays", desc := "(LBogsign;II[J)I" } : Jvm.MethodName)) ∈ lw_all := lw_g (lw_at lw_m9 85 rfl) rfl
theorem q2077 : (Jvm.Cond.codeWith ({ cls := "BogsignLaw", name := "setDays", desc := "(LBogsign;II[J)I" } : Jvm.MethodName) method_5_code (5 : Nat) (Option.some Jvm.ClassFile.FieldType.int) [((0 : Nat), (10 : Nat), (13 : Nat), (21 : Nat)), ((0 : Nat), (10 : Nat), (17 : Nat), (13 : Nat))]) ∈ lw_all := lw_g (lw_at lw_m9 86 rfl) rfl
theorem q2078 : (Jvm.Cond.methodLink "BogsignLaw" (23 : Nat) ({ cls := "Bogsign", name := "setDays", desc := "(II)I" } : Jvm.MethodName)) ∈ lw_all := lw_g (lw_at lw_m9 87 rfl) rfl
theorem q2085 : (Jvm.Cond.methodLink "BogsignLaw" (96 : Nat) ({ cls := "BogsignLaw", name := "setLimit", desc := "(LBogsign;I[J)I" } : Jvm.MethodName)) ∈ lw_all := lw_g (lw_at lw_m9 94 rfl) rfl
theorem q2086 : (Jvm.Cond.static ({ cls := "BogsignLaw", name := "setLimit", desc := "(LBogsign;I[J)I" } : Jvm.MethodName)) ∈ lw_all := lw_g (lw_at lw_m9 95 rfl) rfl
theorem q2087 : (Jvm.Cond.codeWith ({ cls := "BogsignLaw", name := "setLimit", desc := "(LBogsign;I[J)I" } : Jvm.MethodName) method_6_code (4 : Nat) (Option.some Jvm.ClassFile.FieldType.int) [((0 : Nat), (9 : Nat), (12 : Nat), (13 : Nat))]) ∈ lw_all := lw_g (lw_at lw_m9 96 rfl) rfl
theorem q2088 : (Jvm.Cond.methodLink "BogsignLaw" (26 : Nat) ({ cls := "Bogsign", name := "setLimit", desc := "(I)I" } : Jvm.MethodName)) ∈ lw_all := lw_g (lw_at lw_m9 97 rfl) rfl
theorem q2092 : (Jvm.Cond.methodLink "BogsignLaw" (99 : Nat) ({ cls := "BogsignLaw", name := "cut", desc := "(LBogsign;I[J)I" } : Jvm.MethodName)) ∈ lw_all := lw_g (lw_at lw_m9 101 rfl) rfl
theorem q2093 : (Jvm.Cond.static ({ cls := "BogsignLaw", name := "cut", desc := "(LBogsign;I[J)I" } : Jvm.MethodName)) ∈ lw_all := lw_g (lw_at lw_m9 102 rfl) rfl
theorem q2094 : (Jvm.Cond.codeWith ({ cls := "BogsignLaw", name := "cut", desc := "(LBogsign;I[J)I" } : Jvm.MethodName) method_7_code (4 : Nat) (Option.some Jvm.ClassFile.FieldType.int) [((0 : Nat), (9 : Nat), (12 : Nat), (13 : Nat)), ((0 : Nat), (9 : Nat), (15 : Nat), (15 : Nat))]) ∈ lw_all := lw_g (lw_at lw_m9 103 rfl) rfl
theorem q2095 : (Jvm.Cond.methodLink "BogsignLaw" (29 : Nat) ({ cls := "Bogsign", name := "cut", desc := "(I)I" } : Jvm.MethodName)) ∈ lw_all := lw_g (lw_at lw_m9 104 rfl) rfl
theorem q2109 : (Jvm.Cond.methodLink "BogsignLaw" (102 : Nat) ({ cls := "BogsignLaw", name := "lay", desc := "(LBogsign;II[J)I" } : Jvm.MethodName)) ∈ lw_all := lw_g (lw_at lw_m9 118 rfl) rfl
theorem q2110 : (Jvm.Cond.static ({ cls := "BogsignLaw", name := "lay", desc := "(LBogsign;II[J)I" } : Jvm.MethodName)) ∈ lw_all := lw_g (lw_at lw_m9 119 rfl) rfl
theorem q2111 : (Jvm.Cond.codeWith ({ cls := "BogsignLaw", name := "lay", desc := "(LBogsign;II[J)I" } : Jvm.MethodName) method_8_code (5 : Nat) (Option.some Jvm.ClassFile.FieldType.int) [((0 : Nat), (10 : Nat), (13 : Nat), (21 : Nat)), ((0 : Nat), (10 : Nat), (17 : Nat), (13 : Nat)), ((0 : Nat), (10 : Nat), (21 : Nat), (15 : Nat))]) ∈ lw_all := lw_g (lw_at lw_m9 120 rfl) rfl
theorem q2112 : (Jvm.Cond.methodLink "BogsignLaw" (32 : Nat) ({ cls := "Bogsign", name := "lay", desc := "(II)I" } : Jvm.MethodName)) ∈ lw_all := lw_g (lw_at lw_m9 121 rfl) rfl
theorem q2116 : (Jvm.Cond.methodLink "BogsignLaw" (105 : Nat) ({ cls := "BogsignLaw", name := "stock", desc := "(LBogsign;I[J)I" } : Jvm.MethodName)) ∈ lw_all := lw_g (lw_at lw_m9 125 rfl) rfl
theorem q2117 : (Jvm.Cond.static ({ cls := "BogsignLaw", name := "stock", desc := "(LBogsign;I[J)I" } : Jvm.MethodName)) ∈ lw_all := lw_g (lw_at lw_m9 126 rfl) rfl
theorem q2118 : (Jvm.Cond.codeWith ({ cls := "BogsignLaw", name := "stock", desc := "(LBogsign;I[J)I" } : Jvm.MethodName) method_9_code (4 : Nat) (Option.some Jvm.ClassFile.FieldType.int) [((0 : Nat), (9 : Nat), (12 : Nat), (13 : Nat))]) ∈ lw_all := lw_g (lw_at lw_m9 127 rfl) rfl
theorem q2119 : (Jvm.Cond.methodLink "BogsignLaw" (35 : Nat) ({ cls := "Bogsign", name := "stock", desc := "(I)I" } : Jvm.MethodName)) ∈ lw_all := lw_g (lw_at lw_m9 128 rfl) rfl
theorem q2151 : (Jvm.Cond.methodLink "BogsignLaw" (108 : Nat) ({ cls := "BogsignLaw", name := "board", desc := "(LBogsign;II[J)I" } : Jvm.MethodName)) ∈ lw_all := lw_g (lw_at lw_m9 160 rfl) rfl
theorem q2152 : (Jvm.Cond.static ({ cls := "BogsignLaw", name := "board", desc := "(LBogsign;II[J)I" } : Jvm.MethodName)) ∈ lw_all := lw_g (lw_at lw_m9 161 rfl) rfl
theorem q2153 : (Jvm.Cond.codeWith ({ cls := "BogsignLaw", name := "board", desc := "(LBogsign;II[J)I" } : Jvm.MethodName) method_10_code (5 : Nat) (Option.some Jvm.ClassFile.FieldType.int) [((0 : Nat), (10 : Nat), (13 : Nat), (21 : Nat)), ((0 : Nat), (10 : Nat), (17 : Nat), (13 : Nat))]) ∈ lw_all := lw_g (lw_at lw_m9 162 rfl) rfl
theorem q2154 : (Jvm.Cond.methodLink "BogsignLaw" (38 : Nat) ({ cls := "Bogsign", name := "board", desc := "(II)I" } : Jvm.MethodName)) ∈ lw_all := lw_g (lw_at lw_m9 163 rfl) rfl
theorem q2158 : (Jvm.Cond.methodLink "BogsignLaw" (111 : Nat) ({ cls := "BogsignLaw", name := "owed", desc := "(LBogsign;I[J)I" } : Jvm.MethodName)) ∈ lw_all := lw_g (lw_at lw_m9 167 rfl) rfl
theorem q2159 : (Jvm.Cond.static ({ cls := "BogsignLaw", name := "owed", desc := "(LBogsign;I[J)I" } : Jvm.MethodName)) ∈ lw_all := lw_g (lw_at lw_m9 168 rfl) rfl
theorem q2160 : (Jvm.Cond.codeWith ({ cls := "BogsignLaw", name := "owed", desc := "(LBogsign;I[J)I" } : Jvm.MethodName) method_11_code (4 : Nat) (Option.some Jvm.ClassFile.FieldType.int) [((0 : Nat), (9 : Nat), (12 : Nat), (44 : Nat))]) ∈ lw_all := lw_g (lw_at lw_m9 169 rfl) rfl
theorem q2161 : (Jvm.Cond.classLink "BogsignLaw" (44 : Nat) "java/util/NoSuchElementException") ∈ lw_all := lw_g (lw_at lw_m9 170 rfl) rfl
theorem q2162 : (Jvm.Cond.methodLink "BogsignLaw" (41 : Nat) ({ cls := "Bogsign", name := "owed", desc := "(I)I" } : Jvm.MethodName)) ∈ lw_all := lw_g (lw_at lw_m9 171 rfl) rfl
theorem q2168 : (Jvm.Cond.methodLink "BogsignLaw" (114 : Nat) ({ cls := "BogsignLaw", name := "send", desc := "(LBogsign;III[J)I" } : Jvm.MethodName)) ∈ lw_all := lw_g (lw_at lw_m9 177 rfl) rfl
theorem q2169 : (Jvm.Cond.static ({ cls := "BogsignLaw", name := "send", desc := "(LBogsign;III[J)I" } : Jvm.MethodName)) ∈ lw_all := lw_g (lw_at lw_m9 178 rfl) rfl
theorem q2170 : (Jvm.Cond.codeWith ({ cls := "BogsignLaw", name := "send", desc := "(LBogsign;III[J)I" } : Jvm.MethodName) method_12_code (6 : Nat) (Option.some Jvm.ClassFile.FieldType.int) [((0 : Nat), (12 : Nat), (15 : Nat), (21 : Nat)), ((0 : Nat), (12 : Nat), (19 : Nat), (13 : Nat)), ((0 : Nat), (12 : Nat), (23 : Nat), (15 : Nat))]) ∈ lw_all := lw_g (lw_at lw_m9 179 rfl) rfl
theorem q2171 : (Jvm.Cond.methodLink "BogsignLaw" (46 : Nat) ({ cls := "Bogsign", name := "send", desc := "(III)I" } : Jvm.MethodName)) ∈ lw_all := lw_g (lw_at lw_m9 180 rfl) rfl
theorem q2225 : (Jvm.Cond.methodLink "BogsignLaw" (118 : Nat) ({ cls := "BogsignLaw", name := "message", desc := "(LBogsign;II[J)I" } : Jvm.MethodName)) ∈ lw_all := lw_g (lw_at lw_m9 234 rfl) rfl
theorem q2226 : (Jvm.Cond.static ({ cls := "BogsignLaw", name := "message", desc := "(LBogsign;II[J)I" } : Jvm.MethodName)) ∈ lw_all := lw_g (lw_at lw_m9 235 rfl) rfl
theorem q2227 : (Jvm.Cond.codeWith ({ cls := "BogsignLaw", name := "message", desc := "(LBogsign;II[J)I" } : Jvm.MethodName) method_13_code (5 : Nat) (Option.some Jvm.ClassFile.FieldType.int) [((0 : Nat), (10 : Nat), (13 : Nat), (21 : Nat)), ((0 : Nat), (10 : Nat), (17 : Nat), (13 : Nat))]) ∈ lw_all := lw_g (lw_at lw_m9 236 rfl) rfl
theorem q2228 : (Jvm.Cond.methodLink "BogsignLaw" (50 : Nat) ({ cls := "Bogsign", name := "message", desc := "(II)I" } : Jvm.MethodName)) ∈ lw_all := lw_g (lw_at lw_m9 237 rfl) rfl
theorem q2236 : (Jvm.Cond.methodLink "BogsignLaw" (121 : Nat) ({ cls := "BogsignLaw", name := "sign", desc := "(LBogsign;II[J)I" } : Jvm.MethodName)) ∈ lw_all := lw_g (lw_at lw_m10 5 rfl) rfl
theorem q2237 : (Jvm.Cond.static ({ cls := "BogsignLaw", name := "sign", desc := "(LBogsign;II[J)I" } : Jvm.MethodName)) ∈ lw_all := lw_g (lw_at lw_m10 6 rfl) rfl
theorem q2238 : (Jvm.Cond.codeWith ({ cls := "BogsignLaw", name := "sign", desc := "(LBogsign;II[J)I" } : Jvm.MethodName) method_14_code (5 : Nat) (Option.some Jvm.ClassFile.FieldType.int) [((0 : Nat), (10 : Nat), (13 : Nat), (21 : Nat))]) ∈ lw_all := lw_g (lw_at lw_m10 7 rfl) rfl
theorem q2239 : (Jvm.Cond.methodLink "BogsignLaw" (53 : Nat) ({ cls := "Bogsign", name := "sign", desc := "(II)I" } : Jvm.MethodName)) ∈ lw_all := lw_g (lw_at lw_m10 8 rfl) rfl
theorem q2255 : (Jvm.Cond.methodLink "BogsignLaw" (124 : Nat) ({ cls := "BogsignLaw", name := "meaning", desc := "(LBogsign;II[J)I" } : Jvm.MethodName)) ∈ lw_all := lw_g (lw_at lw_m10 24 rfl) rfl
theorem q2256 : (Jvm.Cond.static ({ cls := "BogsignLaw", name := "meaning", desc := "(LBogsign;II[J)I" } : Jvm.MethodName)) ∈ lw_all := lw_g (lw_at lw_m10 25 rfl) rfl
theorem q2257 : (Jvm.Cond.codeWith ({ cls := "BogsignLaw", name := "meaning", desc := "(LBogsign;II[J)I" } : Jvm.MethodName) method_15_code (5 : Nat) (Option.some Jvm.ClassFile.FieldType.int) [((0 : Nat), (10 : Nat), (13 : Nat), (21 : Nat)), ((0 : Nat), (10 : Nat), (17 : Nat), (13 : Nat))]) ∈ lw_all := lw_g (lw_at lw_m10 26 rfl) rfl
theorem q2258 : (Jvm.Cond.methodLink "BogsignLaw" (56 : Nat) ({ cls := "Bogsign", name := "meaning", desc := "(II)I" } : Jvm.MethodName)) ∈ lw_all := lw_g (lw_at lw_m10 27 rfl) rfl
theorem q2262 : (Jvm.Cond.methodLink "BogsignLaw" (127 : Nat) ({ cls := "BogsignLaw", name := "inspect", desc := "(LBogsign;I[J)I" } : Jvm.MethodName)) ∈ lw_all := lw_g (lw_at lw_m10 31 rfl) rfl
theorem q2263 : (Jvm.Cond.static ({ cls := "BogsignLaw", name := "inspect", desc := "(LBogsign;I[J)I" } : Jvm.MethodName)) ∈ lw_all := lw_g (lw_at lw_m10 32 rfl) rfl
theorem q2264 : (Jvm.Cond.codeWith ({ cls := "BogsignLaw", name := "inspect", desc := "(LBogsign;I[J)I" } : Jvm.MethodName) method_16_code (4 : Nat) (Option.some Jvm.ClassFile.FieldType.int) [((0 : Nat), (9 : Nat), (12 : Nat), (21 : Nat))]) ∈ lw_all := lw_g (lw_at lw_m10 33 rfl) rfl
theorem q2265 : (Jvm.Cond.methodLink "BogsignLaw" (59 : Nat) ({ cls := "Bogsign", name := "inspect", desc := "(I)I" } : Jvm.MethodName)) ∈ lw_all := lw_g (lw_at lw_m10 34 rfl) rfl
theorem q2277 : (Jvm.Cond.methodLink "BogsignLaw" (130 : Nat) ({ cls := "BogsignLaw", name := "stretch", desc := "(LBogsign;II[J)I" } : Jvm.MethodName)) ∈ lw_all := lw_g (lw_at lw_m10 46 rfl) rfl
theorem q2278 : (Jvm.Cond.static ({ cls := "BogsignLaw", name := "stretch", desc := "(LBogsign;II[J)I" } : Jvm.MethodName)) ∈ lw_all := lw_g (lw_at lw_m10 47 rfl) rfl
theorem q2279 : (Jvm.Cond.codeWith ({ cls := "BogsignLaw", name := "stretch", desc := "(LBogsign;II[J)I" } : Jvm.MethodName) method_17_code (5 : Nat) (Option.some Jvm.ClassFile.FieldType.int) [((0 : Nat), (10 : Nat), (13 : Nat), (21 : Nat)), ((0 : Nat), (10 : Nat), (17 : Nat), (13 : Nat))]) ∈ lw_all := lw_g (lw_at lw_m10 48 rfl) rfl
theorem q2280 : (Jvm.Cond.methodLink "BogsignLaw" (62 : Nat) ({ cls := "Bogsign", name := "stretch", desc := "(II)I" } : Jvm.MethodName)) ∈ lw_all := lw_g (lw_at lw_m10 49 rfl) rfl
theorem q2289 : (Jvm.Cond.methodLink "BogsignLaw" (133 : Nat) ({ cls := "BogsignLaw", name := "cart", desc := "(LBogsign;III[J)I" } : Jvm.MethodName)) ∈ lw_all := lw_g (lw_at lw_m10 58 rfl) rfl
theorem q2290 : (Jvm.Cond.static ({ cls := "BogsignLaw", name := "cart", desc := "(LBogsign;III[J)I" } : Jvm.MethodName)) ∈ lw_all := lw_g (lw_at lw_m10 59 rfl) rfl
theorem q2291 : (Jvm.Cond.codeWith ({ cls := "BogsignLaw", name := "cart", desc := "(LBogsign;III[J)I" } : Jvm.MethodName) method_18_code (6 : Nat) (Option.some Jvm.ClassFile.FieldType.int) [((0 : Nat), (12 : Nat), (15 : Nat), (21 : Nat)), ((0 : Nat), (12 : Nat), (19 : Nat), (13 : Nat))]) ∈ lw_all := lw_g (lw_at lw_m10 60 rfl) rfl
theorem q2292 : (Jvm.Cond.methodLink "BogsignLaw" (65 : Nat) ({ cls := "Bogsign", name := "cart", desc := "(III)I" } : Jvm.MethodName)) ∈ lw_all := lw_g (lw_at lw_m10 61 rfl) rfl
theorem q2310 : (Jvm.Cond.methodLink "BogsignLaw" (136 : Nat) ({ cls := "BogsignLaw", name := "round", desc := "(LBogsign;II[J)I" } : Jvm.MethodName)) ∈ lw_all := lw_g (lw_at lw_m10 79 rfl) rfl
theorem q2311 : (Jvm.Cond.static ({ cls := "BogsignLaw", name := "round", desc := "(LBogsign;II[J)I" } : Jvm.MethodName)) ∈ lw_all := lw_g (lw_at lw_m10 80 rfl) rfl
theorem q2312 : (Jvm.Cond.codeWith ({ cls := "BogsignLaw", name := "round", desc := "(LBogsign;II[J)I" } : Jvm.MethodName) method_19_code (5 : Nat) (Option.some Jvm.ClassFile.FieldType.int) [((0 : Nat), (10 : Nat), (13 : Nat), (21 : Nat)), ((0 : Nat), (10 : Nat), (17 : Nat), (13 : Nat))]) ∈ lw_all := lw_g (lw_at lw_m10 81 rfl) rfl
theorem q2313 : (Jvm.Cond.methodLink "BogsignLaw" (68 : Nat) ({ cls := "Bogsign", name := "round", desc := "(II)I" } : Jvm.MethodName)) ∈ lw_all := lw_g (lw_at lw_m10 82 rfl) rfl
theorem q2318 : (Jvm.Cond.classLink "BogsignLaw" (72 : Nat) "BogsignModel") ∈ lw_all := lw_g (lw_at lw_m10 87 rfl) rfl
theorem q2320 : (Jvm.Cond.methodLink "BogsignLaw" (74 : Nat) ({ cls := "BogsignModel", name := "<init>", desc := "()V" } : Jvm.MethodName)) ∈ lw_all := lw_g (lw_at lw_m10 89 rfl) rfl
theorem q2440 : (Jvm.Cond.methodLink "BogsignLaw" (81 : Nat) ({ cls := "BogsignModel", name := "thrown", desc := "()I" } : Jvm.MethodName)) ∈ lw_all := lw_g (lw_at lw_m10 209 rfl) rfl
theorem q2444 : (Jvm.Cond.methodLink "BogsignLaw" (80 : Nat) ({ cls := "BogsignModel", name := "pass", desc := "(I)I" } : Jvm.MethodName)) ∈ lw_all := lw_g (lw_at lw_m10 213 rfl) rfl
theorem q2501 : (Jvm.Cond.methodLink "BogsignLaw" (88 : Nat) ({ cls := "BogsignModel", name := "season", desc := "()I" } : Jvm.MethodName)) ∈ lw_all := lw_g (lw_at lw_m11 30 rfl) rfl
theorem q2505 : (Jvm.Cond.methodLink "BogsignLaw" (92 : Nat) ({ cls := "BogsignModel", name := "setSoftness", desc := "(II)I" } : Jvm.MethodName)) ∈ lw_all := lw_g (lw_at lw_m11 34 rfl) rfl
theorem q2514 : (Jvm.Cond.methodLink "BogsignLaw" (95 : Nat) ({ cls := "BogsignModel", name := "setDays", desc := "(II)I" } : Jvm.MethodName)) ∈ lw_all := lw_g (lw_at lw_m11 43 rfl) rfl
theorem q2523 : (Jvm.Cond.methodLink "BogsignLaw" (98 : Nat) ({ cls := "BogsignModel", name := "setLimit", desc := "(I)I" } : Jvm.MethodName)) ∈ lw_all := lw_g (lw_at lw_m11 52 rfl) rfl
theorem q2531 : (Jvm.Cond.methodLink "BogsignLaw" (101 : Nat) ({ cls := "BogsignModel", name := "cut", desc := "(I)I" } : Jvm.MethodName)) ∈ lw_all := lw_g (lw_at lw_m11 60 rfl) rfl
theorem q2536 : (Jvm.Cond.methodLink "BogsignLaw" (104 : Nat) ({ cls := "BogsignModel", name := "lay", desc := "(II)I" } : Jvm.MethodName)) ∈ lw_all := lw_g (lw_at lw_m11 65 rfl) rfl
theorem q2544 : (Jvm.Cond.methodLink "BogsignLaw" (107 : Nat) ({ cls := "BogsignModel", name := "stock", desc := "(I)I" } : Jvm.MethodName)) ∈ lw_all := lw_g (lw_at lw_m11 73 rfl) rfl
theorem q2553 : (Jvm.Cond.methodLink "BogsignLaw" (110 : Nat) ({ cls := "BogsignModel", name := "board", desc := "(II)I" } : Jvm.MethodName)) ∈ lw_all := lw_g (lw_at lw_m11 82 rfl) rfl
theorem q2558 : (Jvm.Cond.methodLink "BogsignLaw" (113 : Nat) ({ cls := "BogsignModel", name := "owed", desc := "(I)I" } : Jvm.MethodName)) ∈ lw_all := lw_g (lw_at lw_m11 87 rfl) rfl
theorem q2562 : (Jvm.Cond.methodLink "BogsignLaw" (117 : Nat) ({ cls := "BogsignModel", name := "send", desc := "(III)I" } : Jvm.MethodName)) ∈ lw_all := lw_g (lw_at lw_m11 91 rfl) rfl
theorem q2569 : (Jvm.Cond.methodLink "BogsignLaw" (120 : Nat) ({ cls := "BogsignModel", name := "message", desc := "(II)I" } : Jvm.MethodName)) ∈ lw_all := lw_g (lw_at lw_m11 98 rfl) rfl
theorem q2578 : (Jvm.Cond.methodLink "BogsignLaw" (123 : Nat) ({ cls := "BogsignModel", name := "sign", desc := "(II)I" } : Jvm.MethodName)) ∈ lw_all := lw_g (lw_at lw_m11 107 rfl) rfl
theorem q2591 : (Jvm.Cond.methodLink "BogsignLaw" (126 : Nat) ({ cls := "BogsignModel", name := "meaning", desc := "(II)I" } : Jvm.MethodName)) ∈ lw_all := lw_g (lw_at lw_m11 120 rfl) rfl
theorem q2599 : (Jvm.Cond.methodLink "BogsignLaw" (129 : Nat) ({ cls := "BogsignModel", name := "inspect", desc := "(I)I" } : Jvm.MethodName)) ∈ lw_all := lw_g (lw_at lw_m11 128 rfl) rfl
theorem q2611 : (Jvm.Cond.methodLink "BogsignLaw" (132 : Nat) ({ cls := "BogsignModel", name := "stretch", desc := "(II)I" } : Jvm.MethodName)) ∈ lw_all := lw_g (lw_at lw_m11 140 rfl) rfl
theorem q2627 : (Jvm.Cond.methodLink "BogsignLaw" (135 : Nat) ({ cls := "BogsignModel", name := "cart", desc := "(III)I" } : Jvm.MethodName)) ∈ lw_all := lw_g (lw_at lw_m11 156 rfl) rfl
theorem q2639 : (Jvm.Cond.methodLink "BogsignLaw" (138 : Nat) ({ cls := "BogsignModel", name := "round", desc := "(II)I" } : Jvm.MethodName)) ∈ lw_all := lw_g (lw_at lw_m11 168 rfl) rfl
theorem q2643 : (Jvm.Cond.methodLink "BogsignLaw" (142 : Nat) ({ cls := "BogsignModel", name := "boardErrors", desc := "()I" } : Jvm.MethodName)) ∈ lw_all := lw_g (lw_at lw_m11 172 rfl) rfl
theorem q2647 : (Jvm.Cond.methodLink "BogsignLaw" (147 : Nat) ({ cls := "BogsignModel", name := "meanDepth", desc := "()D" } : Jvm.MethodName)) ∈ lw_all := lw_g (lw_at lw_m11 176 rfl) rfl
theorem q2651 : (Jvm.Cond.methodLink "BogsignLaw" (152 : Nat) ({ cls := "BogsignModel", name := "doubtedShare", desc := "()F" } : Jvm.MethodName)) ∈ lw_all := lw_g (lw_at lw_m11 180 rfl) rfl

/-! Bogsign -/
set_option maxRecDepth 100000
def RX1 : String := "Bogsign"
def TX1 : u_T := fun k => match k with
  | 0 => ("Bogsign", "stretches", "[LBogsign$Stretch;", true)
  | 1 => ("Bogsign", "boards", "Ljava/util/List;", true)
  | 2 => ("Bogsign", "depot", "Ljava/util/BitSet;", true)
  | 3 => ("Bogsign", "debts", "Ljava/util/ArrayDeque;", true)
  | 4 => ("Bogsign", "messages", "Ljava/util/List;", true)
  | 5 => ("Bogsign", "notes", "[LBogsign$Notes;", true)
  | 6 => ("Bogsign", "riderDays", "[I", true)
  | 7 => ("Bogsign", "coming", "Ljava/util/TreeMap;", true)
  | 8 => ("Bogsign", "day", "I", false)
  | 9 => ("Bogsign", "limit", "I", false)
  | _ => ("Bogsign", "ordered", "I", false)
def tyX1 : Nat → FieldType := fun k => match k with
  | 0 => .array (.object "Bogsign$Stretch")
  | 1 => .object "java/util/List"
  | 2 => .object "java/util/BitSet"
  | 3 => .object "java/util/ArrayDeque"
  | 4 => .object "java/util/List"
  | 5 => .array (.object "Bogsign$Notes")
  | 6 => .array .int
  | 7 => .object "java/util/TreeMap"
  | 8 => .int
  | 9 => .int
  | _ => .int
abbrev wsX10 : List Cond := u_ws RX1 TX1 11
theorem nmX1 : ∀ a, a < 11 → ∀ b, b < 11 → a ≠ b → (TX1 a).2.1 ≠ (TX1 b).2.1 := by decide +kernel
theorem tyX1_ok : ∀ k, k < 11 → parseFieldDescriptor (TX1 k).2.2.1 = some (tyX1 k) := by decide +kernel
abbrev cX1_init : ByteArray := prog_1_method_5_code
def yX1_init : MethodName := ⟨RX1, "<init>", "()V"⟩
def dkwX1_init_7 : List UInt8 := [132, 1, 1, 167, 255, 231, 177]
abbrev dktX1_init_7 : List UInt8 := dkwX1_init_7 ++ []
def dkwX1_init_6 : List UInt8 := [60, 27, 42, 180, 0, 52, 190, 162, 0, 22, 42, 180, 0, 52, 27, 187, 0, 50, 89, 183, 0, 72, 83]
abbrev dktX1_init_6 : List UInt8 := dkwX1_init_6 ++ dktX1_init_7
def dkwX1_init_5 : List UInt8 := [162, 0, 23, 42, 180, 0, 20, 27, 187, 0, 18, 89, 27, 183, 0, 71, 83, 132, 1, 1, 167, 255, 233, 3]
abbrev dktX1_init_5 : List UInt8 := dkwX1_init_5 ++ dktX1_init_6
def dkwX1_init_4 : List UInt8 := [187, 0, 60, 89, 183, 0, 62, 181, 0, 63, 42, 17, 0, 200, 181, 0, 67, 3, 60, 27, 16, 12]
abbrev dktX1_init_4 : List UInt8 := dkwX1_init_4 ++ dktX1_init_5
def dkwX1_init_3 : List UInt8 := [7, 188, 10, 89, 3, 6, 79, 89, 4, 7, 79, 89, 5, 8, 79, 89, 6, 16, 6, 79, 181, 0, 56, 42]
abbrev dktX1_init_3 : List UInt8 := dkwX1_init_3 ++ dktX1_init_4
def dkwX1_init_2 : List UInt8 := [181, 0, 43, 42, 187, 0, 24, 89, 183, 0, 26, 181, 0, 47, 42, 16, 16, 189, 0, 50, 181, 0, 52, 42]
abbrev dktX1_init_2 : List UInt8 := dkwX1_init_2 ++ dktX1_init_3
def dkwX1_init_1 : List UInt8 := [42, 187, 0, 31, 89, 17, 0, 200, 183, 0, 33, 181, 0, 36, 42, 187, 0, 40, 89, 183, 0, 42]
abbrev dktX1_init_1 : List UInt8 := dkwX1_init_1 ++ dktX1_init_2
def dkwX1_init_0 : List UInt8 := [42, 183, 0, 13, 42, 16, 12, 189, 0, 18, 181, 0, 20, 42, 187, 0, 24, 89, 183, 0, 26, 181, 0, 27]
abbrev dktX1_init_0 : List UInt8 := dkwX1_init_0 ++ dktX1_init_1
theorem dksX1_init_0 : cX1_init.data.toList.drop 0 = dktX1_init_0 := by decide +kernel
theorem dksX1_init_1 : cX1_init.data.toList.drop 24 = dktX1_init_1 := dk_seg dksX1_init_0 24 rfl rfl
theorem dksX1_init_2 : cX1_init.data.toList.drop 46 = dktX1_init_2 := dk_seg dksX1_init_1 22 rfl rfl
theorem dksX1_init_3 : cX1_init.data.toList.drop 70 = dktX1_init_3 := dk_seg dksX1_init_2 24 rfl rfl
theorem dksX1_init_4 : cX1_init.data.toList.drop 94 = dktX1_init_4 := dk_seg dksX1_init_3 24 rfl rfl
theorem dksX1_init_5 : cX1_init.data.toList.drop 116 = dktX1_init_5 := dk_seg dksX1_init_4 22 rfl rfl
theorem dksX1_init_6 : cX1_init.data.toList.drop 140 = dktX1_init_6 := dk_seg dksX1_init_5 24 rfl rfl
theorem dksX1_init_7 : cX1_init.data.toList.drop 163 = dktX1_init_7 := dk_seg dksX1_init_6 23 rfl rfl
theorem dX1_init_0 : decode cX1_init 0 = .ok (.aload_n 0, 1) := dk_42 (dk_at dksX1_init_0 0 rfl rfl)
theorem dX1_init_1 : decode cX1_init 1 = .ok (.invokespecial 13, 3) := dk_183 0 13 (dk_at dksX1_init_0 1 rfl rfl)
theorem dX1_init_4 : decode cX1_init 4 = .ok (.aload_n 0, 1) := dk_42 (dk_at dksX1_init_0 4 rfl rfl)
theorem dX1_init_5 : decode cX1_init 5 = .ok (.bipush 12, 2) := dk_16 12 (dk_at dksX1_init_0 5 rfl rfl)
theorem dX1_init_7 : decode cX1_init 7 = .ok (.anewarray 18, 3) := dk_189 0 18 (dk_at dksX1_init_0 7 rfl rfl)
theorem dX1_init_10 : decode cX1_init 10 = .ok (.putfield 20, 3) := dk_181 0 20 (dk_at dksX1_init_0 10 rfl rfl)
theorem dX1_init_13 : decode cX1_init 13 = .ok (.aload_n 0, 1) := dk_42 (dk_at dksX1_init_0 13 rfl rfl)
theorem dX1_init_14 : decode cX1_init 14 = .ok (.new 24, 3) := dk_187 0 24 (dk_at dksX1_init_0 14 rfl rfl)
theorem dX1_init_17 : decode cX1_init 17 = .ok (.dup, 1) := dk_89 (dk_at dksX1_init_0 17 rfl rfl)
theorem dX1_init_18 : decode cX1_init 18 = .ok (.invokespecial 26, 3) := dk_183 0 26 (dk_at dksX1_init_0 18 rfl rfl)
theorem dX1_init_21 : decode cX1_init 21 = .ok (.putfield 27, 3) := dk_181 0 27 (dk_at dksX1_init_0 21 rfl rfl)
theorem dX1_init_24 : decode cX1_init 24 = .ok (.aload_n 0, 1) := dk_42 (dk_at dksX1_init_1 0 rfl rfl)
theorem dX1_init_25 : decode cX1_init 25 = .ok (.new 31, 3) := dk_187 0 31 (dk_at dksX1_init_1 1 rfl rfl)
theorem dX1_init_28 : decode cX1_init 28 = .ok (.dup, 1) := dk_89 (dk_at dksX1_init_1 4 rfl rfl)
theorem dX1_init_29 : decode cX1_init 29 = .ok (.sipush 200, 3) := dk_17 0 200 (dk_at dksX1_init_1 5 rfl rfl)
theorem dX1_init_32 : decode cX1_init 32 = .ok (.invokespecial 33, 3) := dk_183 0 33 (dk_at dksX1_init_1 8 rfl rfl)
theorem dX1_init_35 : decode cX1_init 35 = .ok (.putfield 36, 3) := dk_181 0 36 (dk_at dksX1_init_1 11 rfl rfl)
theorem dX1_init_38 : decode cX1_init 38 = .ok (.aload_n 0, 1) := dk_42 (dk_at dksX1_init_1 14 rfl rfl)
theorem dX1_init_39 : decode cX1_init 39 = .ok (.new 40, 3) := dk_187 0 40 (dk_at dksX1_init_1 15 rfl rfl)
theorem dX1_init_42 : decode cX1_init 42 = .ok (.dup, 1) := dk_89 (dk_at dksX1_init_1 18 rfl rfl)
theorem dX1_init_43 : decode cX1_init 43 = .ok (.invokespecial 42, 3) := dk_183 0 42 (dk_at dksX1_init_1 19 rfl rfl)
theorem dX1_init_46 : decode cX1_init 46 = .ok (.putfield 43, 3) := dk_181 0 43 (dk_at dksX1_init_2 0 rfl rfl)
theorem dX1_init_49 : decode cX1_init 49 = .ok (.aload_n 0, 1) := dk_42 (dk_at dksX1_init_2 3 rfl rfl)
theorem dX1_init_50 : decode cX1_init 50 = .ok (.new 24, 3) := dk_187 0 24 (dk_at dksX1_init_2 4 rfl rfl)
theorem dX1_init_53 : decode cX1_init 53 = .ok (.dup, 1) := dk_89 (dk_at dksX1_init_2 7 rfl rfl)
theorem dX1_init_54 : decode cX1_init 54 = .ok (.invokespecial 26, 3) := dk_183 0 26 (dk_at dksX1_init_2 8 rfl rfl)
theorem dX1_init_57 : decode cX1_init 57 = .ok (.putfield 47, 3) := dk_181 0 47 (dk_at dksX1_init_2 11 rfl rfl)
theorem dX1_init_60 : decode cX1_init 60 = .ok (.aload_n 0, 1) := dk_42 (dk_at dksX1_init_2 14 rfl rfl)
theorem dX1_init_61 : decode cX1_init 61 = .ok (.bipush 16, 2) := dk_16 16 (dk_at dksX1_init_2 15 rfl rfl)
theorem dX1_init_63 : decode cX1_init 63 = .ok (.anewarray 50, 3) := dk_189 0 50 (dk_at dksX1_init_2 17 rfl rfl)
theorem dX1_init_66 : decode cX1_init 66 = .ok (.putfield 52, 3) := dk_181 0 52 (dk_at dksX1_init_2 20 rfl rfl)
theorem dX1_init_69 : decode cX1_init 69 = .ok (.aload_n 0, 1) := dk_42 (dk_at dksX1_init_2 23 rfl rfl)
theorem dX1_init_70 : decode cX1_init 70 = .ok (.iconst 4, 1) := dk_7 (dk_at dksX1_init_3 0 rfl rfl)
theorem dX1_init_71 : decode cX1_init 71 = .ok (.newarray .int, 2) := dk_188_10 (dk_at dksX1_init_3 1 rfl rfl)
theorem dX1_init_73 : decode cX1_init 73 = .ok (.dup, 1) := dk_89 (dk_at dksX1_init_3 3 rfl rfl)
theorem dX1_init_74 : decode cX1_init 74 = .ok (.iconst 0, 1) := dk_3 (dk_at dksX1_init_3 4 rfl rfl)
theorem dX1_init_75 : decode cX1_init 75 = .ok (.iconst 3, 1) := dk_6 (dk_at dksX1_init_3 5 rfl rfl)
theorem dX1_init_76 : decode cX1_init 76 = .ok (.iastore, 1) := dk_79 (dk_at dksX1_init_3 6 rfl rfl)
theorem dX1_init_77 : decode cX1_init 77 = .ok (.dup, 1) := dk_89 (dk_at dksX1_init_3 7 rfl rfl)
theorem dX1_init_78 : decode cX1_init 78 = .ok (.iconst 1, 1) := dk_4 (dk_at dksX1_init_3 8 rfl rfl)
theorem dX1_init_79 : decode cX1_init 79 = .ok (.iconst 4, 1) := dk_7 (dk_at dksX1_init_3 9 rfl rfl)
theorem dX1_init_80 : decode cX1_init 80 = .ok (.iastore, 1) := dk_79 (dk_at dksX1_init_3 10 rfl rfl)
theorem dX1_init_81 : decode cX1_init 81 = .ok (.dup, 1) := dk_89 (dk_at dksX1_init_3 11 rfl rfl)
theorem dX1_init_82 : decode cX1_init 82 = .ok (.iconst 2, 1) := dk_5 (dk_at dksX1_init_3 12 rfl rfl)
theorem dX1_init_83 : decode cX1_init 83 = .ok (.iconst 5, 1) := dk_8 (dk_at dksX1_init_3 13 rfl rfl)
theorem dX1_init_84 : decode cX1_init 84 = .ok (.iastore, 1) := dk_79 (dk_at dksX1_init_3 14 rfl rfl)
theorem dX1_init_85 : decode cX1_init 85 = .ok (.dup, 1) := dk_89 (dk_at dksX1_init_3 15 rfl rfl)
theorem dX1_init_86 : decode cX1_init 86 = .ok (.iconst 3, 1) := dk_6 (dk_at dksX1_init_3 16 rfl rfl)
theorem dX1_init_87 : decode cX1_init 87 = .ok (.bipush 6, 2) := dk_16 6 (dk_at dksX1_init_3 17 rfl rfl)
theorem dX1_init_89 : decode cX1_init 89 = .ok (.iastore, 1) := dk_79 (dk_at dksX1_init_3 19 rfl rfl)
theorem dX1_init_90 : decode cX1_init 90 = .ok (.putfield 56, 3) := dk_181 0 56 (dk_at dksX1_init_3 20 rfl rfl)
theorem dX1_init_93 : decode cX1_init 93 = .ok (.aload_n 0, 1) := dk_42 (dk_at dksX1_init_3 23 rfl rfl)
theorem dX1_init_94 : decode cX1_init 94 = .ok (.new 60, 3) := dk_187 0 60 (dk_at dksX1_init_4 0 rfl rfl)
theorem dX1_init_97 : decode cX1_init 97 = .ok (.dup, 1) := dk_89 (dk_at dksX1_init_4 3 rfl rfl)
theorem dX1_init_98 : decode cX1_init 98 = .ok (.invokespecial 62, 3) := dk_183 0 62 (dk_at dksX1_init_4 4 rfl rfl)
theorem dX1_init_101 : decode cX1_init 101 = .ok (.putfield 63, 3) := dk_181 0 63 (dk_at dksX1_init_4 7 rfl rfl)
theorem dX1_init_104 : decode cX1_init 104 = .ok (.aload_n 0, 1) := dk_42 (dk_at dksX1_init_4 10 rfl rfl)
theorem dX1_init_105 : decode cX1_init 105 = .ok (.sipush 200, 3) := dk_17 0 200 (dk_at dksX1_init_4 11 rfl rfl)
theorem dX1_init_108 : decode cX1_init 108 = .ok (.putfield 67, 3) := dk_181 0 67 (dk_at dksX1_init_4 14 rfl rfl)
theorem dX1_init_111 : decode cX1_init 111 = .ok (.iconst 0, 1) := dk_3 (dk_at dksX1_init_4 17 rfl rfl)
theorem dX1_init_112 : decode cX1_init 112 = .ok (.istore_n 1, 1) := dk_60 (dk_at dksX1_init_4 18 rfl rfl)
theorem dX1_init_113 : decode cX1_init 113 = .ok (.iload_n 1, 1) := dk_27 (dk_at dksX1_init_4 19 rfl rfl)
theorem dX1_init_114 : decode cX1_init 114 = .ok (.bipush 12, 2) := dk_16 12 (dk_at dksX1_init_4 20 rfl rfl)
theorem dX1_init_116 : decode cX1_init 116 = .ok (.if_icmp .ge 23, 3) := dk_162 0 23 (dk_at dksX1_init_5 0 rfl rfl)
theorem dX1_init_119 : decode cX1_init 119 = .ok (.aload_n 0, 1) := dk_42 (dk_at dksX1_init_5 3 rfl rfl)
theorem dX1_init_120 : decode cX1_init 120 = .ok (.getfield 20, 3) := dk_180 0 20 (dk_at dksX1_init_5 4 rfl rfl)
theorem dX1_init_123 : decode cX1_init 123 = .ok (.iload_n 1, 1) := dk_27 (dk_at dksX1_init_5 7 rfl rfl)
theorem dX1_init_124 : decode cX1_init 124 = .ok (.new 18, 3) := dk_187 0 18 (dk_at dksX1_init_5 8 rfl rfl)
theorem dX1_init_127 : decode cX1_init 127 = .ok (.dup, 1) := dk_89 (dk_at dksX1_init_5 11 rfl rfl)
theorem dX1_init_128 : decode cX1_init 128 = .ok (.iload_n 1, 1) := dk_27 (dk_at dksX1_init_5 12 rfl rfl)
theorem dX1_init_129 : decode cX1_init 129 = .ok (.invokespecial 71, 3) := dk_183 0 71 (dk_at dksX1_init_5 13 rfl rfl)
theorem dX1_init_132 : decode cX1_init 132 = .ok (.aastore, 1) := dk_83 (dk_at dksX1_init_5 16 rfl rfl)
theorem dX1_init_133 : decode cX1_init 133 = .ok (.iinc 1 1, 3) := dk_132 1 1 (dk_at dksX1_init_5 17 rfl rfl)
theorem dX1_init_136 : decode cX1_init 136 = .ok (.goto (-23), 3) := dk_167 255 233 (dk_at dksX1_init_5 20 rfl rfl)
theorem dX1_init_139 : decode cX1_init 139 = .ok (.iconst 0, 1) := dk_3 (dk_at dksX1_init_5 23 rfl rfl)
theorem dX1_init_140 : decode cX1_init 140 = .ok (.istore_n 1, 1) := dk_60 (dk_at dksX1_init_6 0 rfl rfl)
theorem dX1_init_141 : decode cX1_init 141 = .ok (.iload_n 1, 1) := dk_27 (dk_at dksX1_init_6 1 rfl rfl)
theorem dX1_init_142 : decode cX1_init 142 = .ok (.aload_n 0, 1) := dk_42 (dk_at dksX1_init_6 2 rfl rfl)
theorem dX1_init_143 : decode cX1_init 143 = .ok (.getfield 52, 3) := dk_180 0 52 (dk_at dksX1_init_6 3 rfl rfl)
theorem dX1_init_146 : decode cX1_init 146 = .ok (.arraylength, 1) := dk_190 (dk_at dksX1_init_6 6 rfl rfl)
theorem dX1_init_147 : decode cX1_init 147 = .ok (.if_icmp .ge 22, 3) := dk_162 0 22 (dk_at dksX1_init_6 7 rfl rfl)
theorem dX1_init_150 : decode cX1_init 150 = .ok (.aload_n 0, 1) := dk_42 (dk_at dksX1_init_6 10 rfl rfl)
theorem dX1_init_151 : decode cX1_init 151 = .ok (.getfield 52, 3) := dk_180 0 52 (dk_at dksX1_init_6 11 rfl rfl)
theorem dX1_init_154 : decode cX1_init 154 = .ok (.iload_n 1, 1) := dk_27 (dk_at dksX1_init_6 14 rfl rfl)
theorem dX1_init_155 : decode cX1_init 155 = .ok (.new 50, 3) := dk_187 0 50 (dk_at dksX1_init_6 15 rfl rfl)
theorem dX1_init_158 : decode cX1_init 158 = .ok (.dup, 1) := dk_89 (dk_at dksX1_init_6 18 rfl rfl)
theorem dX1_init_159 : decode cX1_init 159 = .ok (.invokespecial 72, 3) := dk_183 0 72 (dk_at dksX1_init_6 19 rfl rfl)
theorem dX1_init_162 : decode cX1_init 162 = .ok (.aastore, 1) := dk_83 (dk_at dksX1_init_6 22 rfl rfl)
theorem dX1_init_163 : decode cX1_init 163 = .ok (.iinc 1 1, 3) := dk_132 1 1 (dk_at dksX1_init_7 0 rfl rfl)
theorem dX1_init_166 : decode cX1_init 166 = .ok (.goto (-25), 3) := dk_167 255 231 (dk_at dksX1_init_7 3 rfl rfl)
theorem dX1_init_169 : decode cX1_init 169 = .ok (.return_, 1) := dk_177 (dk_at dksX1_init_7 6 rfl rfl)
abbrev cX1_season : ByteArray := prog_1_method_20_code
def yX1_season : MethodName := ⟨RX1, "season", "()I"⟩
def dkwX1_season_0 : List UInt8 := [42, 180, 0, 141, 184, 1, 60, 172]
abbrev dktX1_season_0 : List UInt8 := dkwX1_season_0 ++ []
theorem dksX1_season_0 : cX1_season.data.toList.drop 0 = dktX1_season_0 := by decide +kernel
theorem dX1_season_0 : decode cX1_season 0 = .ok (.aload_n 0, 1) := dk_42 (dk_at dksX1_season_0 0 rfl rfl)
theorem dX1_season_1 : decode cX1_season 1 = .ok (.getfield 141, 3) := dk_180 0 141 (dk_at dksX1_season_0 1 rfl rfl)
theorem dX1_season_4 : decode cX1_season 4 = .ok (.invokestatic 316, 3) := dk_184 1 60 (dk_at dksX1_season_0 4 rfl rfl)
theorem dX1_season_7 : decode cX1_season 7 = .ok (.ireturn, 1) := dk_172 (dk_at dksX1_season_0 7 rfl rfl)
abbrev cX1_boardErrors : ByteArray := prog_1_method_47_code
def yX1_boardErrors : MethodName := ⟨RX1, "boardErrors", "()I"⟩
def dkwX1_boardErrors_6 : List UInt8 := [167, 0, 4, 4, 96, 172]
abbrev dktX1_boardErrors_6 : List UInt8 := dkwX1_boardErrors_6 ++ []
def dkwX1_boardErrors_5 : List UInt8 := [7, 182, 1, 77, 96, 96, 61, 27, 28, 42, 180, 0, 27, 185, 0, 180, 1, 0, 160, 0, 7, 3]
abbrev dktX1_boardErrors_5 : List UInt8 := dkwX1_boardErrors_5 ++ dktX1_boardErrors_6
def dkwX1_boardErrors_4 : List UInt8 := [167, 255, 229, 28, 42, 180, 0, 36, 182, 0, 162, 42, 4, 182, 1, 77, 96, 42, 6, 182, 1, 77, 96, 42]
abbrev dktX1_boardErrors_4 : List UInt8 := dkwX1_boardErrors_4 ++ dktX1_boardErrors_5
def dkwX1_boardErrors_3 : List UInt8 := [162, 0, 26, 45, 21, 5, 50, 58, 6, 28, 25, 6, 180, 1, 154, 182, 1, 157, 96, 61, 132, 5, 1]
abbrev dktX1_boardErrors_3 : List UInt8 := dkwX1_boardErrors_3 ++ dktX1_boardErrors_4
def dkwX1_boardErrors_2 : List UInt8 := [60, 167, 255, 221, 3, 61, 42, 180, 0, 20, 78, 45, 190, 54, 4, 3, 54, 5, 21, 5, 21, 4]
abbrev dktX1_boardErrors_2 : List UInt8 := dkwX1_boardErrors_2 ++ dktX1_boardErrors_3
def dkwX1_boardErrors_1 : List UInt8 := [185, 0, 201, 1, 0, 192, 0, 126, 78, 27, 42, 45, 182, 1, 194, 153, 0, 7, 4, 167, 0, 4, 3, 96]
abbrev dktX1_boardErrors_1 : List UInt8 := dkwX1_boardErrors_1 ++ dktX1_boardErrors_2
def dkwX1_boardErrors_0 : List UInt8 := [3, 60, 42, 180, 0, 27, 185, 0, 192, 1, 0, 77, 44, 185, 0, 196, 1, 0, 153, 0, 32, 44]
abbrev dktX1_boardErrors_0 : List UInt8 := dkwX1_boardErrors_0 ++ dktX1_boardErrors_1
theorem dksX1_boardErrors_0 : cX1_boardErrors.data.toList.drop 0 = dktX1_boardErrors_0 := by decide +kernel
theorem dksX1_boardErrors_1 : cX1_boardErrors.data.toList.drop 22 = dktX1_boardErrors_1 := dk_seg dksX1_boardErrors_0 22 rfl rfl
theorem dksX1_boardErrors_2 : cX1_boardErrors.data.toList.drop 46 = dktX1_boardErrors_2 := dk_seg dksX1_boardErrors_1 24 rfl rfl
theorem dksX1_boardErrors_3 : cX1_boardErrors.data.toList.drop 68 = dktX1_boardErrors_3 := dk_seg dksX1_boardErrors_2 22 rfl rfl
theorem dksX1_boardErrors_4 : cX1_boardErrors.data.toList.drop 91 = dktX1_boardErrors_4 := dk_seg dksX1_boardErrors_3 23 rfl rfl
theorem dksX1_boardErrors_5 : cX1_boardErrors.data.toList.drop 115 = dktX1_boardErrors_5 := dk_seg dksX1_boardErrors_4 24 rfl rfl
theorem dksX1_boardErrors_6 : cX1_boardErrors.data.toList.drop 137 = dktX1_boardErrors_6 := dk_seg dksX1_boardErrors_5 22 rfl rfl
theorem dX1_boardErrors_0 : decode cX1_boardErrors 0 = .ok (.iconst 0, 1) := dk_3 (dk_at dksX1_boardErrors_0 0 rfl rfl)
theorem dX1_boardErrors_1 : decode cX1_boardErrors 1 = .ok (.istore_n 1, 1) := dk_60 (dk_at dksX1_boardErrors_0 1 rfl rfl)
theorem dX1_boardErrors_2 : decode cX1_boardErrors 2 = .ok (.aload_n 0, 1) := dk_42 (dk_at dksX1_boardErrors_0 2 rfl rfl)
theorem dX1_boardErrors_3 : decode cX1_boardErrors 3 = .ok (.getfield 27, 3) := dk_180 0 27 (dk_at dksX1_boardErrors_0 3 rfl rfl)
theorem dX1_boardErrors_6 : decode cX1_boardErrors 6 = .ok (.invokeinterface 192 1, 5) := by decide +kernel
theorem dX1_boardErrors_11 : decode cX1_boardErrors 11 = .ok (.astore_n 2, 1) := dk_77 (dk_at dksX1_boardErrors_0 11 rfl rfl)
theorem dX1_boardErrors_12 : decode cX1_boardErrors 12 = .ok (.aload_n 2, 1) := dk_44 (dk_at dksX1_boardErrors_0 12 rfl rfl)
theorem dX1_boardErrors_13 : decode cX1_boardErrors 13 = .ok (.invokeinterface 196 1, 5) := by decide +kernel
theorem dX1_boardErrors_18 : decode cX1_boardErrors 18 = .ok (.ifCond .eq 32, 3) := dk_153 0 32 (dk_at dksX1_boardErrors_0 18 rfl rfl)
theorem dX1_boardErrors_21 : decode cX1_boardErrors 21 = .ok (.aload_n 2, 1) := dk_44 (dk_at dksX1_boardErrors_0 21 rfl rfl)
theorem dX1_boardErrors_22 : decode cX1_boardErrors 22 = .ok (.invokeinterface 201 1, 5) := by decide +kernel
theorem dX1_boardErrors_27 : decode cX1_boardErrors 27 = .ok (.checkcast 126, 3) := dk_192 0 126 (dk_at dksX1_boardErrors_1 5 rfl rfl)
theorem dX1_boardErrors_30 : decode cX1_boardErrors 30 = .ok (.astore_n 3, 1) := dk_78 (dk_at dksX1_boardErrors_1 8 rfl rfl)
theorem dX1_boardErrors_31 : decode cX1_boardErrors 31 = .ok (.iload_n 1, 1) := dk_27 (dk_at dksX1_boardErrors_1 9 rfl rfl)
theorem dX1_boardErrors_32 : decode cX1_boardErrors 32 = .ok (.aload_n 0, 1) := dk_42 (dk_at dksX1_boardErrors_1 10 rfl rfl)
theorem dX1_boardErrors_33 : decode cX1_boardErrors 33 = .ok (.aload_n 3, 1) := dk_45 (dk_at dksX1_boardErrors_1 11 rfl rfl)
theorem dX1_boardErrors_34 : decode cX1_boardErrors 34 = .ok (.invokevirtual 450, 3) := dk_182 1 194 (dk_at dksX1_boardErrors_1 12 rfl rfl)
theorem dX1_boardErrors_37 : decode cX1_boardErrors 37 = .ok (.ifCond .eq 7, 3) := dk_153 0 7 (dk_at dksX1_boardErrors_1 15 rfl rfl)
theorem dX1_boardErrors_40 : decode cX1_boardErrors 40 = .ok (.iconst 1, 1) := dk_4 (dk_at dksX1_boardErrors_1 18 rfl rfl)
theorem dX1_boardErrors_41 : decode cX1_boardErrors 41 = .ok (.goto 4, 3) := dk_167 0 4 (dk_at dksX1_boardErrors_1 19 rfl rfl)
theorem dX1_boardErrors_44 : decode cX1_boardErrors 44 = .ok (.iconst 0, 1) := dk_3 (dk_at dksX1_boardErrors_1 22 rfl rfl)
theorem dX1_boardErrors_45 : decode cX1_boardErrors 45 = .ok (.iadd, 1) := dk_96 (dk_at dksX1_boardErrors_1 23 rfl rfl)
theorem dX1_boardErrors_46 : decode cX1_boardErrors 46 = .ok (.istore_n 1, 1) := dk_60 (dk_at dksX1_boardErrors_2 0 rfl rfl)
theorem dX1_boardErrors_47 : decode cX1_boardErrors 47 = .ok (.goto (-35), 3) := dk_167 255 221 (dk_at dksX1_boardErrors_2 1 rfl rfl)
theorem dX1_boardErrors_50 : decode cX1_boardErrors 50 = .ok (.iconst 0, 1) := dk_3 (dk_at dksX1_boardErrors_2 4 rfl rfl)
theorem dX1_boardErrors_51 : decode cX1_boardErrors 51 = .ok (.istore_n 2, 1) := dk_61 (dk_at dksX1_boardErrors_2 5 rfl rfl)
theorem dX1_boardErrors_52 : decode cX1_boardErrors 52 = .ok (.aload_n 0, 1) := dk_42 (dk_at dksX1_boardErrors_2 6 rfl rfl)
theorem dX1_boardErrors_53 : decode cX1_boardErrors 53 = .ok (.getfield 20, 3) := dk_180 0 20 (dk_at dksX1_boardErrors_2 7 rfl rfl)
theorem dX1_boardErrors_56 : decode cX1_boardErrors 56 = .ok (.astore_n 3, 1) := dk_78 (dk_at dksX1_boardErrors_2 10 rfl rfl)
theorem dX1_boardErrors_57 : decode cX1_boardErrors 57 = .ok (.aload_n 3, 1) := dk_45 (dk_at dksX1_boardErrors_2 11 rfl rfl)
theorem dX1_boardErrors_58 : decode cX1_boardErrors 58 = .ok (.arraylength, 1) := dk_190 (dk_at dksX1_boardErrors_2 12 rfl rfl)
theorem dX1_boardErrors_59 : decode cX1_boardErrors 59 = .ok (.istore 4, 2) := dk_54 4 (dk_at dksX1_boardErrors_2 13 rfl rfl)
theorem dX1_boardErrors_61 : decode cX1_boardErrors 61 = .ok (.iconst 0, 1) := dk_3 (dk_at dksX1_boardErrors_2 15 rfl rfl)
theorem dX1_boardErrors_62 : decode cX1_boardErrors 62 = .ok (.istore 5, 2) := dk_54 5 (dk_at dksX1_boardErrors_2 16 rfl rfl)
theorem dX1_boardErrors_64 : decode cX1_boardErrors 64 = .ok (.iload 5, 2) := dk_21 5 (dk_at dksX1_boardErrors_2 18 rfl rfl)
theorem dX1_boardErrors_66 : decode cX1_boardErrors 66 = .ok (.iload 4, 2) := dk_21 4 (dk_at dksX1_boardErrors_2 20 rfl rfl)
theorem dX1_boardErrors_68 : decode cX1_boardErrors 68 = .ok (.if_icmp .ge 26, 3) := dk_162 0 26 (dk_at dksX1_boardErrors_3 0 rfl rfl)
theorem dX1_boardErrors_71 : decode cX1_boardErrors 71 = .ok (.aload_n 3, 1) := dk_45 (dk_at dksX1_boardErrors_3 3 rfl rfl)
theorem dX1_boardErrors_72 : decode cX1_boardErrors 72 = .ok (.iload 5, 2) := dk_21 5 (dk_at dksX1_boardErrors_3 4 rfl rfl)
theorem dX1_boardErrors_74 : decode cX1_boardErrors 74 = .ok (.aaload, 1) := dk_50 (dk_at dksX1_boardErrors_3 6 rfl rfl)
theorem dX1_boardErrors_75 : decode cX1_boardErrors 75 = .ok (.astore 6, 2) := dk_58 6 (dk_at dksX1_boardErrors_3 7 rfl rfl)
theorem dX1_boardErrors_77 : decode cX1_boardErrors 77 = .ok (.iload_n 2, 1) := dk_28 (dk_at dksX1_boardErrors_3 9 rfl rfl)
theorem dX1_boardErrors_78 : decode cX1_boardErrors 78 = .ok (.aload 6, 2) := dk_25 6 (dk_at dksX1_boardErrors_3 10 rfl rfl)
theorem dX1_boardErrors_80 : decode cX1_boardErrors 80 = .ok (.getfield 410, 3) := dk_180 1 154 (dk_at dksX1_boardErrors_3 12 rfl rfl)
theorem dX1_boardErrors_83 : decode cX1_boardErrors 83 = .ok (.invokevirtual 413, 3) := dk_182 1 157 (dk_at dksX1_boardErrors_3 15 rfl rfl)
theorem dX1_boardErrors_86 : decode cX1_boardErrors 86 = .ok (.iadd, 1) := dk_96 (dk_at dksX1_boardErrors_3 18 rfl rfl)
theorem dX1_boardErrors_87 : decode cX1_boardErrors 87 = .ok (.istore_n 2, 1) := dk_61 (dk_at dksX1_boardErrors_3 19 rfl rfl)
theorem dX1_boardErrors_88 : decode cX1_boardErrors 88 = .ok (.iinc 5 1, 3) := dk_132 5 1 (dk_at dksX1_boardErrors_3 20 rfl rfl)
theorem dX1_boardErrors_91 : decode cX1_boardErrors 91 = .ok (.goto (-27), 3) := dk_167 255 229 (dk_at dksX1_boardErrors_4 0 rfl rfl)
theorem dX1_boardErrors_94 : decode cX1_boardErrors 94 = .ok (.iload_n 2, 1) := dk_28 (dk_at dksX1_boardErrors_4 3 rfl rfl)
theorem dX1_boardErrors_95 : decode cX1_boardErrors 95 = .ok (.aload_n 0, 1) := dk_42 (dk_at dksX1_boardErrors_4 4 rfl rfl)
theorem dX1_boardErrors_96 : decode cX1_boardErrors 96 = .ok (.getfield 36, 3) := dk_180 0 36 (dk_at dksX1_boardErrors_4 5 rfl rfl)
theorem dX1_boardErrors_99 : decode cX1_boardErrors 99 = .ok (.invokevirtual 162, 3) := dk_182 0 162 (dk_at dksX1_boardErrors_4 8 rfl rfl)
theorem dX1_boardErrors_102 : decode cX1_boardErrors 102 = .ok (.aload_n 0, 1) := dk_42 (dk_at dksX1_boardErrors_4 11 rfl rfl)
theorem dX1_boardErrors_103 : decode cX1_boardErrors 103 = .ok (.iconst 1, 1) := dk_4 (dk_at dksX1_boardErrors_4 12 rfl rfl)
theorem dX1_boardErrors_104 : decode cX1_boardErrors 104 = .ok (.invokevirtual 333, 3) := dk_182 1 77 (dk_at dksX1_boardErrors_4 13 rfl rfl)
theorem dX1_boardErrors_107 : decode cX1_boardErrors 107 = .ok (.iadd, 1) := dk_96 (dk_at dksX1_boardErrors_4 16 rfl rfl)
theorem dX1_boardErrors_108 : decode cX1_boardErrors 108 = .ok (.aload_n 0, 1) := dk_42 (dk_at dksX1_boardErrors_4 17 rfl rfl)
theorem dX1_boardErrors_109 : decode cX1_boardErrors 109 = .ok (.iconst 3, 1) := dk_6 (dk_at dksX1_boardErrors_4 18 rfl rfl)
theorem dX1_boardErrors_110 : decode cX1_boardErrors 110 = .ok (.invokevirtual 333, 3) := dk_182 1 77 (dk_at dksX1_boardErrors_4 19 rfl rfl)
theorem dX1_boardErrors_113 : decode cX1_boardErrors 113 = .ok (.iadd, 1) := dk_96 (dk_at dksX1_boardErrors_4 22 rfl rfl)
theorem dX1_boardErrors_114 : decode cX1_boardErrors 114 = .ok (.aload_n 0, 1) := dk_42 (dk_at dksX1_boardErrors_4 23 rfl rfl)
theorem dX1_boardErrors_115 : decode cX1_boardErrors 115 = .ok (.iconst 4, 1) := dk_7 (dk_at dksX1_boardErrors_5 0 rfl rfl)
theorem dX1_boardErrors_116 : decode cX1_boardErrors 116 = .ok (.invokevirtual 333, 3) := dk_182 1 77 (dk_at dksX1_boardErrors_5 1 rfl rfl)
theorem dX1_boardErrors_119 : decode cX1_boardErrors 119 = .ok (.iadd, 1) := dk_96 (dk_at dksX1_boardErrors_5 4 rfl rfl)
theorem dX1_boardErrors_120 : decode cX1_boardErrors 120 = .ok (.iadd, 1) := dk_96 (dk_at dksX1_boardErrors_5 5 rfl rfl)
theorem dX1_boardErrors_121 : decode cX1_boardErrors 121 = .ok (.istore_n 2, 1) := dk_61 (dk_at dksX1_boardErrors_5 6 rfl rfl)
theorem dX1_boardErrors_122 : decode cX1_boardErrors 122 = .ok (.iload_n 1, 1) := dk_27 (dk_at dksX1_boardErrors_5 7 rfl rfl)
theorem dX1_boardErrors_123 : decode cX1_boardErrors 123 = .ok (.iload_n 2, 1) := dk_28 (dk_at dksX1_boardErrors_5 8 rfl rfl)
theorem dX1_boardErrors_124 : decode cX1_boardErrors 124 = .ok (.aload_n 0, 1) := dk_42 (dk_at dksX1_boardErrors_5 9 rfl rfl)
theorem dX1_boardErrors_125 : decode cX1_boardErrors 125 = .ok (.getfield 27, 3) := dk_180 0 27 (dk_at dksX1_boardErrors_5 10 rfl rfl)
theorem dX1_boardErrors_128 : decode cX1_boardErrors 128 = .ok (.invokeinterface 180 1, 5) := by decide +kernel
theorem dX1_boardErrors_133 : decode cX1_boardErrors 133 = .ok (.if_icmp .ne 7, 3) := dk_160 0 7 (dk_at dksX1_boardErrors_5 18 rfl rfl)
theorem dX1_boardErrors_136 : decode cX1_boardErrors 136 = .ok (.iconst 0, 1) := dk_3 (dk_at dksX1_boardErrors_5 21 rfl rfl)
theorem dX1_boardErrors_137 : decode cX1_boardErrors 137 = .ok (.goto 4, 3) := dk_167 0 4 (dk_at dksX1_boardErrors_6 0 rfl rfl)
theorem dX1_boardErrors_140 : decode cX1_boardErrors 140 = .ok (.iconst 1, 1) := dk_4 (dk_at dksX1_boardErrors_6 3 rfl rfl)
theorem dX1_boardErrors_141 : decode cX1_boardErrors 141 = .ok (.iadd, 1) := dk_96 (dk_at dksX1_boardErrors_6 4 rfl rfl)
theorem dX1_boardErrors_142 : decode cX1_boardErrors 142 = .ok (.ireturn, 1) := dk_172 (dk_at dksX1_boardErrors_6 5 rfl rfl)
abbrev cX1_isWrong : ByteArray := prog_1_method_46_code
def yX1_isWrong : MethodName := ⟨RX1, "isWrong", "(LBogsign$Board;)Z"⟩
def dkwX1_isWrong_4 : List UInt8 := [159, 0, 7, 4, 167, 0, 4, 3, 172]
abbrev dktX1_isWrong_4 : List UInt8 := dkwX1_isWrong_4 ++ []
def dkwX1_isWrong_3 : List UInt8 := [17, 3, 232, 161, 0, 7, 4, 167, 0, 4, 3, 43, 180, 0, 128, 6, 160, 0, 7, 4, 167, 0, 4, 3]
abbrev dktX1_isWrong_3 : List UInt8 := dkwX1_isWrong_3 ++ dktX1_isWrong_4
def dkwX1_isWrong_2 : List UInt8 := [180, 0, 20, 43, 180, 0, 134, 50, 43, 182, 1, 190, 61, 28, 43, 180, 1, 80, 160, 0, 31, 28]
abbrev dktX1_isWrong_2 : List UInt8 := dkwX1_isWrong_2 ++ dktX1_isWrong_3
def dkwX1_isWrong_1 : List UInt8 := [43, 180, 1, 188, 2, 160, 0, 16, 43, 180, 1, 80, 153, 0, 7, 4, 167, 0, 4, 3, 172, 42]
abbrev dktX1_isWrong_1 : List UInt8 := dkwX1_isWrong_1 ++ dktX1_isWrong_2
def dkwX1_isWrong_0 : List UInt8 := [43, 180, 0, 134, 2, 159, 0, 27, 43, 180, 0, 128, 4, 159, 0, 19, 43, 180, 0, 128, 7, 160, 0, 24]
abbrev dktX1_isWrong_0 : List UInt8 := dkwX1_isWrong_0 ++ dktX1_isWrong_1
theorem dksX1_isWrong_0 : cX1_isWrong.data.toList.drop 0 = dktX1_isWrong_0 := by decide +kernel
theorem dksX1_isWrong_1 : cX1_isWrong.data.toList.drop 24 = dktX1_isWrong_1 := dk_seg dksX1_isWrong_0 24 rfl rfl
theorem dksX1_isWrong_2 : cX1_isWrong.data.toList.drop 46 = dktX1_isWrong_2 := dk_seg dksX1_isWrong_1 22 rfl rfl
theorem dksX1_isWrong_3 : cX1_isWrong.data.toList.drop 68 = dktX1_isWrong_3 := dk_seg dksX1_isWrong_2 22 rfl rfl
theorem dksX1_isWrong_4 : cX1_isWrong.data.toList.drop 92 = dktX1_isWrong_4 := dk_seg dksX1_isWrong_3 24 rfl rfl
theorem dX1_isWrong_0 : decode cX1_isWrong 0 = .ok (.aload_n 1, 1) := dk_43 (dk_at dksX1_isWrong_0 0 rfl rfl)
theorem dX1_isWrong_1 : decode cX1_isWrong 1 = .ok (.getfield 134, 3) := dk_180 0 134 (dk_at dksX1_isWrong_0 1 rfl rfl)
theorem dX1_isWrong_4 : decode cX1_isWrong 4 = .ok (.iconst (-1), 1) := dk_2 (dk_at dksX1_isWrong_0 4 rfl rfl)
theorem dX1_isWrong_5 : decode cX1_isWrong 5 = .ok (.if_icmp .eq 27, 3) := dk_159 0 27 (dk_at dksX1_isWrong_0 5 rfl rfl)
theorem dX1_isWrong_8 : decode cX1_isWrong 8 = .ok (.aload_n 1, 1) := dk_43 (dk_at dksX1_isWrong_0 8 rfl rfl)
theorem dX1_isWrong_9 : decode cX1_isWrong 9 = .ok (.getfield 128, 3) := dk_180 0 128 (dk_at dksX1_isWrong_0 9 rfl rfl)
theorem dX1_isWrong_12 : decode cX1_isWrong 12 = .ok (.iconst 1, 1) := dk_4 (dk_at dksX1_isWrong_0 12 rfl rfl)
theorem dX1_isWrong_13 : decode cX1_isWrong 13 = .ok (.if_icmp .eq 19, 3) := dk_159 0 19 (dk_at dksX1_isWrong_0 13 rfl rfl)
theorem dX1_isWrong_16 : decode cX1_isWrong 16 = .ok (.aload_n 1, 1) := dk_43 (dk_at dksX1_isWrong_0 16 rfl rfl)
theorem dX1_isWrong_17 : decode cX1_isWrong 17 = .ok (.getfield 128, 3) := dk_180 0 128 (dk_at dksX1_isWrong_0 17 rfl rfl)
theorem dX1_isWrong_20 : decode cX1_isWrong 20 = .ok (.iconst 4, 1) := dk_7 (dk_at dksX1_isWrong_0 20 rfl rfl)
theorem dX1_isWrong_21 : decode cX1_isWrong 21 = .ok (.if_icmp .ne 24, 3) := dk_160 0 24 (dk_at dksX1_isWrong_0 21 rfl rfl)
theorem dX1_isWrong_24 : decode cX1_isWrong 24 = .ok (.aload_n 1, 1) := dk_43 (dk_at dksX1_isWrong_1 0 rfl rfl)
theorem dX1_isWrong_25 : decode cX1_isWrong 25 = .ok (.getfield 444, 3) := dk_180 1 188 (dk_at dksX1_isWrong_1 1 rfl rfl)
theorem dX1_isWrong_28 : decode cX1_isWrong 28 = .ok (.iconst (-1), 1) := dk_2 (dk_at dksX1_isWrong_1 4 rfl rfl)
theorem dX1_isWrong_29 : decode cX1_isWrong 29 = .ok (.if_icmp .ne 16, 3) := dk_160 0 16 (dk_at dksX1_isWrong_1 5 rfl rfl)
theorem dX1_isWrong_32 : decode cX1_isWrong 32 = .ok (.aload_n 1, 1) := dk_43 (dk_at dksX1_isWrong_1 8 rfl rfl)
theorem dX1_isWrong_33 : decode cX1_isWrong 33 = .ok (.getfield 336, 3) := dk_180 1 80 (dk_at dksX1_isWrong_1 9 rfl rfl)
theorem dX1_isWrong_36 : decode cX1_isWrong 36 = .ok (.ifCond .eq 7, 3) := dk_153 0 7 (dk_at dksX1_isWrong_1 12 rfl rfl)
theorem dX1_isWrong_39 : decode cX1_isWrong 39 = .ok (.iconst 1, 1) := dk_4 (dk_at dksX1_isWrong_1 15 rfl rfl)
theorem dX1_isWrong_40 : decode cX1_isWrong 40 = .ok (.goto 4, 3) := dk_167 0 4 (dk_at dksX1_isWrong_1 16 rfl rfl)
theorem dX1_isWrong_43 : decode cX1_isWrong 43 = .ok (.iconst 0, 1) := dk_3 (dk_at dksX1_isWrong_1 19 rfl rfl)
theorem dX1_isWrong_44 : decode cX1_isWrong 44 = .ok (.ireturn, 1) := dk_172 (dk_at dksX1_isWrong_1 20 rfl rfl)
theorem dX1_isWrong_45 : decode cX1_isWrong 45 = .ok (.aload_n 0, 1) := dk_42 (dk_at dksX1_isWrong_1 21 rfl rfl)
theorem dX1_isWrong_46 : decode cX1_isWrong 46 = .ok (.getfield 20, 3) := dk_180 0 20 (dk_at dksX1_isWrong_2 0 rfl rfl)
theorem dX1_isWrong_49 : decode cX1_isWrong 49 = .ok (.aload_n 1, 1) := dk_43 (dk_at dksX1_isWrong_2 3 rfl rfl)
theorem dX1_isWrong_50 : decode cX1_isWrong 50 = .ok (.getfield 134, 3) := dk_180 0 134 (dk_at dksX1_isWrong_2 4 rfl rfl)
theorem dX1_isWrong_53 : decode cX1_isWrong 53 = .ok (.aaload, 1) := dk_50 (dk_at dksX1_isWrong_2 7 rfl rfl)
theorem dX1_isWrong_54 : decode cX1_isWrong 54 = .ok (.aload_n 1, 1) := dk_43 (dk_at dksX1_isWrong_2 8 rfl rfl)
theorem dX1_isWrong_55 : decode cX1_isWrong 55 = .ok (.invokevirtual 446, 3) := dk_182 1 190 (dk_at dksX1_isWrong_2 9 rfl rfl)
theorem dX1_isWrong_58 : decode cX1_isWrong 58 = .ok (.istore_n 2, 1) := dk_61 (dk_at dksX1_isWrong_2 12 rfl rfl)
theorem dX1_isWrong_59 : decode cX1_isWrong 59 = .ok (.iload_n 2, 1) := dk_28 (dk_at dksX1_isWrong_2 13 rfl rfl)
theorem dX1_isWrong_60 : decode cX1_isWrong 60 = .ok (.aload_n 1, 1) := dk_43 (dk_at dksX1_isWrong_2 14 rfl rfl)
theorem dX1_isWrong_61 : decode cX1_isWrong 61 = .ok (.getfield 336, 3) := dk_180 1 80 (dk_at dksX1_isWrong_2 15 rfl rfl)
theorem dX1_isWrong_64 : decode cX1_isWrong 64 = .ok (.if_icmp .ne 31, 3) := dk_160 0 31 (dk_at dksX1_isWrong_2 18 rfl rfl)
theorem dX1_isWrong_67 : decode cX1_isWrong 67 = .ok (.iload_n 2, 1) := dk_28 (dk_at dksX1_isWrong_2 21 rfl rfl)
theorem dX1_isWrong_68 : decode cX1_isWrong 68 = .ok (.sipush 1000, 3) := dk_17 3 232 (dk_at dksX1_isWrong_3 0 rfl rfl)
theorem dX1_isWrong_71 : decode cX1_isWrong 71 = .ok (.if_icmp .lt 7, 3) := dk_161 0 7 (dk_at dksX1_isWrong_3 3 rfl rfl)
theorem dX1_isWrong_74 : decode cX1_isWrong 74 = .ok (.iconst 1, 1) := dk_4 (dk_at dksX1_isWrong_3 6 rfl rfl)
theorem dX1_isWrong_75 : decode cX1_isWrong 75 = .ok (.goto 4, 3) := dk_167 0 4 (dk_at dksX1_isWrong_3 7 rfl rfl)
theorem dX1_isWrong_78 : decode cX1_isWrong 78 = .ok (.iconst 0, 1) := dk_3 (dk_at dksX1_isWrong_3 10 rfl rfl)
theorem dX1_isWrong_79 : decode cX1_isWrong 79 = .ok (.aload_n 1, 1) := dk_43 (dk_at dksX1_isWrong_3 11 rfl rfl)
theorem dX1_isWrong_80 : decode cX1_isWrong 80 = .ok (.getfield 128, 3) := dk_180 0 128 (dk_at dksX1_isWrong_3 12 rfl rfl)
theorem dX1_isWrong_83 : decode cX1_isWrong 83 = .ok (.iconst 3, 1) := dk_6 (dk_at dksX1_isWrong_3 15 rfl rfl)
theorem dX1_isWrong_84 : decode cX1_isWrong 84 = .ok (.if_icmp .ne 7, 3) := dk_160 0 7 (dk_at dksX1_isWrong_3 16 rfl rfl)
theorem dX1_isWrong_87 : decode cX1_isWrong 87 = .ok (.iconst 1, 1) := dk_4 (dk_at dksX1_isWrong_3 19 rfl rfl)
theorem dX1_isWrong_88 : decode cX1_isWrong 88 = .ok (.goto 4, 3) := dk_167 0 4 (dk_at dksX1_isWrong_3 20 rfl rfl)
theorem dX1_isWrong_91 : decode cX1_isWrong 91 = .ok (.iconst 0, 1) := dk_3 (dk_at dksX1_isWrong_3 23 rfl rfl)
theorem dX1_isWrong_92 : decode cX1_isWrong 92 = .ok (.if_icmp .eq 7, 3) := dk_159 0 7 (dk_at dksX1_isWrong_4 0 rfl rfl)
theorem dX1_isWrong_95 : decode cX1_isWrong 95 = .ok (.iconst 1, 1) := dk_4 (dk_at dksX1_isWrong_4 3 rfl rfl)
theorem dX1_isWrong_96 : decode cX1_isWrong 96 = .ok (.goto 4, 3) := dk_167 0 4 (dk_at dksX1_isWrong_4 4 rfl rfl)
theorem dX1_isWrong_99 : decode cX1_isWrong 99 = .ok (.iconst 0, 1) := dk_3 (dk_at dksX1_isWrong_4 7 rfl rfl)
theorem dX1_isWrong_100 : decode cX1_isWrong 100 = .ok (.ireturn, 1) := dk_172 (dk_at dksX1_isWrong_4 8 rfl rfl)
abbrev cX1_boardsThat : ByteArray := prog_1_method_26_code
def yX1_boardsThat : MethodName := ⟨RX1, "boardsThat", "(I)I"⟩
def dkwX1_boardsThat_2 : List UInt8 := [3, 96, 61, 167, 255, 219, 28, 172]
abbrev dktX1_boardsThat_2 : List UInt8 := dkwX1_boardsThat_2 ++ []
def dkwX1_boardsThat_1 : List UInt8 := [185, 0, 201, 1, 0, 192, 0, 126, 58, 4, 28, 25, 4, 180, 0, 128, 27, 160, 0, 7, 4, 167, 0, 4]
abbrev dktX1_boardsThat_1 : List UInt8 := dkwX1_boardsThat_1 ++ dktX1_boardsThat_2
def dkwX1_boardsThat_0 : List UInt8 := [3, 61, 42, 180, 0, 27, 185, 0, 192, 1, 0, 78, 45, 185, 0, 196, 1, 0, 153, 0, 34, 45]
abbrev dktX1_boardsThat_0 : List UInt8 := dkwX1_boardsThat_0 ++ dktX1_boardsThat_1
theorem dksX1_boardsThat_0 : cX1_boardsThat.data.toList.drop 0 = dktX1_boardsThat_0 := by decide +kernel
theorem dksX1_boardsThat_1 : cX1_boardsThat.data.toList.drop 22 = dktX1_boardsThat_1 := dk_seg dksX1_boardsThat_0 22 rfl rfl
theorem dksX1_boardsThat_2 : cX1_boardsThat.data.toList.drop 46 = dktX1_boardsThat_2 := dk_seg dksX1_boardsThat_1 24 rfl rfl
theorem dX1_boardsThat_0 : decode cX1_boardsThat 0 = .ok (.iconst 0, 1) := dk_3 (dk_at dksX1_boardsThat_0 0 rfl rfl)
theorem dX1_boardsThat_1 : decode cX1_boardsThat 1 = .ok (.istore_n 2, 1) := dk_61 (dk_at dksX1_boardsThat_0 1 rfl rfl)
theorem dX1_boardsThat_2 : decode cX1_boardsThat 2 = .ok (.aload_n 0, 1) := dk_42 (dk_at dksX1_boardsThat_0 2 rfl rfl)
theorem dX1_boardsThat_3 : decode cX1_boardsThat 3 = .ok (.getfield 27, 3) := dk_180 0 27 (dk_at dksX1_boardsThat_0 3 rfl rfl)
theorem dX1_boardsThat_6 : decode cX1_boardsThat 6 = .ok (.invokeinterface 192 1, 5) := by decide +kernel
theorem dX1_boardsThat_11 : decode cX1_boardsThat 11 = .ok (.astore_n 3, 1) := dk_78 (dk_at dksX1_boardsThat_0 11 rfl rfl)
theorem dX1_boardsThat_12 : decode cX1_boardsThat 12 = .ok (.aload_n 3, 1) := dk_45 (dk_at dksX1_boardsThat_0 12 rfl rfl)
theorem dX1_boardsThat_13 : decode cX1_boardsThat 13 = .ok (.invokeinterface 196 1, 5) := by decide +kernel
theorem dX1_boardsThat_18 : decode cX1_boardsThat 18 = .ok (.ifCond .eq 34, 3) := dk_153 0 34 (dk_at dksX1_boardsThat_0 18 rfl rfl)
theorem dX1_boardsThat_21 : decode cX1_boardsThat 21 = .ok (.aload_n 3, 1) := dk_45 (dk_at dksX1_boardsThat_0 21 rfl rfl)
theorem dX1_boardsThat_22 : decode cX1_boardsThat 22 = .ok (.invokeinterface 201 1, 5) := by decide +kernel
theorem dX1_boardsThat_27 : decode cX1_boardsThat 27 = .ok (.checkcast 126, 3) := dk_192 0 126 (dk_at dksX1_boardsThat_1 5 rfl rfl)
theorem dX1_boardsThat_30 : decode cX1_boardsThat 30 = .ok (.astore 4, 2) := dk_58 4 (dk_at dksX1_boardsThat_1 8 rfl rfl)
theorem dX1_boardsThat_32 : decode cX1_boardsThat 32 = .ok (.iload_n 2, 1) := dk_28 (dk_at dksX1_boardsThat_1 10 rfl rfl)
theorem dX1_boardsThat_33 : decode cX1_boardsThat 33 = .ok (.aload 4, 2) := dk_25 4 (dk_at dksX1_boardsThat_1 11 rfl rfl)
theorem dX1_boardsThat_35 : decode cX1_boardsThat 35 = .ok (.getfield 128, 3) := dk_180 0 128 (dk_at dksX1_boardsThat_1 13 rfl rfl)
theorem dX1_boardsThat_38 : decode cX1_boardsThat 38 = .ok (.iload_n 1, 1) := dk_27 (dk_at dksX1_boardsThat_1 16 rfl rfl)
theorem dX1_boardsThat_39 : decode cX1_boardsThat 39 = .ok (.if_icmp .ne 7, 3) := dk_160 0 7 (dk_at dksX1_boardsThat_1 17 rfl rfl)
theorem dX1_boardsThat_42 : decode cX1_boardsThat 42 = .ok (.iconst 1, 1) := dk_4 (dk_at dksX1_boardsThat_1 20 rfl rfl)
theorem dX1_boardsThat_43 : decode cX1_boardsThat 43 = .ok (.goto 4, 3) := dk_167 0 4 (dk_at dksX1_boardsThat_1 21 rfl rfl)
theorem dX1_boardsThat_46 : decode cX1_boardsThat 46 = .ok (.iconst 0, 1) := dk_3 (dk_at dksX1_boardsThat_2 0 rfl rfl)
theorem dX1_boardsThat_47 : decode cX1_boardsThat 47 = .ok (.iadd, 1) := dk_96 (dk_at dksX1_boardsThat_2 1 rfl rfl)
theorem dX1_boardsThat_48 : decode cX1_boardsThat 48 = .ok (.istore_n 2, 1) := dk_61 (dk_at dksX1_boardsThat_2 2 rfl rfl)
theorem dX1_boardsThat_49 : decode cX1_boardsThat 49 = .ok (.goto (-37), 3) := dk_167 255 219 (dk_at dksX1_boardsThat_2 3 rfl rfl)
theorem dX1_boardsThat_52 : decode cX1_boardsThat 52 = .ok (.iload_n 2, 1) := dk_28 (dk_at dksX1_boardsThat_2 6 rfl rfl)
theorem dX1_boardsThat_53 : decode cX1_boardsThat 53 = .ok (.ireturn, 1) := dk_172 (dk_at dksX1_boardsThat_2 7 rfl rfl)
abbrev cX1_meanDepth : ByteArray := prog_1_method_48_code
def yX1_meanDepth : MethodName := ⟨RX1, "meanDepth", "()D"⟩
def dkwX1_meanDepth_4 : List UInt8 := [14, 167, 0, 8, 27, 135, 28, 135, 111, 175]
abbrev dktX1_meanDepth_4 : List UInt8 := dkwX1_meanDepth_4 ++ []
def dkwX1_meanDepth_3 : List UInt8 := [167, 255, 226, 28, 25, 6, 180, 1, 154, 182, 1, 157, 96, 61, 132, 5, 1, 167, 255, 186, 28, 154, 0, 7]
abbrev dktX1_meanDepth_3 : List UInt8 := dkwX1_meanDepth_3 ++ dktX1_meanDepth_4
def dkwX1_meanDepth_2 : List UInt8 := [153, 0, 26, 25, 7, 185, 0, 201, 1, 0, 192, 0, 126, 58, 8, 27, 25, 8, 180, 1, 80, 96, 60]
abbrev dktX1_meanDepth_2 : List UInt8 := dkwX1_meanDepth_2 ++ dktX1_meanDepth_3
def dkwX1_meanDepth_1 : List UInt8 := [21, 5, 50, 58, 6, 25, 6, 180, 1, 154, 182, 1, 198, 58, 7, 25, 7, 185, 0, 196, 1, 0]
abbrev dktX1_meanDepth_1 : List UInt8 := dkwX1_meanDepth_1 ++ dktX1_meanDepth_2
def dkwX1_meanDepth_0 : List UInt8 := [3, 60, 3, 61, 42, 180, 0, 20, 78, 45, 190, 54, 4, 3, 54, 5, 21, 5, 21, 4, 162, 0, 69, 45]
abbrev dktX1_meanDepth_0 : List UInt8 := dkwX1_meanDepth_0 ++ dktX1_meanDepth_1
theorem dksX1_meanDepth_0 : cX1_meanDepth.data.toList.drop 0 = dktX1_meanDepth_0 := by decide +kernel
theorem dksX1_meanDepth_1 : cX1_meanDepth.data.toList.drop 24 = dktX1_meanDepth_1 := dk_seg dksX1_meanDepth_0 24 rfl rfl
theorem dksX1_meanDepth_2 : cX1_meanDepth.data.toList.drop 46 = dktX1_meanDepth_2 := dk_seg dksX1_meanDepth_1 22 rfl rfl
theorem dksX1_meanDepth_3 : cX1_meanDepth.data.toList.drop 69 = dktX1_meanDepth_3 := dk_seg dksX1_meanDepth_2 23 rfl rfl
theorem dksX1_meanDepth_4 : cX1_meanDepth.data.toList.drop 93 = dktX1_meanDepth_4 := dk_seg dksX1_meanDepth_3 24 rfl rfl
theorem dX1_meanDepth_0 : decode cX1_meanDepth 0 = .ok (.iconst 0, 1) := dk_3 (dk_at dksX1_meanDepth_0 0 rfl rfl)
theorem dX1_meanDepth_1 : decode cX1_meanDepth 1 = .ok (.istore_n 1, 1) := dk_60 (dk_at dksX1_meanDepth_0 1 rfl rfl)
theorem dX1_meanDepth_2 : decode cX1_meanDepth 2 = .ok (.iconst 0, 1) := dk_3 (dk_at dksX1_meanDepth_0 2 rfl rfl)
theorem dX1_meanDepth_3 : decode cX1_meanDepth 3 = .ok (.istore_n 2, 1) := dk_61 (dk_at dksX1_meanDepth_0 3 rfl rfl)
theorem dX1_meanDepth_4 : decode cX1_meanDepth 4 = .ok (.aload_n 0, 1) := dk_42 (dk_at dksX1_meanDepth_0 4 rfl rfl)
theorem dX1_meanDepth_5 : decode cX1_meanDepth 5 = .ok (.getfield 20, 3) := dk_180 0 20 (dk_at dksX1_meanDepth_0 5 rfl rfl)
theorem dX1_meanDepth_8 : decode cX1_meanDepth 8 = .ok (.astore_n 3, 1) := dk_78 (dk_at dksX1_meanDepth_0 8 rfl rfl)
theorem dX1_meanDepth_9 : decode cX1_meanDepth 9 = .ok (.aload_n 3, 1) := dk_45 (dk_at dksX1_meanDepth_0 9 rfl rfl)
theorem dX1_meanDepth_10 : decode cX1_meanDepth 10 = .ok (.arraylength, 1) := dk_190 (dk_at dksX1_meanDepth_0 10 rfl rfl)
theorem dX1_meanDepth_11 : decode cX1_meanDepth 11 = .ok (.istore 4, 2) := dk_54 4 (dk_at dksX1_meanDepth_0 11 rfl rfl)
theorem dX1_meanDepth_13 : decode cX1_meanDepth 13 = .ok (.iconst 0, 1) := dk_3 (dk_at dksX1_meanDepth_0 13 rfl rfl)
theorem dX1_meanDepth_14 : decode cX1_meanDepth 14 = .ok (.istore 5, 2) := dk_54 5 (dk_at dksX1_meanDepth_0 14 rfl rfl)
theorem dX1_meanDepth_16 : decode cX1_meanDepth 16 = .ok (.iload 5, 2) := dk_21 5 (dk_at dksX1_meanDepth_0 16 rfl rfl)
theorem dX1_meanDepth_18 : decode cX1_meanDepth 18 = .ok (.iload 4, 2) := dk_21 4 (dk_at dksX1_meanDepth_0 18 rfl rfl)
theorem dX1_meanDepth_20 : decode cX1_meanDepth 20 = .ok (.if_icmp .ge 69, 3) := dk_162 0 69 (dk_at dksX1_meanDepth_0 20 rfl rfl)
theorem dX1_meanDepth_23 : decode cX1_meanDepth 23 = .ok (.aload_n 3, 1) := dk_45 (dk_at dksX1_meanDepth_0 23 rfl rfl)
theorem dX1_meanDepth_24 : decode cX1_meanDepth 24 = .ok (.iload 5, 2) := dk_21 5 (dk_at dksX1_meanDepth_1 0 rfl rfl)
theorem dX1_meanDepth_26 : decode cX1_meanDepth 26 = .ok (.aaload, 1) := dk_50 (dk_at dksX1_meanDepth_1 2 rfl rfl)
theorem dX1_meanDepth_27 : decode cX1_meanDepth 27 = .ok (.astore 6, 2) := dk_58 6 (dk_at dksX1_meanDepth_1 3 rfl rfl)
theorem dX1_meanDepth_29 : decode cX1_meanDepth 29 = .ok (.aload 6, 2) := dk_25 6 (dk_at dksX1_meanDepth_1 5 rfl rfl)
theorem dX1_meanDepth_31 : decode cX1_meanDepth 31 = .ok (.getfield 410, 3) := dk_180 1 154 (dk_at dksX1_meanDepth_1 7 rfl rfl)
theorem dX1_meanDepth_34 : decode cX1_meanDepth 34 = .ok (.invokevirtual 454, 3) := dk_182 1 198 (dk_at dksX1_meanDepth_1 10 rfl rfl)
theorem dX1_meanDepth_37 : decode cX1_meanDepth 37 = .ok (.astore 7, 2) := dk_58 7 (dk_at dksX1_meanDepth_1 13 rfl rfl)
theorem dX1_meanDepth_39 : decode cX1_meanDepth 39 = .ok (.aload 7, 2) := dk_25 7 (dk_at dksX1_meanDepth_1 15 rfl rfl)
theorem dX1_meanDepth_41 : decode cX1_meanDepth 41 = .ok (.invokeinterface 196 1, 5) := by decide +kernel
theorem dX1_meanDepth_46 : decode cX1_meanDepth 46 = .ok (.ifCond .eq 26, 3) := dk_153 0 26 (dk_at dksX1_meanDepth_2 0 rfl rfl)
theorem dX1_meanDepth_49 : decode cX1_meanDepth 49 = .ok (.aload 7, 2) := dk_25 7 (dk_at dksX1_meanDepth_2 3 rfl rfl)
theorem dX1_meanDepth_51 : decode cX1_meanDepth 51 = .ok (.invokeinterface 201 1, 5) := by decide +kernel
theorem dX1_meanDepth_56 : decode cX1_meanDepth 56 = .ok (.checkcast 126, 3) := dk_192 0 126 (dk_at dksX1_meanDepth_2 10 rfl rfl)
theorem dX1_meanDepth_59 : decode cX1_meanDepth 59 = .ok (.astore 8, 2) := dk_58 8 (dk_at dksX1_meanDepth_2 13 rfl rfl)
theorem dX1_meanDepth_61 : decode cX1_meanDepth 61 = .ok (.iload_n 1, 1) := dk_27 (dk_at dksX1_meanDepth_2 15 rfl rfl)
theorem dX1_meanDepth_62 : decode cX1_meanDepth 62 = .ok (.aload 8, 2) := dk_25 8 (dk_at dksX1_meanDepth_2 16 rfl rfl)
theorem dX1_meanDepth_64 : decode cX1_meanDepth 64 = .ok (.getfield 336, 3) := dk_180 1 80 (dk_at dksX1_meanDepth_2 18 rfl rfl)
theorem dX1_meanDepth_67 : decode cX1_meanDepth 67 = .ok (.iadd, 1) := dk_96 (dk_at dksX1_meanDepth_2 21 rfl rfl)
theorem dX1_meanDepth_68 : decode cX1_meanDepth 68 = .ok (.istore_n 1, 1) := dk_60 (dk_at dksX1_meanDepth_2 22 rfl rfl)
theorem dX1_meanDepth_69 : decode cX1_meanDepth 69 = .ok (.goto (-30), 3) := dk_167 255 226 (dk_at dksX1_meanDepth_3 0 rfl rfl)
theorem dX1_meanDepth_72 : decode cX1_meanDepth 72 = .ok (.iload_n 2, 1) := dk_28 (dk_at dksX1_meanDepth_3 3 rfl rfl)
theorem dX1_meanDepth_73 : decode cX1_meanDepth 73 = .ok (.aload 6, 2) := dk_25 6 (dk_at dksX1_meanDepth_3 4 rfl rfl)
theorem dX1_meanDepth_75 : decode cX1_meanDepth 75 = .ok (.getfield 410, 3) := dk_180 1 154 (dk_at dksX1_meanDepth_3 6 rfl rfl)
theorem dX1_meanDepth_78 : decode cX1_meanDepth 78 = .ok (.invokevirtual 413, 3) := dk_182 1 157 (dk_at dksX1_meanDepth_3 9 rfl rfl)
theorem dX1_meanDepth_81 : decode cX1_meanDepth 81 = .ok (.iadd, 1) := dk_96 (dk_at dksX1_meanDepth_3 12 rfl rfl)
theorem dX1_meanDepth_82 : decode cX1_meanDepth 82 = .ok (.istore_n 2, 1) := dk_61 (dk_at dksX1_meanDepth_3 13 rfl rfl)
theorem dX1_meanDepth_83 : decode cX1_meanDepth 83 = .ok (.iinc 5 1, 3) := dk_132 5 1 (dk_at dksX1_meanDepth_3 14 rfl rfl)
theorem dX1_meanDepth_86 : decode cX1_meanDepth 86 = .ok (.goto (-70), 3) := dk_167 255 186 (dk_at dksX1_meanDepth_3 17 rfl rfl)
theorem dX1_meanDepth_89 : decode cX1_meanDepth 89 = .ok (.iload_n 2, 1) := dk_28 (dk_at dksX1_meanDepth_3 20 rfl rfl)
theorem dX1_meanDepth_90 : decode cX1_meanDepth 90 = .ok (.ifCond .ne 7, 3) := dk_154 0 7 (dk_at dksX1_meanDepth_3 21 rfl rfl)
theorem dX1_meanDepth_93 : decode cX1_meanDepth 93 = .ok (.dconst 0, 1) := dk_14 (dk_at dksX1_meanDepth_4 0 rfl rfl)
theorem dX1_meanDepth_94 : decode cX1_meanDepth 94 = .ok (.goto 8, 3) := dk_167 0 8 (dk_at dksX1_meanDepth_4 1 rfl rfl)
theorem dX1_meanDepth_97 : decode cX1_meanDepth 97 = .ok (.iload_n 1, 1) := dk_27 (dk_at dksX1_meanDepth_4 4 rfl rfl)
theorem dX1_meanDepth_98 : decode cX1_meanDepth 98 = .ok (.i2d, 1) := dk_135 (dk_at dksX1_meanDepth_4 5 rfl rfl)
theorem dX1_meanDepth_99 : decode cX1_meanDepth 99 = .ok (.iload_n 2, 1) := dk_28 (dk_at dksX1_meanDepth_4 6 rfl rfl)
theorem dX1_meanDepth_100 : decode cX1_meanDepth 100 = .ok (.i2d, 1) := dk_135 (dk_at dksX1_meanDepth_4 7 rfl rfl)
theorem dX1_meanDepth_101 : decode cX1_meanDepth 101 = .ok (.ddiv, 1) := dk_111 (dk_at dksX1_meanDepth_4 8 rfl rfl)
theorem dX1_meanDepth_102 : decode cX1_meanDepth 102 = .ok (.dreturn, 1) := dk_175 (dk_at dksX1_meanDepth_4 9 rfl rfl)
abbrev cX1_doubtedShare : ByteArray := prog_1_method_49_code
def yX1_doubtedShare : MethodName := ⟨RX1, "doubtedShare", "()F"⟩
def dkwX1_doubtedShare_1 : List UInt8 := [4, 167, 0, 4, 3, 96, 60, 132, 2, 1, 167, 255, 226, 27, 134, 19, 1, 199, 110, 174]
abbrev dktX1_doubtedShare_1 : List UInt8 := dkwX1_doubtedShare_1 ++ []
def dkwX1_doubtedShare_0 : List UInt8 := [3, 60, 3, 61, 28, 16, 6, 162, 0, 30, 27, 42, 42, 180, 0, 20, 28, 50, 182, 1, 164, 153, 0, 7]
abbrev dktX1_doubtedShare_0 : List UInt8 := dkwX1_doubtedShare_0 ++ dktX1_doubtedShare_1
theorem dksX1_doubtedShare_0 : cX1_doubtedShare.data.toList.drop 0 = dktX1_doubtedShare_0 := by decide +kernel
theorem dksX1_doubtedShare_1 : cX1_doubtedShare.data.toList.drop 24 = dktX1_doubtedShare_1 := dk_seg dksX1_doubtedShare_0 24 rfl rfl
theorem dX1_doubtedShare_0 : decode cX1_doubtedShare 0 = .ok (.iconst 0, 1) := dk_3 (dk_at dksX1_doubtedShare_0 0 rfl rfl)
theorem dX1_doubtedShare_1 : decode cX1_doubtedShare 1 = .ok (.istore_n 1, 1) := dk_60 (dk_at dksX1_doubtedShare_0 1 rfl rfl)
theorem dX1_doubtedShare_2 : decode cX1_doubtedShare 2 = .ok (.iconst 0, 1) := dk_3 (dk_at dksX1_doubtedShare_0 2 rfl rfl)
theorem dX1_doubtedShare_3 : decode cX1_doubtedShare 3 = .ok (.istore_n 2, 1) := dk_61 (dk_at dksX1_doubtedShare_0 3 rfl rfl)
theorem dX1_doubtedShare_4 : decode cX1_doubtedShare 4 = .ok (.iload_n 2, 1) := dk_28 (dk_at dksX1_doubtedShare_0 4 rfl rfl)
theorem dX1_doubtedShare_5 : decode cX1_doubtedShare 5 = .ok (.bipush 6, 2) := dk_16 6 (dk_at dksX1_doubtedShare_0 5 rfl rfl)
theorem dX1_doubtedShare_7 : decode cX1_doubtedShare 7 = .ok (.if_icmp .ge 30, 3) := dk_162 0 30 (dk_at dksX1_doubtedShare_0 7 rfl rfl)
theorem dX1_doubtedShare_10 : decode cX1_doubtedShare 10 = .ok (.iload_n 1, 1) := dk_27 (dk_at dksX1_doubtedShare_0 10 rfl rfl)
theorem dX1_doubtedShare_11 : decode cX1_doubtedShare 11 = .ok (.aload_n 0, 1) := dk_42 (dk_at dksX1_doubtedShare_0 11 rfl rfl)
theorem dX1_doubtedShare_12 : decode cX1_doubtedShare 12 = .ok (.aload_n 0, 1) := dk_42 (dk_at dksX1_doubtedShare_0 12 rfl rfl)
theorem dX1_doubtedShare_13 : decode cX1_doubtedShare 13 = .ok (.getfield 20, 3) := dk_180 0 20 (dk_at dksX1_doubtedShare_0 13 rfl rfl)
theorem dX1_doubtedShare_16 : decode cX1_doubtedShare 16 = .ok (.iload_n 2, 1) := dk_28 (dk_at dksX1_doubtedShare_0 16 rfl rfl)
theorem dX1_doubtedShare_17 : decode cX1_doubtedShare 17 = .ok (.aaload, 1) := dk_50 (dk_at dksX1_doubtedShare_0 17 rfl rfl)
theorem dX1_doubtedShare_18 : decode cX1_doubtedShare 18 = .ok (.invokevirtual 420, 3) := dk_182 1 164 (dk_at dksX1_doubtedShare_0 18 rfl rfl)
theorem dX1_doubtedShare_21 : decode cX1_doubtedShare 21 = .ok (.ifCond .eq 7, 3) := dk_153 0 7 (dk_at dksX1_doubtedShare_0 21 rfl rfl)
theorem dX1_doubtedShare_24 : decode cX1_doubtedShare 24 = .ok (.iconst 1, 1) := dk_4 (dk_at dksX1_doubtedShare_1 0 rfl rfl)
theorem dX1_doubtedShare_25 : decode cX1_doubtedShare 25 = .ok (.goto 4, 3) := dk_167 0 4 (dk_at dksX1_doubtedShare_1 1 rfl rfl)
theorem dX1_doubtedShare_28 : decode cX1_doubtedShare 28 = .ok (.iconst 0, 1) := dk_3 (dk_at dksX1_doubtedShare_1 4 rfl rfl)
theorem dX1_doubtedShare_29 : decode cX1_doubtedShare 29 = .ok (.iadd, 1) := dk_96 (dk_at dksX1_doubtedShare_1 5 rfl rfl)
theorem dX1_doubtedShare_30 : decode cX1_doubtedShare 30 = .ok (.istore_n 1, 1) := dk_60 (dk_at dksX1_doubtedShare_1 6 rfl rfl)
theorem dX1_doubtedShare_31 : decode cX1_doubtedShare 31 = .ok (.iinc 2 1, 3) := dk_132 2 1 (dk_at dksX1_doubtedShare_1 7 rfl rfl)
theorem dX1_doubtedShare_34 : decode cX1_doubtedShare 34 = .ok (.goto (-30), 3) := dk_167 255 226 (dk_at dksX1_doubtedShare_1 10 rfl rfl)
theorem dX1_doubtedShare_37 : decode cX1_doubtedShare 37 = .ok (.iload_n 1, 1) := dk_27 (dk_at dksX1_doubtedShare_1 13 rfl rfl)
theorem dX1_doubtedShare_38 : decode cX1_doubtedShare 38 = .ok (.i2f, 1) := dk_134 (dk_at dksX1_doubtedShare_1 14 rfl rfl)
theorem dX1_doubtedShare_39 : decode cX1_doubtedShare 39 = .ok (.ldc_w 455, 3) := dk_19 1 199 (dk_at dksX1_doubtedShare_1 15 rfl rfl)
theorem dX1_doubtedShare_42 : decode cX1_doubtedShare 42 = .ok (.fdiv, 1) := dk_110 (dk_at dksX1_doubtedShare_1 18 rfl rfl)
theorem dX1_doubtedShare_43 : decode cX1_doubtedShare 43 = .ok (.freturn, 1) := dk_174 (dk_at dksX1_doubtedShare_1 19 rfl rfl)
abbrev cX1_isDoubted : ByteArray := prog_1_method_40_code
def yX1_isDoubted : MethodName := ⟨RX1, "isDoubted", "(LBogsign$Stretch;)Z"⟩
def dkwX1_isDoubted_0 : List UInt8 := [42, 43, 182, 1, 150, 42, 180, 0, 67, 161, 0, 7, 4, 167, 0, 4, 3, 172]
abbrev dktX1_isDoubted_0 : List UInt8 := dkwX1_isDoubted_0 ++ []
theorem dksX1_isDoubted_0 : cX1_isDoubted.data.toList.drop 0 = dktX1_isDoubted_0 := by decide +kernel
theorem dX1_isDoubted_0 : decode cX1_isDoubted 0 = .ok (.aload_n 0, 1) := dk_42 (dk_at dksX1_isDoubted_0 0 rfl rfl)
theorem dX1_isDoubted_1 : decode cX1_isDoubted 1 = .ok (.aload_n 1, 1) := dk_43 (dk_at dksX1_isDoubted_0 1 rfl rfl)
theorem dX1_isDoubted_2 : decode cX1_isDoubted 2 = .ok (.invokevirtual 406, 3) := dk_182 1 150 (dk_at dksX1_isDoubted_0 2 rfl rfl)
theorem dX1_isDoubted_5 : decode cX1_isDoubted 5 = .ok (.aload_n 0, 1) := dk_42 (dk_at dksX1_isDoubted_0 5 rfl rfl)
theorem dX1_isDoubted_6 : decode cX1_isDoubted 6 = .ok (.getfield 67, 3) := dk_180 0 67 (dk_at dksX1_isDoubted_0 6 rfl rfl)
theorem dX1_isDoubted_9 : decode cX1_isDoubted 9 = .ok (.if_icmp .lt 7, 3) := dk_161 0 7 (dk_at dksX1_isDoubted_0 9 rfl rfl)
theorem dX1_isDoubted_12 : decode cX1_isDoubted 12 = .ok (.iconst 1, 1) := dk_4 (dk_at dksX1_isDoubted_0 12 rfl rfl)
theorem dX1_isDoubted_13 : decode cX1_isDoubted 13 = .ok (.goto 4, 3) := dk_167 0 4 (dk_at dksX1_isDoubted_0 13 rfl rfl)
theorem dX1_isDoubted_16 : decode cX1_isDoubted 16 = .ok (.iconst 0, 1) := dk_3 (dk_at dksX1_isDoubted_0 16 rfl rfl)
theorem dX1_isDoubted_17 : decode cX1_isDoubted 17 = .ok (.ireturn, 1) := dk_172 (dk_at dksX1_isDoubted_0 17 rfl rfl)
abbrev cX1_guess : ByteArray := prog_1_method_39_code
def yX1_guess : MethodName := ⟨RX1, "guess", "(LBogsign$Stretch;)I"⟩
def dkwX1_guess_2 : List UInt8 := [180, 1, 103, 182, 1, 134, 167, 0, 4, 3, 172]
abbrev dktX1_guess_2 : List UInt8 := dkwX1_guess_2 ++ []
def dkwX1_guess_1 : List UInt8 := [180, 0, 233, 182, 1, 148, 192, 0, 213, 180, 1, 100, 43, 180, 0, 233, 182, 1, 148, 192, 0, 213]
abbrev dktX1_guess_1 : List UInt8 := dkwX1_guess_1 ++ dktX1_guess_2
def dkwX1_guess_0 : List UInt8 := [43, 180, 0, 237, 153, 0, 8, 43, 180, 1, 142, 172, 43, 180, 0, 233, 182, 1, 145, 153, 0, 36, 42, 43]
abbrev dktX1_guess_0 : List UInt8 := dkwX1_guess_0 ++ dktX1_guess_1
theorem dksX1_guess_0 : cX1_guess.data.toList.drop 0 = dktX1_guess_0 := by decide +kernel
theorem dksX1_guess_1 : cX1_guess.data.toList.drop 24 = dktX1_guess_1 := dk_seg dksX1_guess_0 24 rfl rfl
theorem dksX1_guess_2 : cX1_guess.data.toList.drop 46 = dktX1_guess_2 := dk_seg dksX1_guess_1 22 rfl rfl
theorem dX1_guess_0 : decode cX1_guess 0 = .ok (.aload_n 1, 1) := dk_43 (dk_at dksX1_guess_0 0 rfl rfl)
theorem dX1_guess_1 : decode cX1_guess 1 = .ok (.getfield 237, 3) := dk_180 0 237 (dk_at dksX1_guess_0 1 rfl rfl)
theorem dX1_guess_4 : decode cX1_guess 4 = .ok (.ifCond .eq 8, 3) := dk_153 0 8 (dk_at dksX1_guess_0 4 rfl rfl)
theorem dX1_guess_7 : decode cX1_guess 7 = .ok (.aload_n 1, 1) := dk_43 (dk_at dksX1_guess_0 7 rfl rfl)
theorem dX1_guess_8 : decode cX1_guess 8 = .ok (.getfield 398, 3) := dk_180 1 142 (dk_at dksX1_guess_0 8 rfl rfl)
theorem dX1_guess_11 : decode cX1_guess 11 = .ok (.ireturn, 1) := dk_172 (dk_at dksX1_guess_0 11 rfl rfl)
theorem dX1_guess_12 : decode cX1_guess 12 = .ok (.aload_n 1, 1) := dk_43 (dk_at dksX1_guess_0 12 rfl rfl)
theorem dX1_guess_13 : decode cX1_guess 13 = .ok (.getfield 233, 3) := dk_180 0 233 (dk_at dksX1_guess_0 13 rfl rfl)
theorem dX1_guess_16 : decode cX1_guess 16 = .ok (.invokevirtual 401, 3) := dk_182 1 145 (dk_at dksX1_guess_0 16 rfl rfl)
theorem dX1_guess_19 : decode cX1_guess 19 = .ok (.ifCond .eq 36, 3) := dk_153 0 36 (dk_at dksX1_guess_0 19 rfl rfl)
theorem dX1_guess_22 : decode cX1_guess 22 = .ok (.aload_n 0, 1) := dk_42 (dk_at dksX1_guess_0 22 rfl rfl)
theorem dX1_guess_23 : decode cX1_guess 23 = .ok (.aload_n 1, 1) := dk_43 (dk_at dksX1_guess_0 23 rfl rfl)
theorem dX1_guess_24 : decode cX1_guess 24 = .ok (.getfield 233, 3) := dk_180 0 233 (dk_at dksX1_guess_1 0 rfl rfl)
theorem dX1_guess_27 : decode cX1_guess 27 = .ok (.invokevirtual 404, 3) := dk_182 1 148 (dk_at dksX1_guess_1 3 rfl rfl)
theorem dX1_guess_30 : decode cX1_guess 30 = .ok (.checkcast 213, 3) := dk_192 0 213 (dk_at dksX1_guess_1 6 rfl rfl)
theorem dX1_guess_33 : decode cX1_guess 33 = .ok (.getfield 356, 3) := dk_180 1 100 (dk_at dksX1_guess_1 9 rfl rfl)
theorem dX1_guess_36 : decode cX1_guess 36 = .ok (.aload_n 1, 1) := dk_43 (dk_at dksX1_guess_1 12 rfl rfl)
theorem dX1_guess_37 : decode cX1_guess 37 = .ok (.getfield 233, 3) := dk_180 0 233 (dk_at dksX1_guess_1 13 rfl rfl)
theorem dX1_guess_40 : decode cX1_guess 40 = .ok (.invokevirtual 404, 3) := dk_182 1 148 (dk_at dksX1_guess_1 16 rfl rfl)
theorem dX1_guess_43 : decode cX1_guess 43 = .ok (.checkcast 213, 3) := dk_192 0 213 (dk_at dksX1_guess_1 19 rfl rfl)
theorem dX1_guess_46 : decode cX1_guess 46 = .ok (.getfield 359, 3) := dk_180 1 103 (dk_at dksX1_guess_2 0 rfl rfl)
theorem dX1_guess_49 : decode cX1_guess 49 = .ok (.invokevirtual 390, 3) := dk_182 1 134 (dk_at dksX1_guess_2 3 rfl rfl)
theorem dX1_guess_52 : decode cX1_guess 52 = .ok (.goto 4, 3) := dk_167 0 4 (dk_at dksX1_guess_2 6 rfl rfl)
theorem dX1_guess_55 : decode cX1_guess 55 = .ok (.iconst 0, 1) := dk_3 (dk_at dksX1_guess_2 9 rfl rfl)
theorem dX1_guess_56 : decode cX1_guess 56 = .ok (.ireturn, 1) := dk_172 (dk_at dksX1_guess_2 10 rfl rfl)
abbrev cX1_meant : ByteArray := prog_1_method_36_code
def yX1_meant : MethodName := ⟨RX1, "meant", "(II)I"⟩
def dkwX1_meant_0 : List UInt8 := [42, 27, 28, 182, 1, 121, 28, 184, 1, 125, 184, 1, 128, 182, 1, 131, 172]
abbrev dktX1_meant_0 : List UInt8 := dkwX1_meant_0 ++ []
theorem dksX1_meant_0 : cX1_meant.data.toList.drop 0 = dktX1_meant_0 := by decide +kernel
theorem dX1_meant_0 : decode cX1_meant 0 = .ok (.aload_n 0, 1) := dk_42 (dk_at dksX1_meant_0 0 rfl rfl)
theorem dX1_meant_1 : decode cX1_meant 1 = .ok (.iload_n 1, 1) := dk_27 (dk_at dksX1_meant_0 1 rfl rfl)
theorem dX1_meant_2 : decode cX1_meant 2 = .ok (.iload_n 2, 1) := dk_28 (dk_at dksX1_meant_0 2 rfl rfl)
theorem dX1_meant_3 : decode cX1_meant 3 = .ok (.invokevirtual 377, 3) := dk_182 1 121 (dk_at dksX1_meant_0 3 rfl rfl)
theorem dX1_meant_6 : decode cX1_meant 6 = .ok (.iload_n 2, 1) := dk_28 (dk_at dksX1_meant_0 6 rfl rfl)
theorem dX1_meant_7 : decode cX1_meant 7 = .ok (.invokestatic 381, 3) := dk_184 1 125 (dk_at dksX1_meant_0 7 rfl rfl)
theorem dX1_meant_10 : decode cX1_meant 10 = .ok (.invokestatic 384, 3) := dk_184 1 128 (dk_at dksX1_meant_0 10 rfl rfl)
theorem dX1_meant_13 : decode cX1_meant 13 = .ok (.invokevirtual 387, 3) := dk_182 1 131 (dk_at dksX1_meant_0 13 rfl rfl)
theorem dX1_meant_16 : decode cX1_meant 16 = .ok (.ireturn, 1) := dk_172 (dk_at dksX1_meant_0 16 rfl rfl)
abbrev cX1_notesOf : ByteArray := prog_1_method_35_code
def yX1_notesOf : MethodName := ⟨RX1, "notesOf", "(II)LBogsign$Notes;"⟩
def dkwX1_notesOf_0 : List UInt8 := [42, 180, 0, 52, 7, 27, 104, 28, 96, 50, 176]
abbrev dktX1_notesOf_0 : List UInt8 := dkwX1_notesOf_0 ++ []
theorem dksX1_notesOf_0 : cX1_notesOf.data.toList.drop 0 = dktX1_notesOf_0 := by decide +kernel
theorem dX1_notesOf_0 : decode cX1_notesOf 0 = .ok (.aload_n 0, 1) := dk_42 (dk_at dksX1_notesOf_0 0 rfl rfl)
theorem dX1_notesOf_1 : decode cX1_notesOf 1 = .ok (.getfield 52, 3) := dk_180 0 52 (dk_at dksX1_notesOf_0 1 rfl rfl)
theorem dX1_notesOf_4 : decode cX1_notesOf 4 = .ok (.iconst 4, 1) := dk_7 (dk_at dksX1_notesOf_0 4 rfl rfl)
theorem dX1_notesOf_5 : decode cX1_notesOf 5 = .ok (.iload_n 1, 1) := dk_27 (dk_at dksX1_notesOf_0 5 rfl rfl)
theorem dX1_notesOf_6 : decode cX1_notesOf 6 = .ok (.imul, 1) := dk_104 (dk_at dksX1_notesOf_0 6 rfl rfl)
theorem dX1_notesOf_7 : decode cX1_notesOf 7 = .ok (.iload_n 2, 1) := dk_28 (dk_at dksX1_notesOf_0 7 rfl rfl)
theorem dX1_notesOf_8 : decode cX1_notesOf 8 = .ok (.iadd, 1) := dk_96 (dk_at dksX1_notesOf_0 8 rfl rfl)
theorem dX1_notesOf_9 : decode cX1_notesOf 9 = .ok (.aaload, 1) := dk_50 (dk_at dksX1_notesOf_0 9 rfl rfl)
theorem dX1_notesOf_10 : decode cX1_notesOf 10 = .ok (.areturn, 1) := dk_176 (dk_at dksX1_notesOf_0 10 rfl rfl)
abbrev cX1_pass : ByteArray := prog_1_method_19_code
def yX1_pass : MethodName := ⟨RX1, "pass", "(I)I"⟩
def dkwX1_pass_2 : List UInt8 := [42, 180, 0, 141, 172]
abbrev dktX1_pass_2 : List UInt8 := dkwX1_pass_2 ++ []
def dkwX1_pass_1 : List UInt8 := [167, 0, 4, 3, 184, 1, 54, 3, 61, 28, 27, 162, 0, 13, 42, 182, 1, 57, 132, 2, 1, 167, 255, 244]
abbrev dktX1_pass_1 : List UInt8 := dkwX1_pass_1 ++ dktX1_pass_2
def dkwX1_pass_0 : List UInt8 := [27, 4, 16, 100, 184, 0, 73, 184, 0, 81, 42, 180, 0, 141, 27, 96, 17, 19, 136, 163, 0, 7, 4]
abbrev dktX1_pass_0 : List UInt8 := dkwX1_pass_0 ++ dktX1_pass_1
theorem dksX1_pass_0 : cX1_pass.data.toList.drop 0 = dktX1_pass_0 := by decide +kernel
theorem dksX1_pass_1 : cX1_pass.data.toList.drop 23 = dktX1_pass_1 := dk_seg dksX1_pass_0 23 rfl rfl
theorem dksX1_pass_2 : cX1_pass.data.toList.drop 47 = dktX1_pass_2 := dk_seg dksX1_pass_1 24 rfl rfl
theorem dX1_pass_0 : decode cX1_pass 0 = .ok (.iload_n 1, 1) := dk_27 (dk_at dksX1_pass_0 0 rfl rfl)
theorem dX1_pass_1 : decode cX1_pass 1 = .ok (.iconst 1, 1) := dk_4 (dk_at dksX1_pass_0 1 rfl rfl)
theorem dX1_pass_2 : decode cX1_pass 2 = .ok (.bipush 100, 2) := dk_16 100 (dk_at dksX1_pass_0 2 rfl rfl)
theorem dX1_pass_4 : decode cX1_pass 4 = .ok (.invokestatic 73, 3) := dk_184 0 73 (dk_at dksX1_pass_0 4 rfl rfl)
theorem dX1_pass_7 : decode cX1_pass 7 = .ok (.invokestatic 81, 3) := dk_184 0 81 (dk_at dksX1_pass_0 7 rfl rfl)
theorem dX1_pass_10 : decode cX1_pass 10 = .ok (.aload_n 0, 1) := dk_42 (dk_at dksX1_pass_0 10 rfl rfl)
theorem dX1_pass_11 : decode cX1_pass 11 = .ok (.getfield 141, 3) := dk_180 0 141 (dk_at dksX1_pass_0 11 rfl rfl)
theorem dX1_pass_14 : decode cX1_pass 14 = .ok (.iload_n 1, 1) := dk_27 (dk_at dksX1_pass_0 14 rfl rfl)
theorem dX1_pass_15 : decode cX1_pass 15 = .ok (.iadd, 1) := dk_96 (dk_at dksX1_pass_0 15 rfl rfl)
theorem dX1_pass_16 : decode cX1_pass 16 = .ok (.sipush 5000, 3) := dk_17 19 136 (dk_at dksX1_pass_0 16 rfl rfl)
theorem dX1_pass_19 : decode cX1_pass 19 = .ok (.if_icmp .gt 7, 3) := dk_163 0 7 (dk_at dksX1_pass_0 19 rfl rfl)
theorem dX1_pass_22 : decode cX1_pass 22 = .ok (.iconst 1, 1) := dk_4 (dk_at dksX1_pass_0 22 rfl rfl)
theorem dX1_pass_23 : decode cX1_pass 23 = .ok (.goto 4, 3) := dk_167 0 4 (dk_at dksX1_pass_1 0 rfl rfl)
theorem dX1_pass_26 : decode cX1_pass 26 = .ok (.iconst 0, 1) := dk_3 (dk_at dksX1_pass_1 3 rfl rfl)
theorem dX1_pass_27 : decode cX1_pass 27 = .ok (.invokestatic 310, 3) := dk_184 1 54 (dk_at dksX1_pass_1 4 rfl rfl)
theorem dX1_pass_30 : decode cX1_pass 30 = .ok (.iconst 0, 1) := dk_3 (dk_at dksX1_pass_1 7 rfl rfl)
theorem dX1_pass_31 : decode cX1_pass 31 = .ok (.istore_n 2, 1) := dk_61 (dk_at dksX1_pass_1 8 rfl rfl)
theorem dX1_pass_32 : decode cX1_pass 32 = .ok (.iload_n 2, 1) := dk_28 (dk_at dksX1_pass_1 9 rfl rfl)
theorem dX1_pass_33 : decode cX1_pass 33 = .ok (.iload_n 1, 1) := dk_27 (dk_at dksX1_pass_1 10 rfl rfl)
theorem dX1_pass_34 : decode cX1_pass 34 = .ok (.if_icmp .ge 13, 3) := dk_162 0 13 (dk_at dksX1_pass_1 11 rfl rfl)
theorem dX1_pass_37 : decode cX1_pass 37 = .ok (.aload_n 0, 1) := dk_42 (dk_at dksX1_pass_1 14 rfl rfl)
theorem dX1_pass_38 : decode cX1_pass 38 = .ok (.invokevirtual 313, 3) := dk_182 1 57 (dk_at dksX1_pass_1 15 rfl rfl)
theorem dX1_pass_41 : decode cX1_pass 41 = .ok (.iinc 2 1, 3) := dk_132 2 1 (dk_at dksX1_pass_1 18 rfl rfl)
theorem dX1_pass_44 : decode cX1_pass 44 = .ok (.goto (-12), 3) := dk_167 255 244 (dk_at dksX1_pass_1 21 rfl rfl)
theorem dX1_pass_47 : decode cX1_pass 47 = .ok (.aload_n 0, 1) := dk_42 (dk_at dksX1_pass_2 0 rfl rfl)
theorem dX1_pass_48 : decode cX1_pass 48 = .ok (.getfield 141, 3) := dk_180 0 141 (dk_at dksX1_pass_2 1 rfl rfl)
theorem dX1_pass_51 : decode cX1_pass 51 = .ok (.ireturn, 1) := dk_172 (dk_at dksX1_pass_2 4 rfl rfl)
abbrev cX1_isIn : ByteArray := prog_1_method_1_code
def yX1_isIn : MethodName := ⟨RX1, "isIn", "(III)Z"⟩
def dkwX1_isIn_0 : List UInt8 := [26, 27, 161, 0, 12, 26, 28, 163, 0, 7, 4, 167, 0, 4, 3, 172]
abbrev dktX1_isIn_0 : List UInt8 := dkwX1_isIn_0 ++ []
theorem dksX1_isIn_0 : cX1_isIn.data.toList.drop 0 = dktX1_isIn_0 := by decide +kernel
theorem dX1_isIn_0 : decode cX1_isIn 0 = .ok (.iload_n 0, 1) := dk_26 (dk_at dksX1_isIn_0 0 rfl rfl)
theorem dX1_isIn_1 : decode cX1_isIn 1 = .ok (.iload_n 1, 1) := dk_27 (dk_at dksX1_isIn_0 1 rfl rfl)
theorem dX1_isIn_2 : decode cX1_isIn 2 = .ok (.if_icmp .lt 12, 3) := dk_161 0 12 (dk_at dksX1_isIn_0 2 rfl rfl)
theorem dX1_isIn_5 : decode cX1_isIn 5 = .ok (.iload_n 0, 1) := dk_26 (dk_at dksX1_isIn_0 5 rfl rfl)
theorem dX1_isIn_6 : decode cX1_isIn 6 = .ok (.iload_n 2, 1) := dk_28 (dk_at dksX1_isIn_0 6 rfl rfl)
theorem dX1_isIn_7 : decode cX1_isIn 7 = .ok (.if_icmp .gt 7, 3) := dk_163 0 7 (dk_at dksX1_isIn_0 7 rfl rfl)
theorem dX1_isIn_10 : decode cX1_isIn 10 = .ok (.iconst 1, 1) := dk_4 (dk_at dksX1_isIn_0 10 rfl rfl)
theorem dX1_isIn_11 : decode cX1_isIn 11 = .ok (.goto 4, 3) := dk_167 0 4 (dk_at dksX1_isIn_0 11 rfl rfl)
theorem dX1_isIn_14 : decode cX1_isIn 14 = .ok (.iconst 0, 1) := dk_3 (dk_at dksX1_isIn_0 14 rfl rfl)
theorem dX1_isIn_15 : decode cX1_isIn 15 = .ok (.ireturn, 1) := dk_172 (dk_at dksX1_isIn_0 15 rfl rfl)
abbrev cX1_requireArgument : ByteArray := prog_1_method_3_code
def yX1_requireArgument : MethodName := ⟨RX1, "requireArgument", "(Z)V"⟩
def dkwX1_requireArgument_0 : List UInt8 := [26, 154, 0, 11, 187, 0, 7, 89, 183, 0, 9, 191, 177]
abbrev dktX1_requireArgument_0 : List UInt8 := dkwX1_requireArgument_0 ++ []
theorem dksX1_requireArgument_0 : cX1_requireArgument.data.toList.drop 0 = dktX1_requireArgument_0 := by decide +kernel
theorem dX1_requireArgument_0 : decode cX1_requireArgument 0 = .ok (.iload_n 0, 1) := dk_26 (dk_at dksX1_requireArgument_0 0 rfl rfl)
theorem dX1_requireArgument_1 : decode cX1_requireArgument 1 = .ok (.ifCond .ne 11, 3) := dk_154 0 11 (dk_at dksX1_requireArgument_0 1 rfl rfl)
theorem dX1_requireArgument_4 : decode cX1_requireArgument 4 = .ok (.new 7, 3) := dk_187 0 7 (dk_at dksX1_requireArgument_0 4 rfl rfl)
theorem dX1_requireArgument_7 : decode cX1_requireArgument 7 = .ok (.dup, 1) := dk_89 (dk_at dksX1_requireArgument_0 7 rfl rfl)
theorem dX1_requireArgument_8 : decode cX1_requireArgument 8 = .ok (.invokespecial 9, 3) := dk_183 0 9 (dk_at dksX1_requireArgument_0 8 rfl rfl)
theorem dX1_requireArgument_11 : decode cX1_requireArgument 11 = .ok (.athrow, 1) := dk_191 (dk_at dksX1_requireArgument_0 11 rfl rfl)
theorem dX1_requireArgument_12 : decode cX1_requireArgument 12 = .ok (.return_, 1) := dk_177 (dk_at dksX1_requireArgument_0 12 rfl rfl)
abbrev cX1_requireState : ByteArray := prog_1_method_4_code
def yX1_requireState : MethodName := ⟨RX1, "requireState", "(Z)V"⟩
def dkwX1_requireState_0 : List UInt8 := [26, 154, 0, 11, 187, 0, 10, 89, 183, 0, 12, 191, 177]
abbrev dktX1_requireState_0 : List UInt8 := dkwX1_requireState_0 ++ []
theorem dksX1_requireState_0 : cX1_requireState.data.toList.drop 0 = dktX1_requireState_0 := by decide +kernel
theorem dX1_requireState_0 : decode cX1_requireState 0 = .ok (.iload_n 0, 1) := dk_26 (dk_at dksX1_requireState_0 0 rfl rfl)
theorem dX1_requireState_1 : decode cX1_requireState 1 = .ok (.ifCond .ne 11, 3) := dk_154 0 11 (dk_at dksX1_requireState_0 1 rfl rfl)
theorem dX1_requireState_4 : decode cX1_requireState 4 = .ok (.new 10, 3) := dk_187 0 10 (dk_at dksX1_requireState_0 4 rfl rfl)
theorem dX1_requireState_7 : decode cX1_requireState 7 = .ok (.dup, 1) := dk_89 (dk_at dksX1_requireState_0 7 rfl rfl)
theorem dX1_requireState_8 : decode cX1_requireState 8 = .ok (.invokespecial 12, 3) := dk_183 0 12 (dk_at dksX1_requireState_0 8 rfl rfl)
theorem dX1_requireState_11 : decode cX1_requireState 11 = .ok (.athrow, 1) := dk_191 (dk_at dksX1_requireState_0 11 rfl rfl)
theorem dX1_requireState_12 : decode cX1_requireState 12 = .ok (.return_, 1) := dk_177 (dk_at dksX1_requireState_0 12 rfl rfl)
abbrev cX1_goesDay : ByteArray := prog_1_method_18_code
def yX1_goesDay : MethodName := ⟨RX1, "goesDay", "()V"⟩
def dkwX1_goesDay_2 : List UInt8 := [182, 1, 47, 167, 255, 234, 42, 180, 0, 141, 16, 7, 112, 154, 0, 7, 42, 182, 1, 51, 177]
abbrev dktX1_goesDay_2 : List UInt8 := dkwX1_goesDay_2 ++ []
def dkwX1_goesDay_1 : List UInt8 := [192, 0, 94, 76, 43, 198, 0, 24, 43, 182, 1, 43, 154, 0, 17, 42, 43, 182, 1, 44, 192, 1, 45]
abbrev dktX1_goesDay_1 : List UInt8 := dkwX1_goesDay_1 ++ dktX1_goesDay_2
def dkwX1_goesDay_0 : List UInt8 := [42, 89, 180, 0, 141, 4, 96, 181, 0, 141, 42, 180, 0, 63, 42, 180, 0, 141, 184, 0, 84, 182, 1, 40]
abbrev dktX1_goesDay_0 : List UInt8 := dkwX1_goesDay_0 ++ dktX1_goesDay_1
theorem dksX1_goesDay_0 : cX1_goesDay.data.toList.drop 0 = dktX1_goesDay_0 := by decide +kernel
theorem dksX1_goesDay_1 : cX1_goesDay.data.toList.drop 24 = dktX1_goesDay_1 := dk_seg dksX1_goesDay_0 24 rfl rfl
theorem dksX1_goesDay_2 : cX1_goesDay.data.toList.drop 47 = dktX1_goesDay_2 := dk_seg dksX1_goesDay_1 23 rfl rfl
theorem dX1_goesDay_0 : decode cX1_goesDay 0 = .ok (.aload_n 0, 1) := dk_42 (dk_at dksX1_goesDay_0 0 rfl rfl)
theorem dX1_goesDay_1 : decode cX1_goesDay 1 = .ok (.dup, 1) := dk_89 (dk_at dksX1_goesDay_0 1 rfl rfl)
theorem dX1_goesDay_2 : decode cX1_goesDay 2 = .ok (.getfield 141, 3) := dk_180 0 141 (dk_at dksX1_goesDay_0 2 rfl rfl)
theorem dX1_goesDay_5 : decode cX1_goesDay 5 = .ok (.iconst 1, 1) := dk_4 (dk_at dksX1_goesDay_0 5 rfl rfl)
theorem dX1_goesDay_6 : decode cX1_goesDay 6 = .ok (.iadd, 1) := dk_96 (dk_at dksX1_goesDay_0 6 rfl rfl)
theorem dX1_goesDay_7 : decode cX1_goesDay 7 = .ok (.putfield 141, 3) := dk_181 0 141 (dk_at dksX1_goesDay_0 7 rfl rfl)
theorem dX1_goesDay_10 : decode cX1_goesDay 10 = .ok (.aload_n 0, 1) := dk_42 (dk_at dksX1_goesDay_0 10 rfl rfl)
theorem dX1_goesDay_11 : decode cX1_goesDay 11 = .ok (.getfield 63, 3) := dk_180 0 63 (dk_at dksX1_goesDay_0 11 rfl rfl)
theorem dX1_goesDay_14 : decode cX1_goesDay 14 = .ok (.aload_n 0, 1) := dk_42 (dk_at dksX1_goesDay_0 14 rfl rfl)
theorem dX1_goesDay_15 : decode cX1_goesDay 15 = .ok (.getfield 141, 3) := dk_180 0 141 (dk_at dksX1_goesDay_0 15 rfl rfl)
theorem dX1_goesDay_18 : decode cX1_goesDay 18 = .ok (.invokestatic 84, 3) := dk_184 0 84 (dk_at dksX1_goesDay_0 18 rfl rfl)
theorem dX1_goesDay_21 : decode cX1_goesDay 21 = .ok (.invokevirtual 296, 3) := dk_182 1 40 (dk_at dksX1_goesDay_0 21 rfl rfl)
theorem dX1_goesDay_24 : decode cX1_goesDay 24 = .ok (.checkcast 94, 3) := dk_192 0 94 (dk_at dksX1_goesDay_1 0 rfl rfl)
theorem dX1_goesDay_27 : decode cX1_goesDay 27 = .ok (.astore_n 1, 1) := dk_76 (dk_at dksX1_goesDay_1 3 rfl rfl)
theorem dX1_goesDay_28 : decode cX1_goesDay 28 = .ok (.aload_n 1, 1) := dk_43 (dk_at dksX1_goesDay_1 4 rfl rfl)
theorem dX1_goesDay_29 : decode cX1_goesDay 29 = .ok (.ifnull 24, 3) := dk_198 0 24 (dk_at dksX1_goesDay_1 5 rfl rfl)
theorem dX1_goesDay_32 : decode cX1_goesDay 32 = .ok (.aload_n 1, 1) := dk_43 (dk_at dksX1_goesDay_1 8 rfl rfl)
theorem dX1_goesDay_33 : decode cX1_goesDay 33 = .ok (.invokevirtual 299, 3) := dk_182 1 43 (dk_at dksX1_goesDay_1 9 rfl rfl)
theorem dX1_goesDay_36 : decode cX1_goesDay 36 = .ok (.ifCond .ne 17, 3) := dk_154 0 17 (dk_at dksX1_goesDay_1 12 rfl rfl)
theorem dX1_goesDay_39 : decode cX1_goesDay 39 = .ok (.aload_n 0, 1) := dk_42 (dk_at dksX1_goesDay_1 15 rfl rfl)
theorem dX1_goesDay_40 : decode cX1_goesDay 40 = .ok (.aload_n 1, 1) := dk_43 (dk_at dksX1_goesDay_1 16 rfl rfl)
theorem dX1_goesDay_41 : decode cX1_goesDay 41 = .ok (.invokevirtual 300, 3) := dk_182 1 44 (dk_at dksX1_goesDay_1 17 rfl rfl)
theorem dX1_goesDay_44 : decode cX1_goesDay 44 = .ok (.checkcast 301, 3) := dk_192 1 45 (dk_at dksX1_goesDay_1 20 rfl rfl)
theorem dX1_goesDay_47 : decode cX1_goesDay 47 = .ok (.invokevirtual 303, 3) := dk_182 1 47 (dk_at dksX1_goesDay_2 0 rfl rfl)
theorem dX1_goesDay_50 : decode cX1_goesDay 50 = .ok (.goto (-22), 3) := dk_167 255 234 (dk_at dksX1_goesDay_2 3 rfl rfl)
theorem dX1_goesDay_53 : decode cX1_goesDay 53 = .ok (.aload_n 0, 1) := dk_42 (dk_at dksX1_goesDay_2 6 rfl rfl)
theorem dX1_goesDay_54 : decode cX1_goesDay 54 = .ok (.getfield 141, 3) := dk_180 0 141 (dk_at dksX1_goesDay_2 7 rfl rfl)
theorem dX1_goesDay_57 : decode cX1_goesDay 57 = .ok (.bipush 7, 2) := dk_16 7 (dk_at dksX1_goesDay_2 10 rfl rfl)
theorem dX1_goesDay_59 : decode cX1_goesDay 59 = .ok (.irem, 1) := dk_112 (dk_at dksX1_goesDay_2 12 rfl rfl)
theorem dX1_goesDay_60 : decode cX1_goesDay 60 = .ok (.ifCond .ne 7, 3) := dk_154 0 7 (dk_at dksX1_goesDay_2 13 rfl rfl)
theorem dX1_goesDay_63 : decode cX1_goesDay 63 = .ok (.aload_n 0, 1) := dk_42 (dk_at dksX1_goesDay_2 16 rfl rfl)
theorem dX1_goesDay_64 : decode cX1_goesDay 64 = .ok (.invokevirtual 307, 3) := dk_182 1 51 (dk_at dksX1_goesDay_2 17 rfl rfl)
theorem dX1_goesDay_67 : decode cX1_goesDay 67 = .ok (.return_, 1) := dk_177 (dk_at dksX1_goesDay_2 20 rfl rfl)
abbrev cX1_comes : ByteArray := prog_1_method_15_code
def yX1_comes : MethodName := ⟨RX1, "comes", "(LBogsign$Coming;)V"⟩
def dkwX1_comes_2 : List UInt8 := [153, 0, 18, 43, 192, 1, 5, 58, 4, 42, 25, 4, 180, 1, 7, 182, 1, 11, 177]
abbrev dktX1_comes_2 : List UInt8 := dkwX1_comes_2 ++ []
def dkwX1_comes_1 : List UInt8 := [193, 0, 109, 153, 0, 15, 43, 192, 0, 109, 78, 45, 184, 1, 1, 167, 0, 25, 43, 193, 1, 5]
abbrev dktX1_comes_1 : List UInt8 := dkwX1_comes_1 ++ dktX1_comes_2
def dkwX1_comes_0 : List UInt8 := [43, 193, 0, 251, 153, 0, 19, 43, 192, 0, 251, 77, 42, 44, 180, 0, 253, 182, 0, 254, 167, 0, 44, 43]
abbrev dktX1_comes_0 : List UInt8 := dkwX1_comes_0 ++ dktX1_comes_1
theorem dksX1_comes_0 : cX1_comes.data.toList.drop 0 = dktX1_comes_0 := by decide +kernel
theorem dksX1_comes_1 : cX1_comes.data.toList.drop 24 = dktX1_comes_1 := dk_seg dksX1_comes_0 24 rfl rfl
theorem dksX1_comes_2 : cX1_comes.data.toList.drop 46 = dktX1_comes_2 := dk_seg dksX1_comes_1 22 rfl rfl
theorem dX1_comes_0 : decode cX1_comes 0 = .ok (.aload_n 1, 1) := dk_43 (dk_at dksX1_comes_0 0 rfl rfl)
theorem dX1_comes_1 : decode cX1_comes 1 = .ok (.instanceof 251, 3) := dk_193 0 251 (dk_at dksX1_comes_0 1 rfl rfl)
theorem dX1_comes_4 : decode cX1_comes 4 = .ok (.ifCond .eq 19, 3) := dk_153 0 19 (dk_at dksX1_comes_0 4 rfl rfl)
theorem dX1_comes_7 : decode cX1_comes 7 = .ok (.aload_n 1, 1) := dk_43 (dk_at dksX1_comes_0 7 rfl rfl)
theorem dX1_comes_8 : decode cX1_comes 8 = .ok (.checkcast 251, 3) := dk_192 0 251 (dk_at dksX1_comes_0 8 rfl rfl)
theorem dX1_comes_11 : decode cX1_comes 11 = .ok (.astore_n 2, 1) := dk_77 (dk_at dksX1_comes_0 11 rfl rfl)
theorem dX1_comes_12 : decode cX1_comes 12 = .ok (.aload_n 0, 1) := dk_42 (dk_at dksX1_comes_0 12 rfl rfl)
theorem dX1_comes_13 : decode cX1_comes 13 = .ok (.aload_n 2, 1) := dk_44 (dk_at dksX1_comes_0 13 rfl rfl)
theorem dX1_comes_14 : decode cX1_comes 14 = .ok (.getfield 253, 3) := dk_180 0 253 (dk_at dksX1_comes_0 14 rfl rfl)
theorem dX1_comes_17 : decode cX1_comes 17 = .ok (.invokevirtual 254, 3) := dk_182 0 254 (dk_at dksX1_comes_0 17 rfl rfl)
theorem dX1_comes_20 : decode cX1_comes 20 = .ok (.goto 44, 3) := dk_167 0 44 (dk_at dksX1_comes_0 20 rfl rfl)
theorem dX1_comes_23 : decode cX1_comes 23 = .ok (.aload_n 1, 1) := dk_43 (dk_at dksX1_comes_0 23 rfl rfl)
theorem dX1_comes_24 : decode cX1_comes 24 = .ok (.instanceof 109, 3) := dk_193 0 109 (dk_at dksX1_comes_1 0 rfl rfl)
theorem dX1_comes_27 : decode cX1_comes 27 = .ok (.ifCond .eq 15, 3) := dk_153 0 15 (dk_at dksX1_comes_1 3 rfl rfl)
theorem dX1_comes_30 : decode cX1_comes 30 = .ok (.aload_n 1, 1) := dk_43 (dk_at dksX1_comes_1 6 rfl rfl)
theorem dX1_comes_31 : decode cX1_comes 31 = .ok (.checkcast 109, 3) := dk_192 0 109 (dk_at dksX1_comes_1 7 rfl rfl)
theorem dX1_comes_34 : decode cX1_comes 34 = .ok (.astore_n 3, 1) := dk_78 (dk_at dksX1_comes_1 10 rfl rfl)
theorem dX1_comes_35 : decode cX1_comes 35 = .ok (.aload_n 3, 1) := dk_45 (dk_at dksX1_comes_1 11 rfl rfl)
theorem dX1_comes_36 : decode cX1_comes 36 = .ok (.invokestatic 257, 3) := dk_184 1 1 (dk_at dksX1_comes_1 12 rfl rfl)
theorem dX1_comes_39 : decode cX1_comes 39 = .ok (.goto 25, 3) := dk_167 0 25 (dk_at dksX1_comes_1 15 rfl rfl)
theorem dX1_comes_42 : decode cX1_comes 42 = .ok (.aload_n 1, 1) := dk_43 (dk_at dksX1_comes_1 18 rfl rfl)
theorem dX1_comes_43 : decode cX1_comes 43 = .ok (.instanceof 261, 3) := dk_193 1 5 (dk_at dksX1_comes_1 19 rfl rfl)
theorem dX1_comes_46 : decode cX1_comes 46 = .ok (.ifCond .eq 18, 3) := dk_153 0 18 (dk_at dksX1_comes_2 0 rfl rfl)
theorem dX1_comes_49 : decode cX1_comes 49 = .ok (.aload_n 1, 1) := dk_43 (dk_at dksX1_comes_2 3 rfl rfl)
theorem dX1_comes_50 : decode cX1_comes 50 = .ok (.checkcast 261, 3) := dk_192 1 5 (dk_at dksX1_comes_2 4 rfl rfl)
theorem dX1_comes_53 : decode cX1_comes 53 = .ok (.astore 4, 2) := dk_58 4 (dk_at dksX1_comes_2 7 rfl rfl)
theorem dX1_comes_55 : decode cX1_comes 55 = .ok (.aload_n 0, 1) := dk_42 (dk_at dksX1_comes_2 9 rfl rfl)
theorem dX1_comes_56 : decode cX1_comes 56 = .ok (.aload 4, 2) := dk_25 4 (dk_at dksX1_comes_2 10 rfl rfl)
theorem dX1_comes_58 : decode cX1_comes 58 = .ok (.getfield 263, 3) := dk_180 1 7 (dk_at dksX1_comes_2 12 rfl rfl)
theorem dX1_comes_61 : decode cX1_comes 61 = .ok (.invokevirtual 267, 3) := dk_182 1 11 (dk_at dksX1_comes_2 15 rfl rfl)
theorem dX1_comes_64 : decode cX1_comes 64 = .ok (.return_, 1) := dk_177 (dk_at dksX1_comes_2 18 rfl rfl)
abbrev cX1_cutCome : ByteArray := prog_1_method_12_code
def yX1_cutCome : MethodName := ⟨RX1, "cutCome", "(I)V"⟩
def dkwX1_cutCome_2 : List UInt8 := [185, 0, 138, 2, 0, 87, 132, 2, 1, 167, 255, 202, 42, 182, 0, 189, 177]
abbrev dktX1_cutCome_2 : List UInt8 := dkwX1_cutCome_2 ++ []
def dkwX1_cutCome_1 : List UInt8 := [180, 0, 27, 187, 0, 126, 89, 42, 180, 0, 27, 185, 0, 180, 1, 0, 42, 180, 0, 141, 183, 0, 186]
abbrev dktX1_cutCome_1 : List UInt8 := dkwX1_cutCome_1 ++ dktX1_cutCome_2
def dkwX1_cutCome_0 : List UInt8 := [3, 61, 28, 27, 162, 0, 55, 42, 180, 0, 36, 42, 180, 0, 27, 185, 0, 180, 1, 0, 182, 0, 183, 42]
abbrev dktX1_cutCome_0 : List UInt8 := dkwX1_cutCome_0 ++ dktX1_cutCome_1
theorem dksX1_cutCome_0 : cX1_cutCome.data.toList.drop 0 = dktX1_cutCome_0 := by decide +kernel
theorem dksX1_cutCome_1 : cX1_cutCome.data.toList.drop 24 = dktX1_cutCome_1 := dk_seg dksX1_cutCome_0 24 rfl rfl
theorem dksX1_cutCome_2 : cX1_cutCome.data.toList.drop 47 = dktX1_cutCome_2 := dk_seg dksX1_cutCome_1 23 rfl rfl
theorem dX1_cutCome_0 : decode cX1_cutCome 0 = .ok (.iconst 0, 1) := dk_3 (dk_at dksX1_cutCome_0 0 rfl rfl)
theorem dX1_cutCome_1 : decode cX1_cutCome 1 = .ok (.istore_n 2, 1) := dk_61 (dk_at dksX1_cutCome_0 1 rfl rfl)
theorem dX1_cutCome_2 : decode cX1_cutCome 2 = .ok (.iload_n 2, 1) := dk_28 (dk_at dksX1_cutCome_0 2 rfl rfl)
theorem dX1_cutCome_3 : decode cX1_cutCome 3 = .ok (.iload_n 1, 1) := dk_27 (dk_at dksX1_cutCome_0 3 rfl rfl)
theorem dX1_cutCome_4 : decode cX1_cutCome 4 = .ok (.if_icmp .ge 55, 3) := dk_162 0 55 (dk_at dksX1_cutCome_0 4 rfl rfl)
theorem dX1_cutCome_7 : decode cX1_cutCome 7 = .ok (.aload_n 0, 1) := dk_42 (dk_at dksX1_cutCome_0 7 rfl rfl)
theorem dX1_cutCome_8 : decode cX1_cutCome 8 = .ok (.getfield 36, 3) := dk_180 0 36 (dk_at dksX1_cutCome_0 8 rfl rfl)
theorem dX1_cutCome_11 : decode cX1_cutCome 11 = .ok (.aload_n 0, 1) := dk_42 (dk_at dksX1_cutCome_0 11 rfl rfl)
theorem dX1_cutCome_12 : decode cX1_cutCome 12 = .ok (.getfield 27, 3) := dk_180 0 27 (dk_at dksX1_cutCome_0 12 rfl rfl)
theorem dX1_cutCome_15 : decode cX1_cutCome 15 = .ok (.invokeinterface 180 1, 5) := by decide +kernel
theorem dX1_cutCome_20 : decode cX1_cutCome 20 = .ok (.invokevirtual 183, 3) := dk_182 0 183 (dk_at dksX1_cutCome_0 20 rfl rfl)
theorem dX1_cutCome_23 : decode cX1_cutCome 23 = .ok (.aload_n 0, 1) := dk_42 (dk_at dksX1_cutCome_0 23 rfl rfl)
theorem dX1_cutCome_24 : decode cX1_cutCome 24 = .ok (.getfield 27, 3) := dk_180 0 27 (dk_at dksX1_cutCome_1 0 rfl rfl)
theorem dX1_cutCome_27 : decode cX1_cutCome 27 = .ok (.new 126, 3) := dk_187 0 126 (dk_at dksX1_cutCome_1 3 rfl rfl)
theorem dX1_cutCome_30 : decode cX1_cutCome 30 = .ok (.dup, 1) := dk_89 (dk_at dksX1_cutCome_1 6 rfl rfl)
theorem dX1_cutCome_31 : decode cX1_cutCome 31 = .ok (.aload_n 0, 1) := dk_42 (dk_at dksX1_cutCome_1 7 rfl rfl)
theorem dX1_cutCome_32 : decode cX1_cutCome 32 = .ok (.getfield 27, 3) := dk_180 0 27 (dk_at dksX1_cutCome_1 8 rfl rfl)
theorem dX1_cutCome_35 : decode cX1_cutCome 35 = .ok (.invokeinterface 180 1, 5) := by decide +kernel
theorem dX1_cutCome_40 : decode cX1_cutCome 40 = .ok (.aload_n 0, 1) := dk_42 (dk_at dksX1_cutCome_1 16 rfl rfl)
theorem dX1_cutCome_41 : decode cX1_cutCome 41 = .ok (.getfield 141, 3) := dk_180 0 141 (dk_at dksX1_cutCome_1 17 rfl rfl)
theorem dX1_cutCome_44 : decode cX1_cutCome 44 = .ok (.invokespecial 186, 3) := dk_183 0 186 (dk_at dksX1_cutCome_1 20 rfl rfl)
theorem dX1_cutCome_47 : decode cX1_cutCome 47 = .ok (.invokeinterface 138 2, 5) := by decide +kernel
theorem dX1_cutCome_52 : decode cX1_cutCome 52 = .ok (.pop, 1) := dk_87 (dk_at dksX1_cutCome_2 5 rfl rfl)
theorem dX1_cutCome_53 : decode cX1_cutCome 53 = .ok (.iinc 2 1, 3) := dk_132 2 1 (dk_at dksX1_cutCome_2 6 rfl rfl)
theorem dX1_cutCome_56 : decode cX1_cutCome 56 = .ok (.goto (-54), 3) := dk_167 255 202 (dk_at dksX1_cutCome_2 9 rfl rfl)
theorem dX1_cutCome_59 : decode cX1_cutCome 59 = .ok (.aload_n 0, 1) := dk_42 (dk_at dksX1_cutCome_2 12 rfl rfl)
theorem dX1_cutCome_60 : decode cX1_cutCome 60 = .ok (.invokevirtual 189, 3) := dk_182 0 189 (dk_at dksX1_cutCome_2 13 rfl rfl)
theorem dX1_cutCome_63 : decode cX1_cutCome 63 = .ok (.return_, 1) := dk_177 (dk_at dksX1_cutCome_2 16 rfl rfl)
abbrev cX1_serves : ByteArray := prog_1_method_11_code
def yX1_serves : MethodName := ⟨RX1, "serves", "()V"⟩
def dkwX1_serves_3 : List UInt8 := [180, 0, 159, 154, 0, 14, 42, 180, 0, 43, 182, 0, 177, 192, 0, 157, 76, 167, 255, 167, 177]
abbrev dktX1_serves_3 : List UInt8 := dkwX1_serves_3 ++ []
def dkwX1_serves_2 : List UInt8 := [180, 0, 20, 43, 180, 0, 172, 50, 28, 182, 0, 173, 62, 43, 89, 180, 0, 159, 28, 100, 181, 0, 159, 43]
abbrev dktX1_serves_2 : List UInt8 := dkwX1_serves_2 ++ dktX1_serves_3
def dkwX1_serves_1 : List UInt8 := [182, 0, 153, 192, 0, 157, 76, 43, 180, 0, 159, 42, 180, 0, 36, 182, 0, 162, 184, 0, 166, 61, 42, 42]
abbrev dktX1_serves_1 : List UInt8 := dkwX1_serves_1 ++ dktX1_serves_2
def dkwX1_serves_0 : List UInt8 := [42, 180, 0, 43, 182, 0, 148, 154, 0, 85, 42, 180, 0, 36, 182, 0, 152, 154, 0, 75, 42, 180, 0, 43]
abbrev dktX1_serves_0 : List UInt8 := dkwX1_serves_0 ++ dktX1_serves_1
theorem dksX1_serves_0 : cX1_serves.data.toList.drop 0 = dktX1_serves_0 := by decide +kernel
theorem dksX1_serves_1 : cX1_serves.data.toList.drop 24 = dktX1_serves_1 := dk_seg dksX1_serves_0 24 rfl rfl
theorem dksX1_serves_2 : cX1_serves.data.toList.drop 48 = dktX1_serves_2 := dk_seg dksX1_serves_1 24 rfl rfl
theorem dksX1_serves_3 : cX1_serves.data.toList.drop 72 = dktX1_serves_3 := dk_seg dksX1_serves_2 24 rfl rfl
theorem dX1_serves_0 : decode cX1_serves 0 = .ok (.aload_n 0, 1) := dk_42 (dk_at dksX1_serves_0 0 rfl rfl)
theorem dX1_serves_1 : decode cX1_serves 1 = .ok (.getfield 43, 3) := dk_180 0 43 (dk_at dksX1_serves_0 1 rfl rfl)
theorem dX1_serves_4 : decode cX1_serves 4 = .ok (.invokevirtual 148, 3) := dk_182 0 148 (dk_at dksX1_serves_0 4 rfl rfl)
theorem dX1_serves_7 : decode cX1_serves 7 = .ok (.ifCond .ne 85, 3) := dk_154 0 85 (dk_at dksX1_serves_0 7 rfl rfl)
theorem dX1_serves_10 : decode cX1_serves 10 = .ok (.aload_n 0, 1) := dk_42 (dk_at dksX1_serves_0 10 rfl rfl)
theorem dX1_serves_11 : decode cX1_serves 11 = .ok (.getfield 36, 3) := dk_180 0 36 (dk_at dksX1_serves_0 11 rfl rfl)
theorem dX1_serves_14 : decode cX1_serves 14 = .ok (.invokevirtual 152, 3) := dk_182 0 152 (dk_at dksX1_serves_0 14 rfl rfl)
theorem dX1_serves_17 : decode cX1_serves 17 = .ok (.ifCond .ne 75, 3) := dk_154 0 75 (dk_at dksX1_serves_0 17 rfl rfl)
theorem dX1_serves_20 : decode cX1_serves 20 = .ok (.aload_n 0, 1) := dk_42 (dk_at dksX1_serves_0 20 rfl rfl)
theorem dX1_serves_21 : decode cX1_serves 21 = .ok (.getfield 43, 3) := dk_180 0 43 (dk_at dksX1_serves_0 21 rfl rfl)
theorem dX1_serves_24 : decode cX1_serves 24 = .ok (.invokevirtual 153, 3) := dk_182 0 153 (dk_at dksX1_serves_1 0 rfl rfl)
theorem dX1_serves_27 : decode cX1_serves 27 = .ok (.checkcast 157, 3) := dk_192 0 157 (dk_at dksX1_serves_1 3 rfl rfl)
theorem dX1_serves_30 : decode cX1_serves 30 = .ok (.astore_n 1, 1) := dk_76 (dk_at dksX1_serves_1 6 rfl rfl)
theorem dX1_serves_31 : decode cX1_serves 31 = .ok (.aload_n 1, 1) := dk_43 (dk_at dksX1_serves_1 7 rfl rfl)
theorem dX1_serves_32 : decode cX1_serves 32 = .ok (.getfield 159, 3) := dk_180 0 159 (dk_at dksX1_serves_1 8 rfl rfl)
theorem dX1_serves_35 : decode cX1_serves 35 = .ok (.aload_n 0, 1) := dk_42 (dk_at dksX1_serves_1 11 rfl rfl)
theorem dX1_serves_36 : decode cX1_serves 36 = .ok (.getfield 36, 3) := dk_180 0 36 (dk_at dksX1_serves_1 12 rfl rfl)
theorem dX1_serves_39 : decode cX1_serves 39 = .ok (.invokevirtual 162, 3) := dk_182 0 162 (dk_at dksX1_serves_1 15 rfl rfl)
theorem dX1_serves_42 : decode cX1_serves 42 = .ok (.invokestatic 166, 3) := dk_184 0 166 (dk_at dksX1_serves_1 18 rfl rfl)
theorem dX1_serves_45 : decode cX1_serves 45 = .ok (.istore_n 2, 1) := dk_61 (dk_at dksX1_serves_1 21 rfl rfl)
theorem dX1_serves_46 : decode cX1_serves 46 = .ok (.aload_n 0, 1) := dk_42 (dk_at dksX1_serves_1 22 rfl rfl)
theorem dX1_serves_47 : decode cX1_serves 47 = .ok (.aload_n 0, 1) := dk_42 (dk_at dksX1_serves_1 23 rfl rfl)
theorem dX1_serves_48 : decode cX1_serves 48 = .ok (.getfield 20, 3) := dk_180 0 20 (dk_at dksX1_serves_2 0 rfl rfl)
theorem dX1_serves_51 : decode cX1_serves 51 = .ok (.aload_n 1, 1) := dk_43 (dk_at dksX1_serves_2 3 rfl rfl)
theorem dX1_serves_52 : decode cX1_serves 52 = .ok (.getfield 172, 3) := dk_180 0 172 (dk_at dksX1_serves_2 4 rfl rfl)
theorem dX1_serves_55 : decode cX1_serves 55 = .ok (.aaload, 1) := dk_50 (dk_at dksX1_serves_2 7 rfl rfl)
theorem dX1_serves_56 : decode cX1_serves 56 = .ok (.iload_n 2, 1) := dk_28 (dk_at dksX1_serves_2 8 rfl rfl)
theorem dX1_serves_57 : decode cX1_serves 57 = .ok (.invokevirtual 173, 3) := dk_182 0 173 (dk_at dksX1_serves_2 9 rfl rfl)
theorem dX1_serves_60 : decode cX1_serves 60 = .ok (.istore_n 3, 1) := dk_62 (dk_at dksX1_serves_2 12 rfl rfl)
theorem dX1_serves_61 : decode cX1_serves 61 = .ok (.aload_n 1, 1) := dk_43 (dk_at dksX1_serves_2 13 rfl rfl)
theorem dX1_serves_62 : decode cX1_serves 62 = .ok (.dup, 1) := dk_89 (dk_at dksX1_serves_2 14 rfl rfl)
theorem dX1_serves_63 : decode cX1_serves 63 = .ok (.getfield 159, 3) := dk_180 0 159 (dk_at dksX1_serves_2 15 rfl rfl)
theorem dX1_serves_66 : decode cX1_serves 66 = .ok (.iload_n 2, 1) := dk_28 (dk_at dksX1_serves_2 18 rfl rfl)
theorem dX1_serves_67 : decode cX1_serves 67 = .ok (.isub, 1) := dk_100 (dk_at dksX1_serves_2 19 rfl rfl)
theorem dX1_serves_68 : decode cX1_serves 68 = .ok (.putfield 159, 3) := dk_181 0 159 (dk_at dksX1_serves_2 20 rfl rfl)
theorem dX1_serves_71 : decode cX1_serves 71 = .ok (.aload_n 1, 1) := dk_43 (dk_at dksX1_serves_2 23 rfl rfl)
theorem dX1_serves_72 : decode cX1_serves 72 = .ok (.getfield 159, 3) := dk_180 0 159 (dk_at dksX1_serves_3 0 rfl rfl)
theorem dX1_serves_75 : decode cX1_serves 75 = .ok (.ifCond .ne 14, 3) := dk_154 0 14 (dk_at dksX1_serves_3 3 rfl rfl)
theorem dX1_serves_78 : decode cX1_serves 78 = .ok (.aload_n 0, 1) := dk_42 (dk_at dksX1_serves_3 6 rfl rfl)
theorem dX1_serves_79 : decode cX1_serves 79 = .ok (.getfield 43, 3) := dk_180 0 43 (dk_at dksX1_serves_3 7 rfl rfl)
theorem dX1_serves_82 : decode cX1_serves 82 = .ok (.invokevirtual 177, 3) := dk_182 0 177 (dk_at dksX1_serves_3 10 rfl rfl)
theorem dX1_serves_85 : decode cX1_serves 85 = .ok (.checkcast 157, 3) := dk_192 0 157 (dk_at dksX1_serves_3 13 rfl rfl)
theorem dX1_serves_88 : decode cX1_serves 88 = .ok (.astore_n 1, 1) := dk_76 (dk_at dksX1_serves_3 16 rfl rfl)
theorem dX1_serves_89 : decode cX1_serves 89 = .ok (.goto (-89), 3) := dk_167 255 167 (dk_at dksX1_serves_3 17 rfl rfl)
theorem dX1_serves_92 : decode cX1_serves 92 = .ok (.return_, 1) := dk_177 (dk_at dksX1_serves_3 20 rfl rfl)
abbrev cX1_sends : ByteArray := prog_1_method_10_code
def yX1_sends : MethodName := ⟨RX1, "sends", "(LBogsign$Stretch;I)I"⟩
def dkwX1_sends_5 : List UInt8 := [172]
abbrev dktX1_sends_5 : List UInt8 := dkwX1_sends_5 ++ []
def dkwX1_sends_4 : List UInt8 := [180, 0, 141, 4, 96, 43, 180, 0, 131, 16, 6, 112, 96, 54, 4, 42, 21, 4, 45, 182, 0, 144, 21, 4]
abbrev dktX1_sends_4 : List UInt8 := dkwX1_sends_4 ++ dktX1_sends_5
def dkwX1_sends_3 : List UInt8 := [181, 0, 134, 45, 180, 0, 137, 25, 6, 185, 0, 138, 2, 0, 87, 132, 4, 1, 167, 255, 185, 42]
abbrev dktX1_sends_3 : List UInt8 := dkwX1_sends_3 ++ dktX1_sends_4
def dkwX1_sends_2 : List UInt8 := [185, 0, 121, 2, 0, 192, 0, 126, 58, 6, 25, 6, 4, 181, 0, 128, 25, 6, 43, 180, 0, 131]
abbrev dktX1_sends_2 : List UInt8 := dkwX1_sends_2 ++ dktX1_sends_3
def dkwX1_sends_1 : List UInt8 := [182, 0, 114, 54, 5, 42, 180, 0, 36, 21, 5, 182, 0, 118, 42, 180, 0, 27, 21, 5]
abbrev dktX1_sends_1 : List UInt8 := dkwX1_sends_1 ++ dktX1_sends_2
def dkwX1_sends_0 : List UInt8 := [187, 0, 109, 89, 43, 183, 0, 111, 78, 3, 54, 4, 21, 4, 28, 162, 0, 71, 42, 180, 0, 36, 3]
abbrev dktX1_sends_0 : List UInt8 := dkwX1_sends_0 ++ dktX1_sends_1
theorem dksX1_sends_0 : cX1_sends.data.toList.drop 0 = dktX1_sends_0 := by decide +kernel
theorem dksX1_sends_1 : cX1_sends.data.toList.drop 23 = dktX1_sends_1 := dk_seg dksX1_sends_0 23 rfl rfl
theorem dksX1_sends_2 : cX1_sends.data.toList.drop 43 = dktX1_sends_2 := dk_seg dksX1_sends_1 20 rfl rfl
theorem dksX1_sends_3 : cX1_sends.data.toList.drop 65 = dktX1_sends_3 := dk_seg dksX1_sends_2 22 rfl rfl
theorem dksX1_sends_4 : cX1_sends.data.toList.drop 87 = dktX1_sends_4 := dk_seg dksX1_sends_3 22 rfl rfl
theorem dksX1_sends_5 : cX1_sends.data.toList.drop 111 = dktX1_sends_5 := dk_seg dksX1_sends_4 24 rfl rfl
theorem dX1_sends_0 : decode cX1_sends 0 = .ok (.new 109, 3) := dk_187 0 109 (dk_at dksX1_sends_0 0 rfl rfl)
theorem dX1_sends_3 : decode cX1_sends 3 = .ok (.dup, 1) := dk_89 (dk_at dksX1_sends_0 3 rfl rfl)
theorem dX1_sends_4 : decode cX1_sends 4 = .ok (.aload_n 1, 1) := dk_43 (dk_at dksX1_sends_0 4 rfl rfl)
theorem dX1_sends_5 : decode cX1_sends 5 = .ok (.invokespecial 111, 3) := dk_183 0 111 (dk_at dksX1_sends_0 5 rfl rfl)
theorem dX1_sends_8 : decode cX1_sends 8 = .ok (.astore_n 3, 1) := dk_78 (dk_at dksX1_sends_0 8 rfl rfl)
theorem dX1_sends_9 : decode cX1_sends 9 = .ok (.iconst 0, 1) := dk_3 (dk_at dksX1_sends_0 9 rfl rfl)
theorem dX1_sends_10 : decode cX1_sends 10 = .ok (.istore 4, 2) := dk_54 4 (dk_at dksX1_sends_0 10 rfl rfl)
theorem dX1_sends_12 : decode cX1_sends 12 = .ok (.iload 4, 2) := dk_21 4 (dk_at dksX1_sends_0 12 rfl rfl)
theorem dX1_sends_14 : decode cX1_sends 14 = .ok (.iload_n 2, 1) := dk_28 (dk_at dksX1_sends_0 14 rfl rfl)
theorem dX1_sends_15 : decode cX1_sends 15 = .ok (.if_icmp .ge 71, 3) := dk_162 0 71 (dk_at dksX1_sends_0 15 rfl rfl)
theorem dX1_sends_18 : decode cX1_sends 18 = .ok (.aload_n 0, 1) := dk_42 (dk_at dksX1_sends_0 18 rfl rfl)
theorem dX1_sends_19 : decode cX1_sends 19 = .ok (.getfield 36, 3) := dk_180 0 36 (dk_at dksX1_sends_0 19 rfl rfl)
theorem dX1_sends_22 : decode cX1_sends 22 = .ok (.iconst 0, 1) := dk_3 (dk_at dksX1_sends_0 22 rfl rfl)
theorem dX1_sends_23 : decode cX1_sends 23 = .ok (.invokevirtual 114, 3) := dk_182 0 114 (dk_at dksX1_sends_1 0 rfl rfl)
theorem dX1_sends_26 : decode cX1_sends 26 = .ok (.istore 5, 2) := dk_54 5 (dk_at dksX1_sends_1 3 rfl rfl)
theorem dX1_sends_28 : decode cX1_sends 28 = .ok (.aload_n 0, 1) := dk_42 (dk_at dksX1_sends_1 5 rfl rfl)
theorem dX1_sends_29 : decode cX1_sends 29 = .ok (.getfield 36, 3) := dk_180 0 36 (dk_at dksX1_sends_1 6 rfl rfl)
theorem dX1_sends_32 : decode cX1_sends 32 = .ok (.iload 5, 2) := dk_21 5 (dk_at dksX1_sends_1 9 rfl rfl)
theorem dX1_sends_34 : decode cX1_sends 34 = .ok (.invokevirtual 118, 3) := dk_182 0 118 (dk_at dksX1_sends_1 11 rfl rfl)
theorem dX1_sends_37 : decode cX1_sends 37 = .ok (.aload_n 0, 1) := dk_42 (dk_at dksX1_sends_1 14 rfl rfl)
theorem dX1_sends_38 : decode cX1_sends 38 = .ok (.getfield 27, 3) := dk_180 0 27 (dk_at dksX1_sends_1 15 rfl rfl)
theorem dX1_sends_41 : decode cX1_sends 41 = .ok (.iload 5, 2) := dk_21 5 (dk_at dksX1_sends_1 18 rfl rfl)
theorem dX1_sends_43 : decode cX1_sends 43 = .ok (.invokeinterface 121 2, 5) := by decide +kernel
theorem dX1_sends_48 : decode cX1_sends 48 = .ok (.checkcast 126, 3) := dk_192 0 126 (dk_at dksX1_sends_2 5 rfl rfl)
theorem dX1_sends_51 : decode cX1_sends 51 = .ok (.astore 6, 2) := dk_58 6 (dk_at dksX1_sends_2 8 rfl rfl)
theorem dX1_sends_53 : decode cX1_sends 53 = .ok (.aload 6, 2) := dk_25 6 (dk_at dksX1_sends_2 10 rfl rfl)
theorem dX1_sends_55 : decode cX1_sends 55 = .ok (.iconst 1, 1) := dk_4 (dk_at dksX1_sends_2 12 rfl rfl)
theorem dX1_sends_56 : decode cX1_sends 56 = .ok (.putfield 128, 3) := dk_181 0 128 (dk_at dksX1_sends_2 13 rfl rfl)
theorem dX1_sends_59 : decode cX1_sends 59 = .ok (.aload 6, 2) := dk_25 6 (dk_at dksX1_sends_2 16 rfl rfl)
theorem dX1_sends_61 : decode cX1_sends 61 = .ok (.aload_n 1, 1) := dk_43 (dk_at dksX1_sends_2 18 rfl rfl)
theorem dX1_sends_62 : decode cX1_sends 62 = .ok (.getfield 131, 3) := dk_180 0 131 (dk_at dksX1_sends_2 19 rfl rfl)
theorem dX1_sends_65 : decode cX1_sends 65 = .ok (.putfield 134, 3) := dk_181 0 134 (dk_at dksX1_sends_3 0 rfl rfl)
theorem dX1_sends_68 : decode cX1_sends 68 = .ok (.aload_n 3, 1) := dk_45 (dk_at dksX1_sends_3 3 rfl rfl)
theorem dX1_sends_69 : decode cX1_sends 69 = .ok (.getfield 137, 3) := dk_180 0 137 (dk_at dksX1_sends_3 4 rfl rfl)
theorem dX1_sends_72 : decode cX1_sends 72 = .ok (.aload 6, 2) := dk_25 6 (dk_at dksX1_sends_3 7 rfl rfl)
theorem dX1_sends_74 : decode cX1_sends 74 = .ok (.invokeinterface 138 2, 5) := by decide +kernel
theorem dX1_sends_79 : decode cX1_sends 79 = .ok (.pop, 1) := dk_87 (dk_at dksX1_sends_3 14 rfl rfl)
theorem dX1_sends_80 : decode cX1_sends 80 = .ok (.iinc 4 1, 3) := dk_132 4 1 (dk_at dksX1_sends_3 15 rfl rfl)
theorem dX1_sends_83 : decode cX1_sends 83 = .ok (.goto (-71), 3) := dk_167 255 185 (dk_at dksX1_sends_3 18 rfl rfl)
theorem dX1_sends_86 : decode cX1_sends 86 = .ok (.aload_n 0, 1) := dk_42 (dk_at dksX1_sends_3 21 rfl rfl)
theorem dX1_sends_87 : decode cX1_sends 87 = .ok (.getfield 141, 3) := dk_180 0 141 (dk_at dksX1_sends_4 0 rfl rfl)
theorem dX1_sends_90 : decode cX1_sends 90 = .ok (.iconst 1, 1) := dk_4 (dk_at dksX1_sends_4 3 rfl rfl)
theorem dX1_sends_91 : decode cX1_sends 91 = .ok (.iadd, 1) := dk_96 (dk_at dksX1_sends_4 4 rfl rfl)
theorem dX1_sends_92 : decode cX1_sends 92 = .ok (.aload_n 1, 1) := dk_43 (dk_at dksX1_sends_4 5 rfl rfl)
theorem dX1_sends_93 : decode cX1_sends 93 = .ok (.getfield 131, 3) := dk_180 0 131 (dk_at dksX1_sends_4 6 rfl rfl)
theorem dX1_sends_96 : decode cX1_sends 96 = .ok (.bipush 6, 2) := dk_16 6 (dk_at dksX1_sends_4 9 rfl rfl)
theorem dX1_sends_98 : decode cX1_sends 98 = .ok (.irem, 1) := dk_112 (dk_at dksX1_sends_4 11 rfl rfl)
theorem dX1_sends_99 : decode cX1_sends 99 = .ok (.iadd, 1) := dk_96 (dk_at dksX1_sends_4 12 rfl rfl)
theorem dX1_sends_100 : decode cX1_sends 100 = .ok (.istore 4, 2) := dk_54 4 (dk_at dksX1_sends_4 13 rfl rfl)
theorem dX1_sends_102 : decode cX1_sends 102 = .ok (.aload_n 0, 1) := dk_42 (dk_at dksX1_sends_4 15 rfl rfl)
theorem dX1_sends_103 : decode cX1_sends 103 = .ok (.iload 4, 2) := dk_21 4 (dk_at dksX1_sends_4 16 rfl rfl)
theorem dX1_sends_105 : decode cX1_sends 105 = .ok (.aload_n 3, 1) := dk_45 (dk_at dksX1_sends_4 18 rfl rfl)
theorem dX1_sends_106 : decode cX1_sends 106 = .ok (.invokevirtual 144, 3) := dk_182 0 144 (dk_at dksX1_sends_4 19 rfl rfl)
theorem dX1_sends_109 : decode cX1_sends 109 = .ok (.iload 4, 2) := dk_21 4 (dk_at dksX1_sends_4 22 rfl rfl)
theorem dX1_sends_111 : decode cX1_sends 111 = .ok (.ireturn, 1) := dk_172 (dk_at dksX1_sends_5 0 rfl rfl)
abbrev cX1_willCome : ByteArray := prog_1_method_9_code
def yX1_willCome : MethodName := ⟨RX1, "willCome", "(ILBogsign$Coming;)V"⟩
def dkwX1_willCome_2 : List UInt8 := [192, 0, 94, 44, 182, 0, 105, 177]
abbrev dktX1_willCome_2 : List UInt8 := dkwX1_willCome_2 ++ []
def dkwX1_willCome_1 : List UInt8 := [187, 0, 94, 89, 183, 0, 96, 182, 0, 97, 87, 42, 180, 0, 63, 27, 184, 0, 84, 182, 0, 101]
abbrev dktX1_willCome_1 : List UInt8 := dkwX1_willCome_1 ++ dktX1_willCome_2
def dkwX1_willCome_0 : List UInt8 := [42, 180, 0, 63, 27, 184, 0, 84, 182, 0, 90, 154, 0, 22, 42, 180, 0, 63, 27, 184, 0, 84]
abbrev dktX1_willCome_0 : List UInt8 := dkwX1_willCome_0 ++ dktX1_willCome_1
theorem dksX1_willCome_0 : cX1_willCome.data.toList.drop 0 = dktX1_willCome_0 := by decide +kernel
theorem dksX1_willCome_1 : cX1_willCome.data.toList.drop 22 = dktX1_willCome_1 := dk_seg dksX1_willCome_0 22 rfl rfl
theorem dksX1_willCome_2 : cX1_willCome.data.toList.drop 44 = dktX1_willCome_2 := dk_seg dksX1_willCome_1 22 rfl rfl
theorem dX1_willCome_0 : decode cX1_willCome 0 = .ok (.aload_n 0, 1) := dk_42 (dk_at dksX1_willCome_0 0 rfl rfl)
theorem dX1_willCome_1 : decode cX1_willCome 1 = .ok (.getfield 63, 3) := dk_180 0 63 (dk_at dksX1_willCome_0 1 rfl rfl)
theorem dX1_willCome_4 : decode cX1_willCome 4 = .ok (.iload_n 1, 1) := dk_27 (dk_at dksX1_willCome_0 4 rfl rfl)
theorem dX1_willCome_5 : decode cX1_willCome 5 = .ok (.invokestatic 84, 3) := dk_184 0 84 (dk_at dksX1_willCome_0 5 rfl rfl)
theorem dX1_willCome_8 : decode cX1_willCome 8 = .ok (.invokevirtual 90, 3) := dk_182 0 90 (dk_at dksX1_willCome_0 8 rfl rfl)
theorem dX1_willCome_11 : decode cX1_willCome 11 = .ok (.ifCond .ne 22, 3) := dk_154 0 22 (dk_at dksX1_willCome_0 11 rfl rfl)
theorem dX1_willCome_14 : decode cX1_willCome 14 = .ok (.aload_n 0, 1) := dk_42 (dk_at dksX1_willCome_0 14 rfl rfl)
theorem dX1_willCome_15 : decode cX1_willCome 15 = .ok (.getfield 63, 3) := dk_180 0 63 (dk_at dksX1_willCome_0 15 rfl rfl)
theorem dX1_willCome_18 : decode cX1_willCome 18 = .ok (.iload_n 1, 1) := dk_27 (dk_at dksX1_willCome_0 18 rfl rfl)
theorem dX1_willCome_19 : decode cX1_willCome 19 = .ok (.invokestatic 84, 3) := dk_184 0 84 (dk_at dksX1_willCome_0 19 rfl rfl)
theorem dX1_willCome_22 : decode cX1_willCome 22 = .ok (.new 94, 3) := dk_187 0 94 (dk_at dksX1_willCome_1 0 rfl rfl)
theorem dX1_willCome_25 : decode cX1_willCome 25 = .ok (.dup, 1) := dk_89 (dk_at dksX1_willCome_1 3 rfl rfl)
theorem dX1_willCome_26 : decode cX1_willCome 26 = .ok (.invokespecial 96, 3) := dk_183 0 96 (dk_at dksX1_willCome_1 4 rfl rfl)
theorem dX1_willCome_29 : decode cX1_willCome 29 = .ok (.invokevirtual 97, 3) := dk_182 0 97 (dk_at dksX1_willCome_1 7 rfl rfl)
theorem dX1_willCome_32 : decode cX1_willCome 32 = .ok (.pop, 1) := dk_87 (dk_at dksX1_willCome_1 10 rfl rfl)
theorem dX1_willCome_33 : decode cX1_willCome 33 = .ok (.aload_n 0, 1) := dk_42 (dk_at dksX1_willCome_1 11 rfl rfl)
theorem dX1_willCome_34 : decode cX1_willCome 34 = .ok (.getfield 63, 3) := dk_180 0 63 (dk_at dksX1_willCome_1 12 rfl rfl)
theorem dX1_willCome_37 : decode cX1_willCome 37 = .ok (.iload_n 1, 1) := dk_27 (dk_at dksX1_willCome_1 15 rfl rfl)
theorem dX1_willCome_38 : decode cX1_willCome 38 = .ok (.invokestatic 84, 3) := dk_184 0 84 (dk_at dksX1_willCome_1 16 rfl rfl)
theorem dX1_willCome_41 : decode cX1_willCome 41 = .ok (.invokevirtual 101, 3) := dk_182 0 101 (dk_at dksX1_willCome_1 19 rfl rfl)
theorem dX1_willCome_44 : decode cX1_willCome 44 = .ok (.checkcast 94, 3) := dk_192 0 94 (dk_at dksX1_willCome_2 0 rfl rfl)
theorem dX1_willCome_47 : decode cX1_willCome 47 = .ok (.aload_n 2, 1) := dk_44 (dk_at dksX1_willCome_2 3 rfl rfl)
theorem dX1_willCome_48 : decode cX1_willCome 48 = .ok (.invokevirtual 105, 3) := dk_182 0 105 (dk_at dksX1_willCome_2 4 rfl rfl)
theorem dX1_willCome_51 : decode cX1_willCome 51 = .ok (.return_, 1) := dk_177 (dk_at dksX1_willCome_2 7 rfl rfl)
abbrev cX1_laysAll : ByteArray := prog_1_method_13_code
def yX1_laysAll : MethodName := ⟨RX1, "laysAll", "(LBogsign$SentBoards;)V"⟩
def dkwX1_laysAll_2 : List UInt8 := [182, 0, 208, 167, 255, 221, 177]
abbrev dktX1_laysAll_2 : List UInt8 := dkwX1_laysAll_2 ++ []
def dkwX1_laysAll_1 : List UInt8 := [185, 0, 201, 1, 0, 192, 0, 126, 77, 44, 180, 0, 128, 4, 160, 0, 11, 42, 180, 0, 204, 44]
abbrev dktX1_laysAll_1 : List UInt8 := dkwX1_laysAll_1 ++ dktX1_laysAll_2
def dkwX1_laysAll_0 : List UInt8 := [42, 180, 0, 137, 185, 0, 192, 1, 0, 76, 43, 185, 0, 196, 1, 0, 153, 0, 32, 43]
abbrev dktX1_laysAll_0 : List UInt8 := dkwX1_laysAll_0 ++ dktX1_laysAll_1
theorem dksX1_laysAll_0 : cX1_laysAll.data.toList.drop 0 = dktX1_laysAll_0 := by decide +kernel
theorem dksX1_laysAll_1 : cX1_laysAll.data.toList.drop 20 = dktX1_laysAll_1 := dk_seg dksX1_laysAll_0 20 rfl rfl
theorem dksX1_laysAll_2 : cX1_laysAll.data.toList.drop 42 = dktX1_laysAll_2 := dk_seg dksX1_laysAll_1 22 rfl rfl
theorem dX1_laysAll_0 : decode cX1_laysAll 0 = .ok (.aload_n 0, 1) := dk_42 (dk_at dksX1_laysAll_0 0 rfl rfl)
theorem dX1_laysAll_1 : decode cX1_laysAll 1 = .ok (.getfield 137, 3) := dk_180 0 137 (dk_at dksX1_laysAll_0 1 rfl rfl)
theorem dX1_laysAll_4 : decode cX1_laysAll 4 = .ok (.invokeinterface 192 1, 5) := by decide +kernel
theorem dX1_laysAll_9 : decode cX1_laysAll 9 = .ok (.astore_n 1, 1) := dk_76 (dk_at dksX1_laysAll_0 9 rfl rfl)
theorem dX1_laysAll_10 : decode cX1_laysAll 10 = .ok (.aload_n 1, 1) := dk_43 (dk_at dksX1_laysAll_0 10 rfl rfl)
theorem dX1_laysAll_11 : decode cX1_laysAll 11 = .ok (.invokeinterface 196 1, 5) := by decide +kernel
theorem dX1_laysAll_16 : decode cX1_laysAll 16 = .ok (.ifCond .eq 32, 3) := dk_153 0 32 (dk_at dksX1_laysAll_0 16 rfl rfl)
theorem dX1_laysAll_19 : decode cX1_laysAll 19 = .ok (.aload_n 1, 1) := dk_43 (dk_at dksX1_laysAll_0 19 rfl rfl)
theorem dX1_laysAll_20 : decode cX1_laysAll 20 = .ok (.invokeinterface 201 1, 5) := by decide +kernel
theorem dX1_laysAll_25 : decode cX1_laysAll 25 = .ok (.checkcast 126, 3) := dk_192 0 126 (dk_at dksX1_laysAll_1 5 rfl rfl)
theorem dX1_laysAll_28 : decode cX1_laysAll 28 = .ok (.astore_n 2, 1) := dk_77 (dk_at dksX1_laysAll_1 8 rfl rfl)
theorem dX1_laysAll_29 : decode cX1_laysAll 29 = .ok (.aload_n 2, 1) := dk_44 (dk_at dksX1_laysAll_1 9 rfl rfl)
theorem dX1_laysAll_30 : decode cX1_laysAll 30 = .ok (.getfield 128, 3) := dk_180 0 128 (dk_at dksX1_laysAll_1 10 rfl rfl)
theorem dX1_laysAll_33 : decode cX1_laysAll 33 = .ok (.iconst 1, 1) := dk_4 (dk_at dksX1_laysAll_1 13 rfl rfl)
theorem dX1_laysAll_34 : decode cX1_laysAll 34 = .ok (.if_icmp .ne 11, 3) := dk_160 0 11 (dk_at dksX1_laysAll_1 14 rfl rfl)
theorem dX1_laysAll_37 : decode cX1_laysAll 37 = .ok (.aload_n 0, 1) := dk_42 (dk_at dksX1_laysAll_1 17 rfl rfl)
theorem dX1_laysAll_38 : decode cX1_laysAll 38 = .ok (.getfield 204, 3) := dk_180 0 204 (dk_at dksX1_laysAll_1 18 rfl rfl)
theorem dX1_laysAll_41 : decode cX1_laysAll 41 = .ok (.aload_n 2, 1) := dk_44 (dk_at dksX1_laysAll_1 21 rfl rfl)
theorem dX1_laysAll_42 : decode cX1_laysAll 42 = .ok (.invokevirtual 208, 3) := dk_182 0 208 (dk_at dksX1_laysAll_2 0 rfl rfl)
theorem dX1_laysAll_45 : decode cX1_laysAll 45 = .ok (.goto (-35), 3) := dk_167 255 221 (dk_at dksX1_laysAll_2 3 rfl rfl)
theorem dX1_laysAll_48 : decode cX1_laysAll 48 = .ok (.return_, 1) := dk_177 (dk_at dksX1_laysAll_2 6 rfl rfl)
abbrev cX1_arrives : ByteArray := prog_1_method_14_code
def yX1_arrives : MethodName := ⟨RX1, "arrives", "(LBogsign$Message;)V"⟩
def dkwX1_arrives_4 : List UInt8 := [183, 0, 249, 182, 0, 250, 42, 182, 0, 189, 177]
abbrev dktX1_arrives_4 : List UInt8 := dkwX1_arrives_4 ++ []
def dkwX1_arrives_3 : List UInt8 := [29, 182, 0, 173, 54, 4, 167, 0, 26, 42, 180, 0, 43, 187, 0, 157, 89, 43, 180, 0, 226, 29]
abbrev dktX1_arrives_3 : List UInt8 := dkwX1_arrives_3 ++ dktX1_arrives_4
def dkwX1_arrives_2 : List UInt8 := [177, 42, 180, 0, 43, 182, 0, 148, 153, 0, 25, 42, 180, 0, 36, 182, 0, 162, 29, 161, 0, 14, 42, 44]
abbrev dktX1_arrives_2 : List UInt8 := dkwX1_arrives_2 ++ dktX1_arrives_3
def dkwX1_arrives_1 : List UInt8 := [43, 184, 0, 227, 181, 0, 233, 44, 3, 181, 0, 237, 43, 182, 0, 240, 184, 0, 243, 62, 29, 154, 0, 4]
abbrev dktX1_arrives_1 : List UInt8 := dkwX1_arrives_1 ++ dktX1_arrives_2
def dkwX1_arrives_0 : List UInt8 := [43, 4, 181, 0, 212, 43, 43, 182, 0, 218, 181, 0, 222, 42, 180, 0, 20, 43, 180, 0, 226, 50, 77, 44]
abbrev dktX1_arrives_0 : List UInt8 := dkwX1_arrives_0 ++ dktX1_arrives_1
theorem dksX1_arrives_0 : cX1_arrives.data.toList.drop 0 = dktX1_arrives_0 := by decide +kernel
theorem dksX1_arrives_1 : cX1_arrives.data.toList.drop 24 = dktX1_arrives_1 := dk_seg dksX1_arrives_0 24 rfl rfl
theorem dksX1_arrives_2 : cX1_arrives.data.toList.drop 48 = dktX1_arrives_2 := dk_seg dksX1_arrives_1 24 rfl rfl
theorem dksX1_arrives_3 : cX1_arrives.data.toList.drop 72 = dktX1_arrives_3 := dk_seg dksX1_arrives_2 24 rfl rfl
theorem dksX1_arrives_4 : cX1_arrives.data.toList.drop 94 = dktX1_arrives_4 := dk_seg dksX1_arrives_3 22 rfl rfl
theorem dX1_arrives_0 : decode cX1_arrives 0 = .ok (.aload_n 1, 1) := dk_43 (dk_at dksX1_arrives_0 0 rfl rfl)
theorem dX1_arrives_1 : decode cX1_arrives 1 = .ok (.iconst 1, 1) := dk_4 (dk_at dksX1_arrives_0 1 rfl rfl)
theorem dX1_arrives_2 : decode cX1_arrives 2 = .ok (.putfield 212, 3) := dk_181 0 212 (dk_at dksX1_arrives_0 2 rfl rfl)
theorem dX1_arrives_5 : decode cX1_arrives 5 = .ok (.aload_n 1, 1) := dk_43 (dk_at dksX1_arrives_0 5 rfl rfl)
theorem dX1_arrives_6 : decode cX1_arrives 6 = .ok (.aload_n 1, 1) := dk_43 (dk_at dksX1_arrives_0 6 rfl rfl)
theorem dX1_arrives_7 : decode cX1_arrives 7 = .ok (.invokevirtual 218, 3) := dk_182 0 218 (dk_at dksX1_arrives_0 7 rfl rfl)
theorem dX1_arrives_10 : decode cX1_arrives 10 = .ok (.putfield 222, 3) := dk_181 0 222 (dk_at dksX1_arrives_0 10 rfl rfl)
theorem dX1_arrives_13 : decode cX1_arrives 13 = .ok (.aload_n 0, 1) := dk_42 (dk_at dksX1_arrives_0 13 rfl rfl)
theorem dX1_arrives_14 : decode cX1_arrives 14 = .ok (.getfield 20, 3) := dk_180 0 20 (dk_at dksX1_arrives_0 14 rfl rfl)
theorem dX1_arrives_17 : decode cX1_arrives 17 = .ok (.aload_n 1, 1) := dk_43 (dk_at dksX1_arrives_0 17 rfl rfl)
theorem dX1_arrives_18 : decode cX1_arrives 18 = .ok (.getfield 226, 3) := dk_180 0 226 (dk_at dksX1_arrives_0 18 rfl rfl)
theorem dX1_arrives_21 : decode cX1_arrives 21 = .ok (.aaload, 1) := dk_50 (dk_at dksX1_arrives_0 21 rfl rfl)
theorem dX1_arrives_22 : decode cX1_arrives 22 = .ok (.astore_n 2, 1) := dk_77 (dk_at dksX1_arrives_0 22 rfl rfl)
theorem dX1_arrives_23 : decode cX1_arrives 23 = .ok (.aload_n 2, 1) := dk_44 (dk_at dksX1_arrives_0 23 rfl rfl)
theorem dX1_arrives_24 : decode cX1_arrives 24 = .ok (.aload_n 1, 1) := dk_43 (dk_at dksX1_arrives_1 0 rfl rfl)
theorem dX1_arrives_25 : decode cX1_arrives 25 = .ok (.invokestatic 227, 3) := dk_184 0 227 (dk_at dksX1_arrives_1 1 rfl rfl)
theorem dX1_arrives_28 : decode cX1_arrives 28 = .ok (.putfield 233, 3) := dk_181 0 233 (dk_at dksX1_arrives_1 4 rfl rfl)
theorem dX1_arrives_31 : decode cX1_arrives 31 = .ok (.aload_n 2, 1) := dk_44 (dk_at dksX1_arrives_1 7 rfl rfl)
theorem dX1_arrives_32 : decode cX1_arrives 32 = .ok (.iconst 0, 1) := dk_3 (dk_at dksX1_arrives_1 8 rfl rfl)
theorem dX1_arrives_33 : decode cX1_arrives 33 = .ok (.putfield 237, 3) := dk_181 0 237 (dk_at dksX1_arrives_1 9 rfl rfl)
theorem dX1_arrives_36 : decode cX1_arrives 36 = .ok (.aload_n 1, 1) := dk_43 (dk_at dksX1_arrives_1 12 rfl rfl)
theorem dX1_arrives_37 : decode cX1_arrives 37 = .ok (.invokevirtual 240, 3) := dk_182 0 240 (dk_at dksX1_arrives_1 13 rfl rfl)
theorem dX1_arrives_40 : decode cX1_arrives 40 = .ok (.invokestatic 243, 3) := dk_184 0 243 (dk_at dksX1_arrives_1 16 rfl rfl)
theorem dX1_arrives_43 : decode cX1_arrives 43 = .ok (.istore_n 3, 1) := dk_62 (dk_at dksX1_arrives_1 19 rfl rfl)
theorem dX1_arrives_44 : decode cX1_arrives 44 = .ok (.iload_n 3, 1) := dk_29 (dk_at dksX1_arrives_1 20 rfl rfl)
theorem dX1_arrives_45 : decode cX1_arrives 45 = .ok (.ifCond .ne 4, 3) := dk_154 0 4 (dk_at dksX1_arrives_1 21 rfl rfl)
theorem dX1_arrives_48 : decode cX1_arrives 48 = .ok (.return_, 1) := dk_177 (dk_at dksX1_arrives_2 0 rfl rfl)
theorem dX1_arrives_49 : decode cX1_arrives 49 = .ok (.aload_n 0, 1) := dk_42 (dk_at dksX1_arrives_2 1 rfl rfl)
theorem dX1_arrives_50 : decode cX1_arrives 50 = .ok (.getfield 43, 3) := dk_180 0 43 (dk_at dksX1_arrives_2 2 rfl rfl)
theorem dX1_arrives_53 : decode cX1_arrives 53 = .ok (.invokevirtual 148, 3) := dk_182 0 148 (dk_at dksX1_arrives_2 5 rfl rfl)
theorem dX1_arrives_56 : decode cX1_arrives 56 = .ok (.ifCond .eq 25, 3) := dk_153 0 25 (dk_at dksX1_arrives_2 8 rfl rfl)
theorem dX1_arrives_59 : decode cX1_arrives 59 = .ok (.aload_n 0, 1) := dk_42 (dk_at dksX1_arrives_2 11 rfl rfl)
theorem dX1_arrives_60 : decode cX1_arrives 60 = .ok (.getfield 36, 3) := dk_180 0 36 (dk_at dksX1_arrives_2 12 rfl rfl)
theorem dX1_arrives_63 : decode cX1_arrives 63 = .ok (.invokevirtual 162, 3) := dk_182 0 162 (dk_at dksX1_arrives_2 15 rfl rfl)
theorem dX1_arrives_66 : decode cX1_arrives 66 = .ok (.iload_n 3, 1) := dk_29 (dk_at dksX1_arrives_2 18 rfl rfl)
theorem dX1_arrives_67 : decode cX1_arrives 67 = .ok (.if_icmp .lt 14, 3) := dk_161 0 14 (dk_at dksX1_arrives_2 19 rfl rfl)
theorem dX1_arrives_70 : decode cX1_arrives 70 = .ok (.aload_n 0, 1) := dk_42 (dk_at dksX1_arrives_2 22 rfl rfl)
theorem dX1_arrives_71 : decode cX1_arrives 71 = .ok (.aload_n 2, 1) := dk_44 (dk_at dksX1_arrives_2 23 rfl rfl)
theorem dX1_arrives_72 : decode cX1_arrives 72 = .ok (.iload_n 3, 1) := dk_29 (dk_at dksX1_arrives_3 0 rfl rfl)
theorem dX1_arrives_73 : decode cX1_arrives 73 = .ok (.invokevirtual 173, 3) := dk_182 0 173 (dk_at dksX1_arrives_3 1 rfl rfl)
theorem dX1_arrives_76 : decode cX1_arrives 76 = .ok (.istore 4, 2) := dk_54 4 (dk_at dksX1_arrives_3 4 rfl rfl)
theorem dX1_arrives_78 : decode cX1_arrives 78 = .ok (.goto 26, 3) := dk_167 0 26 (dk_at dksX1_arrives_3 6 rfl rfl)
theorem dX1_arrives_81 : decode cX1_arrives 81 = .ok (.aload_n 0, 1) := dk_42 (dk_at dksX1_arrives_3 9 rfl rfl)
theorem dX1_arrives_82 : decode cX1_arrives 82 = .ok (.getfield 43, 3) := dk_180 0 43 (dk_at dksX1_arrives_3 10 rfl rfl)
theorem dX1_arrives_85 : decode cX1_arrives 85 = .ok (.new 157, 3) := dk_187 0 157 (dk_at dksX1_arrives_3 13 rfl rfl)
theorem dX1_arrives_88 : decode cX1_arrives 88 = .ok (.dup, 1) := dk_89 (dk_at dksX1_arrives_3 16 rfl rfl)
theorem dX1_arrives_89 : decode cX1_arrives 89 = .ok (.aload_n 1, 1) := dk_43 (dk_at dksX1_arrives_3 17 rfl rfl)
theorem dX1_arrives_90 : decode cX1_arrives 90 = .ok (.getfield 226, 3) := dk_180 0 226 (dk_at dksX1_arrives_3 18 rfl rfl)
theorem dX1_arrives_93 : decode cX1_arrives 93 = .ok (.iload_n 3, 1) := dk_29 (dk_at dksX1_arrives_3 21 rfl rfl)
theorem dX1_arrives_94 : decode cX1_arrives 94 = .ok (.invokespecial 249, 3) := dk_183 0 249 (dk_at dksX1_arrives_4 0 rfl rfl)
theorem dX1_arrives_97 : decode cX1_arrives 97 = .ok (.invokevirtual 250, 3) := dk_182 0 250 (dk_at dksX1_arrives_4 3 rfl rfl)
theorem dX1_arrives_100 : decode cX1_arrives 100 = .ok (.aload_n 0, 1) := dk_42 (dk_at dksX1_arrives_4 6 rfl rfl)
theorem dX1_arrives_101 : decode cX1_arrives 101 = .ok (.invokevirtual 189, 3) := dk_182 0 189 (dk_at dksX1_arrives_4 7 rfl rfl)
theorem dX1_arrives_104 : decode cX1_arrives 104 = .ok (.return_, 1) := dk_177 (dk_at dksX1_arrives_4 10 rfl rfl)
abbrev cX1_endsWeek : ByteArray := prog_1_method_16_code
def yX1_endsWeek : MethodName := ⟨RX1, "endsWeek", "()V"⟩
def dkwX1_endsWeek_4 : List UInt8 := [182, 1, 35, 167, 255, 206, 177]
abbrev dktX1_endsWeek_4 : List UInt8 := dkwX1_endsWeek_4 ++ []
def dkwX1_endsWeek_3 : List UInt8 := [153, 0, 27, 42, 180, 0, 141, 44, 180, 1, 24, 100, 44, 180, 1, 27, 184, 1, 30, 161, 0, 8, 42, 44]
abbrev dktX1_endsWeek_3 : List UInt8 := dkwX1_endsWeek_3 ++ dktX1_endsWeek_4
def dkwX1_endsWeek_2 : List UInt8 := [185, 0, 196, 1, 0, 153, 0, 47, 43, 185, 0, 201, 1, 0, 192, 0, 126, 77, 44, 182, 1, 21]
abbrev dktX1_endsWeek_2 : List UInt8 := dkwX1_endsWeek_2 ++ dktX1_endsWeek_3
def dkwX1_endsWeek_1 : List UInt8 := [180, 1, 15, 182, 1, 18, 132, 3, 1, 167, 255, 233, 42, 180, 0, 27, 185, 0, 192, 1, 0, 76, 43]
abbrev dktX1_endsWeek_1 : List UInt8 := dkwX1_endsWeek_1 ++ dktX1_endsWeek_2
def dkwX1_endsWeek_0 : List UInt8 := [42, 180, 0, 20, 76, 43, 190, 61, 3, 62, 29, 28, 162, 0, 24, 43, 29, 50, 58, 4, 25, 4, 25, 4]
abbrev dktX1_endsWeek_0 : List UInt8 := dkwX1_endsWeek_0 ++ dktX1_endsWeek_1
theorem dksX1_endsWeek_0 : cX1_endsWeek.data.toList.drop 0 = dktX1_endsWeek_0 := by decide +kernel
theorem dksX1_endsWeek_1 : cX1_endsWeek.data.toList.drop 24 = dktX1_endsWeek_1 := dk_seg dksX1_endsWeek_0 24 rfl rfl
theorem dksX1_endsWeek_2 : cX1_endsWeek.data.toList.drop 47 = dktX1_endsWeek_2 := dk_seg dksX1_endsWeek_1 23 rfl rfl
theorem dksX1_endsWeek_3 : cX1_endsWeek.data.toList.drop 69 = dktX1_endsWeek_3 := dk_seg dksX1_endsWeek_2 22 rfl rfl
theorem dksX1_endsWeek_4 : cX1_endsWeek.data.toList.drop 93 = dktX1_endsWeek_4 := dk_seg dksX1_endsWeek_3 24 rfl rfl
theorem dX1_endsWeek_0 : decode cX1_endsWeek 0 = .ok (.aload_n 0, 1) := dk_42 (dk_at dksX1_endsWeek_0 0 rfl rfl)
theorem dX1_endsWeek_1 : decode cX1_endsWeek 1 = .ok (.getfield 20, 3) := dk_180 0 20 (dk_at dksX1_endsWeek_0 1 rfl rfl)
theorem dX1_endsWeek_4 : decode cX1_endsWeek 4 = .ok (.astore_n 1, 1) := dk_76 (dk_at dksX1_endsWeek_0 4 rfl rfl)
theorem dX1_endsWeek_5 : decode cX1_endsWeek 5 = .ok (.aload_n 1, 1) := dk_43 (dk_at dksX1_endsWeek_0 5 rfl rfl)
theorem dX1_endsWeek_6 : decode cX1_endsWeek 6 = .ok (.arraylength, 1) := dk_190 (dk_at dksX1_endsWeek_0 6 rfl rfl)
theorem dX1_endsWeek_7 : decode cX1_endsWeek 7 = .ok (.istore_n 2, 1) := dk_61 (dk_at dksX1_endsWeek_0 7 rfl rfl)
theorem dX1_endsWeek_8 : decode cX1_endsWeek 8 = .ok (.iconst 0, 1) := dk_3 (dk_at dksX1_endsWeek_0 8 rfl rfl)
theorem dX1_endsWeek_9 : decode cX1_endsWeek 9 = .ok (.istore_n 3, 1) := dk_62 (dk_at dksX1_endsWeek_0 9 rfl rfl)
theorem dX1_endsWeek_10 : decode cX1_endsWeek 10 = .ok (.iload_n 3, 1) := dk_29 (dk_at dksX1_endsWeek_0 10 rfl rfl)
theorem dX1_endsWeek_11 : decode cX1_endsWeek 11 = .ok (.iload_n 2, 1) := dk_28 (dk_at dksX1_endsWeek_0 11 rfl rfl)
theorem dX1_endsWeek_12 : decode cX1_endsWeek 12 = .ok (.if_icmp .ge 24, 3) := dk_162 0 24 (dk_at dksX1_endsWeek_0 12 rfl rfl)
theorem dX1_endsWeek_15 : decode cX1_endsWeek 15 = .ok (.aload_n 1, 1) := dk_43 (dk_at dksX1_endsWeek_0 15 rfl rfl)
theorem dX1_endsWeek_16 : decode cX1_endsWeek 16 = .ok (.iload_n 3, 1) := dk_29 (dk_at dksX1_endsWeek_0 16 rfl rfl)
theorem dX1_endsWeek_17 : decode cX1_endsWeek 17 = .ok (.aaload, 1) := dk_50 (dk_at dksX1_endsWeek_0 17 rfl rfl)
theorem dX1_endsWeek_18 : decode cX1_endsWeek 18 = .ok (.astore 4, 2) := dk_58 4 (dk_at dksX1_endsWeek_0 18 rfl rfl)
theorem dX1_endsWeek_20 : decode cX1_endsWeek 20 = .ok (.aload 4, 2) := dk_25 4 (dk_at dksX1_endsWeek_0 20 rfl rfl)
theorem dX1_endsWeek_22 : decode cX1_endsWeek 22 = .ok (.aload 4, 2) := dk_25 4 (dk_at dksX1_endsWeek_0 22 rfl rfl)
theorem dX1_endsWeek_24 : decode cX1_endsWeek 24 = .ok (.getfield 271, 3) := dk_180 1 15 (dk_at dksX1_endsWeek_1 0 rfl rfl)
theorem dX1_endsWeek_27 : decode cX1_endsWeek 27 = .ok (.invokevirtual 274, 3) := dk_182 1 18 (dk_at dksX1_endsWeek_1 3 rfl rfl)
theorem dX1_endsWeek_30 : decode cX1_endsWeek 30 = .ok (.iinc 3 1, 3) := dk_132 3 1 (dk_at dksX1_endsWeek_1 6 rfl rfl)
theorem dX1_endsWeek_33 : decode cX1_endsWeek 33 = .ok (.goto (-23), 3) := dk_167 255 233 (dk_at dksX1_endsWeek_1 9 rfl rfl)
theorem dX1_endsWeek_36 : decode cX1_endsWeek 36 = .ok (.aload_n 0, 1) := dk_42 (dk_at dksX1_endsWeek_1 12 rfl rfl)
theorem dX1_endsWeek_37 : decode cX1_endsWeek 37 = .ok (.getfield 27, 3) := dk_180 0 27 (dk_at dksX1_endsWeek_1 13 rfl rfl)
theorem dX1_endsWeek_40 : decode cX1_endsWeek 40 = .ok (.invokeinterface 192 1, 5) := by decide +kernel
theorem dX1_endsWeek_45 : decode cX1_endsWeek 45 = .ok (.astore_n 1, 1) := dk_76 (dk_at dksX1_endsWeek_1 21 rfl rfl)
theorem dX1_endsWeek_46 : decode cX1_endsWeek 46 = .ok (.aload_n 1, 1) := dk_43 (dk_at dksX1_endsWeek_1 22 rfl rfl)
theorem dX1_endsWeek_47 : decode cX1_endsWeek 47 = .ok (.invokeinterface 196 1, 5) := by decide +kernel
theorem dX1_endsWeek_52 : decode cX1_endsWeek 52 = .ok (.ifCond .eq 47, 3) := dk_153 0 47 (dk_at dksX1_endsWeek_2 5 rfl rfl)
theorem dX1_endsWeek_55 : decode cX1_endsWeek 55 = .ok (.aload_n 1, 1) := dk_43 (dk_at dksX1_endsWeek_2 8 rfl rfl)
theorem dX1_endsWeek_56 : decode cX1_endsWeek 56 = .ok (.invokeinterface 201 1, 5) := by decide +kernel
theorem dX1_endsWeek_61 : decode cX1_endsWeek 61 = .ok (.checkcast 126, 3) := dk_192 0 126 (dk_at dksX1_endsWeek_2 14 rfl rfl)
theorem dX1_endsWeek_64 : decode cX1_endsWeek 64 = .ok (.astore_n 2, 1) := dk_77 (dk_at dksX1_endsWeek_2 17 rfl rfl)
theorem dX1_endsWeek_65 : decode cX1_endsWeek 65 = .ok (.aload_n 2, 1) := dk_44 (dk_at dksX1_endsWeek_2 18 rfl rfl)
theorem dX1_endsWeek_66 : decode cX1_endsWeek 66 = .ok (.invokevirtual 277, 3) := dk_182 1 21 (dk_at dksX1_endsWeek_2 19 rfl rfl)
theorem dX1_endsWeek_69 : decode cX1_endsWeek 69 = .ok (.ifCond .eq 27, 3) := dk_153 0 27 (dk_at dksX1_endsWeek_3 0 rfl rfl)
theorem dX1_endsWeek_72 : decode cX1_endsWeek 72 = .ok (.aload_n 0, 1) := dk_42 (dk_at dksX1_endsWeek_3 3 rfl rfl)
theorem dX1_endsWeek_73 : decode cX1_endsWeek 73 = .ok (.getfield 141, 3) := dk_180 0 141 (dk_at dksX1_endsWeek_3 4 rfl rfl)
theorem dX1_endsWeek_76 : decode cX1_endsWeek 76 = .ok (.aload_n 2, 1) := dk_44 (dk_at dksX1_endsWeek_3 7 rfl rfl)
theorem dX1_endsWeek_77 : decode cX1_endsWeek 77 = .ok (.getfield 280, 3) := dk_180 1 24 (dk_at dksX1_endsWeek_3 8 rfl rfl)
theorem dX1_endsWeek_80 : decode cX1_endsWeek 80 = .ok (.isub, 1) := dk_100 (dk_at dksX1_endsWeek_3 11 rfl rfl)
theorem dX1_endsWeek_81 : decode cX1_endsWeek 81 = .ok (.aload_n 2, 1) := dk_44 (dk_at dksX1_endsWeek_3 12 rfl rfl)
theorem dX1_endsWeek_82 : decode cX1_endsWeek 82 = .ok (.getfield 283, 3) := dk_180 1 27 (dk_at dksX1_endsWeek_3 13 rfl rfl)
theorem dX1_endsWeek_85 : decode cX1_endsWeek 85 = .ok (.invokestatic 286, 3) := dk_184 1 30 (dk_at dksX1_endsWeek_3 16 rfl rfl)
theorem dX1_endsWeek_88 : decode cX1_endsWeek 88 = .ok (.if_icmp .lt 8, 3) := dk_161 0 8 (dk_at dksX1_endsWeek_3 19 rfl rfl)
theorem dX1_endsWeek_91 : decode cX1_endsWeek 91 = .ok (.aload_n 0, 1) := dk_42 (dk_at dksX1_endsWeek_3 22 rfl rfl)
theorem dX1_endsWeek_92 : decode cX1_endsWeek 92 = .ok (.aload_n 2, 1) := dk_44 (dk_at dksX1_endsWeek_3 23 rfl rfl)
theorem dX1_endsWeek_93 : decode cX1_endsWeek 93 = .ok (.invokevirtual 291, 3) := dk_182 1 35 (dk_at dksX1_endsWeek_4 0 rfl rfl)
theorem dX1_endsWeek_96 : decode cX1_endsWeek 96 = .ok (.goto (-50), 3) := dk_167 255 206 (dk_at dksX1_endsWeek_4 3 rfl rfl)
theorem dX1_endsWeek_99 : decode cX1_endsWeek 99 = .ok (.return_, 1) := dk_177 (dk_at dksX1_endsWeek_4 6 rfl rfl)
abbrev cX1_rots : ByteArray := prog_1_method_17_code
def yX1_rots : MethodName := ⟨RX1, "rots", "(LBogsign$Board;)V"⟩
def dkwX1_rots_1 : List UInt8 := [180, 0, 134, 50, 43, 182, 1, 39, 167, 0, 8, 43, 7, 181, 0, 128, 177]
abbrev dktX1_rots_1 : List UInt8 := dkwX1_rots_1 ++ []
def dkwX1_rots_0 : List UInt8 := [42, 180, 0, 36, 43, 180, 1, 38, 182, 0, 118, 43, 180, 0, 128, 5, 160, 0, 19, 42, 180, 0, 20, 43]
abbrev dktX1_rots_0 : List UInt8 := dkwX1_rots_0 ++ dktX1_rots_1
theorem dksX1_rots_0 : cX1_rots.data.toList.drop 0 = dktX1_rots_0 := by decide +kernel
theorem dksX1_rots_1 : cX1_rots.data.toList.drop 24 = dktX1_rots_1 := dk_seg dksX1_rots_0 24 rfl rfl
theorem dX1_rots_0 : decode cX1_rots 0 = .ok (.aload_n 0, 1) := dk_42 (dk_at dksX1_rots_0 0 rfl rfl)
theorem dX1_rots_1 : decode cX1_rots 1 = .ok (.getfield 36, 3) := dk_180 0 36 (dk_at dksX1_rots_0 1 rfl rfl)
theorem dX1_rots_4 : decode cX1_rots 4 = .ok (.aload_n 1, 1) := dk_43 (dk_at dksX1_rots_0 4 rfl rfl)
theorem dX1_rots_5 : decode cX1_rots 5 = .ok (.getfield 294, 3) := dk_180 1 38 (dk_at dksX1_rots_0 5 rfl rfl)
theorem dX1_rots_8 : decode cX1_rots 8 = .ok (.invokevirtual 118, 3) := dk_182 0 118 (dk_at dksX1_rots_0 8 rfl rfl)
theorem dX1_rots_11 : decode cX1_rots 11 = .ok (.aload_n 1, 1) := dk_43 (dk_at dksX1_rots_0 11 rfl rfl)
theorem dX1_rots_12 : decode cX1_rots 12 = .ok (.getfield 128, 3) := dk_180 0 128 (dk_at dksX1_rots_0 12 rfl rfl)
theorem dX1_rots_15 : decode cX1_rots 15 = .ok (.iconst 2, 1) := dk_5 (dk_at dksX1_rots_0 15 rfl rfl)
theorem dX1_rots_16 : decode cX1_rots 16 = .ok (.if_icmp .ne 19, 3) := dk_160 0 19 (dk_at dksX1_rots_0 16 rfl rfl)
theorem dX1_rots_19 : decode cX1_rots 19 = .ok (.aload_n 0, 1) := dk_42 (dk_at dksX1_rots_0 19 rfl rfl)
theorem dX1_rots_20 : decode cX1_rots 20 = .ok (.getfield 20, 3) := dk_180 0 20 (dk_at dksX1_rots_0 20 rfl rfl)
theorem dX1_rots_23 : decode cX1_rots 23 = .ok (.aload_n 1, 1) := dk_43 (dk_at dksX1_rots_0 23 rfl rfl)
theorem dX1_rots_24 : decode cX1_rots 24 = .ok (.getfield 134, 3) := dk_180 0 134 (dk_at dksX1_rots_1 0 rfl rfl)
theorem dX1_rots_27 : decode cX1_rots 27 = .ok (.aaload, 1) := dk_50 (dk_at dksX1_rots_1 3 rfl rfl)
theorem dX1_rots_28 : decode cX1_rots 28 = .ok (.aload_n 1, 1) := dk_43 (dk_at dksX1_rots_1 4 rfl rfl)
theorem dX1_rots_29 : decode cX1_rots 29 = .ok (.invokevirtual 295, 3) := dk_182 1 39 (dk_at dksX1_rots_1 5 rfl rfl)
theorem dX1_rots_32 : decode cX1_rots 32 = .ok (.goto 8, 3) := dk_167 0 8 (dk_at dksX1_rots_1 8 rfl rfl)
theorem dX1_rots_35 : decode cX1_rots 35 = .ok (.aload_n 1, 1) := dk_43 (dk_at dksX1_rots_1 11 rfl rfl)
theorem dX1_rots_36 : decode cX1_rots 36 = .ok (.iconst 4, 1) := dk_7 (dk_at dksX1_rots_1 12 rfl rfl)
theorem dX1_rots_37 : decode cX1_rots 37 = .ok (.putfield 128, 3) := dk_181 0 128 (dk_at dksX1_rots_1 13 rfl rfl)
theorem dX1_rots_40 : decode cX1_rots 40 = .ok (.return_, 1) := dk_177 (dk_at dksX1_rots_1 16 rfl rfl)
abbrev cX1_setSoftness : ByteArray := prog_1_method_21_code
def yX1_setSoftness : MethodName := ⟨RX1, "setSoftness", "(II)I"⟩
def dkwX1_setSoftness_1 : List UInt8 := [181, 1, 15, 21, 4, 172]
abbrev dktX1_setSoftness_1 : List UInt8 := dkwX1_setSoftness_1 ++ []
def dkwX1_setSoftness_0 : List UInt8 := [42, 27, 182, 1, 62, 78, 28, 3, 16, 50, 184, 0, 73, 184, 0, 81, 45, 180, 1, 15, 54, 4, 45, 28]
abbrev dktX1_setSoftness_0 : List UInt8 := dkwX1_setSoftness_0 ++ dktX1_setSoftness_1
theorem dksX1_setSoftness_0 : cX1_setSoftness.data.toList.drop 0 = dktX1_setSoftness_0 := by decide +kernel
theorem dksX1_setSoftness_1 : cX1_setSoftness.data.toList.drop 24 = dktX1_setSoftness_1 := dk_seg dksX1_setSoftness_0 24 rfl rfl
theorem dX1_setSoftness_0 : decode cX1_setSoftness 0 = .ok (.aload_n 0, 1) := dk_42 (dk_at dksX1_setSoftness_0 0 rfl rfl)
theorem dX1_setSoftness_1 : decode cX1_setSoftness 1 = .ok (.iload_n 1, 1) := dk_27 (dk_at dksX1_setSoftness_0 1 rfl rfl)
theorem dX1_setSoftness_2 : decode cX1_setSoftness 2 = .ok (.invokevirtual 318, 3) := dk_182 1 62 (dk_at dksX1_setSoftness_0 2 rfl rfl)
theorem dX1_setSoftness_5 : decode cX1_setSoftness 5 = .ok (.astore_n 3, 1) := dk_78 (dk_at dksX1_setSoftness_0 5 rfl rfl)
theorem dX1_setSoftness_6 : decode cX1_setSoftness 6 = .ok (.iload_n 2, 1) := dk_28 (dk_at dksX1_setSoftness_0 6 rfl rfl)
theorem dX1_setSoftness_7 : decode cX1_setSoftness 7 = .ok (.iconst 0, 1) := dk_3 (dk_at dksX1_setSoftness_0 7 rfl rfl)
theorem dX1_setSoftness_8 : decode cX1_setSoftness 8 = .ok (.bipush 50, 2) := dk_16 50 (dk_at dksX1_setSoftness_0 8 rfl rfl)
theorem dX1_setSoftness_10 : decode cX1_setSoftness 10 = .ok (.invokestatic 73, 3) := dk_184 0 73 (dk_at dksX1_setSoftness_0 10 rfl rfl)
theorem dX1_setSoftness_13 : decode cX1_setSoftness 13 = .ok (.invokestatic 81, 3) := dk_184 0 81 (dk_at dksX1_setSoftness_0 13 rfl rfl)
theorem dX1_setSoftness_16 : decode cX1_setSoftness 16 = .ok (.aload_n 3, 1) := dk_45 (dk_at dksX1_setSoftness_0 16 rfl rfl)
theorem dX1_setSoftness_17 : decode cX1_setSoftness 17 = .ok (.getfield 271, 3) := dk_180 1 15 (dk_at dksX1_setSoftness_0 17 rfl rfl)
theorem dX1_setSoftness_20 : decode cX1_setSoftness 20 = .ok (.istore 4, 2) := dk_54 4 (dk_at dksX1_setSoftness_0 20 rfl rfl)
theorem dX1_setSoftness_22 : decode cX1_setSoftness 22 = .ok (.aload_n 3, 1) := dk_45 (dk_at dksX1_setSoftness_0 22 rfl rfl)
theorem dX1_setSoftness_23 : decode cX1_setSoftness 23 = .ok (.iload_n 2, 1) := dk_28 (dk_at dksX1_setSoftness_0 23 rfl rfl)
theorem dX1_setSoftness_24 : decode cX1_setSoftness 24 = .ok (.putfield 271, 3) := dk_181 1 15 (dk_at dksX1_setSoftness_1 0 rfl rfl)
theorem dX1_setSoftness_27 : decode cX1_setSoftness 27 = .ok (.iload 4, 2) := dk_21 4 (dk_at dksX1_setSoftness_1 3 rfl rfl)
theorem dX1_setSoftness_29 : decode cX1_setSoftness 29 = .ok (.ireturn, 1) := dk_172 (dk_at dksX1_setSoftness_1 5 rfl rfl)
abbrev cX1_stretchAt : ByteArray := prog_1_method_6_code
def yX1_stretchAt : MethodName := ⟨RX1, "stretchAt", "(I)LBogsign$Stretch;"⟩
def dkwX1_stretchAt_0 : List UInt8 := [27, 3, 16, 11, 184, 0, 73, 184, 0, 77, 42, 180, 0, 20, 27, 50, 176]
abbrev dktX1_stretchAt_0 : List UInt8 := dkwX1_stretchAt_0 ++ []
theorem dksX1_stretchAt_0 : cX1_stretchAt.data.toList.drop 0 = dktX1_stretchAt_0 := by decide +kernel
theorem dX1_stretchAt_0 : decode cX1_stretchAt 0 = .ok (.iload_n 1, 1) := dk_27 (dk_at dksX1_stretchAt_0 0 rfl rfl)
theorem dX1_stretchAt_1 : decode cX1_stretchAt 1 = .ok (.iconst 0, 1) := dk_3 (dk_at dksX1_stretchAt_0 1 rfl rfl)
theorem dX1_stretchAt_2 : decode cX1_stretchAt 2 = .ok (.bipush 11, 2) := dk_16 11 (dk_at dksX1_stretchAt_0 2 rfl rfl)
theorem dX1_stretchAt_4 : decode cX1_stretchAt 4 = .ok (.invokestatic 73, 3) := dk_184 0 73 (dk_at dksX1_stretchAt_0 4 rfl rfl)
theorem dX1_stretchAt_7 : decode cX1_stretchAt 7 = .ok (.invokestatic 77, 3) := dk_184 0 77 (dk_at dksX1_stretchAt_0 7 rfl rfl)
theorem dX1_stretchAt_10 : decode cX1_stretchAt 10 = .ok (.aload_n 0, 1) := dk_42 (dk_at dksX1_stretchAt_0 10 rfl rfl)
theorem dX1_stretchAt_11 : decode cX1_stretchAt 11 = .ok (.getfield 20, 3) := dk_180 0 20 (dk_at dksX1_stretchAt_0 11 rfl rfl)
theorem dX1_stretchAt_14 : decode cX1_stretchAt 14 = .ok (.iload_n 1, 1) := dk_27 (dk_at dksX1_stretchAt_0 14 rfl rfl)
theorem dX1_stretchAt_15 : decode cX1_stretchAt 15 = .ok (.aaload, 1) := dk_50 (dk_at dksX1_stretchAt_0 15 rfl rfl)
theorem dX1_stretchAt_16 : decode cX1_stretchAt 16 = .ok (.areturn, 1) := dk_176 (dk_at dksX1_stretchAt_0 16 rfl rfl)
abbrev cX1_requireIndex : ByteArray := prog_1_method_2_code
def yX1_requireIndex : MethodName := ⟨RX1, "requireIndex", "(Z)V"⟩
def dkwX1_requireIndex_0 : List UInt8 := [26, 154, 0, 11, 187, 0, 1, 89, 183, 0, 3, 191, 177]
abbrev dktX1_requireIndex_0 : List UInt8 := dkwX1_requireIndex_0 ++ []
theorem dksX1_requireIndex_0 : cX1_requireIndex.data.toList.drop 0 = dktX1_requireIndex_0 := by decide +kernel
theorem dX1_requireIndex_0 : decode cX1_requireIndex 0 = .ok (.iload_n 0, 1) := dk_26 (dk_at dksX1_requireIndex_0 0 rfl rfl)
theorem dX1_requireIndex_1 : decode cX1_requireIndex 1 = .ok (.ifCond .ne 11, 3) := dk_154 0 11 (dk_at dksX1_requireIndex_0 1 rfl rfl)
theorem dX1_requireIndex_4 : decode cX1_requireIndex 4 = .ok (.new 1, 3) := dk_187 0 1 (dk_at dksX1_requireIndex_0 4 rfl rfl)
theorem dX1_requireIndex_7 : decode cX1_requireIndex 7 = .ok (.dup, 1) := dk_89 (dk_at dksX1_requireIndex_0 7 rfl rfl)
theorem dX1_requireIndex_8 : decode cX1_requireIndex 8 = .ok (.invokespecial 3, 3) := dk_183 0 3 (dk_at dksX1_requireIndex_0 8 rfl rfl)
theorem dX1_requireIndex_11 : decode cX1_requireIndex 11 = .ok (.athrow, 1) := dk_191 (dk_at dksX1_requireIndex_0 11 rfl rfl)
theorem dX1_requireIndex_12 : decode cX1_requireIndex 12 = .ok (.return_, 1) := dk_177 (dk_at dksX1_requireIndex_0 12 rfl rfl)
abbrev cX1_setDays : ByteArray := prog_1_method_22_code
def yX1_setDays : MethodName := ⟨RX1, "setDays", "(II)I"⟩
def dkwX1_setDays_1 : List UInt8 := [180, 0, 56, 27, 28, 79, 29, 172]
abbrev dktX1_setDays_1 : List UInt8 := dkwX1_setDays_1 ++ []
def dkwX1_setDays_0 : List UInt8 := [27, 184, 1, 66, 28, 4, 16, 20, 184, 0, 73, 184, 0, 81, 42, 180, 0, 56, 27, 46, 62, 42]
abbrev dktX1_setDays_0 : List UInt8 := dkwX1_setDays_0 ++ dktX1_setDays_1
theorem dksX1_setDays_0 : cX1_setDays.data.toList.drop 0 = dktX1_setDays_0 := by decide +kernel
theorem dksX1_setDays_1 : cX1_setDays.data.toList.drop 22 = dktX1_setDays_1 := dk_seg dksX1_setDays_0 22 rfl rfl
theorem dX1_setDays_0 : decode cX1_setDays 0 = .ok (.iload_n 1, 1) := dk_27 (dk_at dksX1_setDays_0 0 rfl rfl)
theorem dX1_setDays_1 : decode cX1_setDays 1 = .ok (.invokestatic 322, 3) := dk_184 1 66 (dk_at dksX1_setDays_0 1 rfl rfl)
theorem dX1_setDays_4 : decode cX1_setDays 4 = .ok (.iload_n 2, 1) := dk_28 (dk_at dksX1_setDays_0 4 rfl rfl)
theorem dX1_setDays_5 : decode cX1_setDays 5 = .ok (.iconst 1, 1) := dk_4 (dk_at dksX1_setDays_0 5 rfl rfl)
theorem dX1_setDays_6 : decode cX1_setDays 6 = .ok (.bipush 20, 2) := dk_16 20 (dk_at dksX1_setDays_0 6 rfl rfl)
theorem dX1_setDays_8 : decode cX1_setDays 8 = .ok (.invokestatic 73, 3) := dk_184 0 73 (dk_at dksX1_setDays_0 8 rfl rfl)
theorem dX1_setDays_11 : decode cX1_setDays 11 = .ok (.invokestatic 81, 3) := dk_184 0 81 (dk_at dksX1_setDays_0 11 rfl rfl)
theorem dX1_setDays_14 : decode cX1_setDays 14 = .ok (.aload_n 0, 1) := dk_42 (dk_at dksX1_setDays_0 14 rfl rfl)
theorem dX1_setDays_15 : decode cX1_setDays 15 = .ok (.getfield 56, 3) := dk_180 0 56 (dk_at dksX1_setDays_0 15 rfl rfl)
theorem dX1_setDays_18 : decode cX1_setDays 18 = .ok (.iload_n 1, 1) := dk_27 (dk_at dksX1_setDays_0 18 rfl rfl)
theorem dX1_setDays_19 : decode cX1_setDays 19 = .ok (.iaload, 1) := dk_46 (dk_at dksX1_setDays_0 19 rfl rfl)
theorem dX1_setDays_20 : decode cX1_setDays 20 = .ok (.istore_n 3, 1) := dk_62 (dk_at dksX1_setDays_0 20 rfl rfl)
theorem dX1_setDays_21 : decode cX1_setDays 21 = .ok (.aload_n 0, 1) := dk_42 (dk_at dksX1_setDays_0 21 rfl rfl)
theorem dX1_setDays_22 : decode cX1_setDays 22 = .ok (.getfield 56, 3) := dk_180 0 56 (dk_at dksX1_setDays_1 0 rfl rfl)
theorem dX1_setDays_25 : decode cX1_setDays 25 = .ok (.iload_n 1, 1) := dk_27 (dk_at dksX1_setDays_1 3 rfl rfl)
theorem dX1_setDays_26 : decode cX1_setDays 26 = .ok (.iload_n 2, 1) := dk_28 (dk_at dksX1_setDays_1 4 rfl rfl)
theorem dX1_setDays_27 : decode cX1_setDays 27 = .ok (.iastore, 1) := dk_79 (dk_at dksX1_setDays_1 5 rfl rfl)
theorem dX1_setDays_28 : decode cX1_setDays 28 = .ok (.iload_n 3, 1) := dk_29 (dk_at dksX1_setDays_1 6 rfl rfl)
theorem dX1_setDays_29 : decode cX1_setDays 29 = .ok (.ireturn, 1) := dk_172 (dk_at dksX1_setDays_1 7 rfl rfl)
abbrev cX1_requireRider : ByteArray := prog_1_method_7_code
def yX1_requireRider : MethodName := ⟨RX1, "requireRider", "(I)V"⟩
def dkwX1_requireRider_0 : List UInt8 := [26, 3, 6, 184, 0, 73, 184, 0, 77, 177]
abbrev dktX1_requireRider_0 : List UInt8 := dkwX1_requireRider_0 ++ []
theorem dksX1_requireRider_0 : cX1_requireRider.data.toList.drop 0 = dktX1_requireRider_0 := by decide +kernel
theorem dX1_requireRider_0 : decode cX1_requireRider 0 = .ok (.iload_n 0, 1) := dk_26 (dk_at dksX1_requireRider_0 0 rfl rfl)
theorem dX1_requireRider_1 : decode cX1_requireRider 1 = .ok (.iconst 0, 1) := dk_3 (dk_at dksX1_requireRider_0 1 rfl rfl)
theorem dX1_requireRider_2 : decode cX1_requireRider 2 = .ok (.iconst 3, 1) := dk_6 (dk_at dksX1_requireRider_0 2 rfl rfl)
theorem dX1_requireRider_3 : decode cX1_requireRider 3 = .ok (.invokestatic 73, 3) := dk_184 0 73 (dk_at dksX1_requireRider_0 3 rfl rfl)
theorem dX1_requireRider_6 : decode cX1_requireRider 6 = .ok (.invokestatic 77, 3) := dk_184 0 77 (dk_at dksX1_requireRider_0 6 rfl rfl)
theorem dX1_requireRider_9 : decode cX1_requireRider 9 = .ok (.return_, 1) := dk_177 (dk_at dksX1_requireRider_0 9 rfl rfl)
abbrev cX1_setLimit : ByteArray := prog_1_method_23_code
def yX1_setLimit : MethodName := ⟨RX1, "setLimit", "(I)I"⟩
def dkwX1_setLimit_0 : List UInt8 := [27, 3, 17, 3, 232, 184, 0, 73, 184, 0, 81, 42, 180, 0, 67, 61, 42, 27, 181, 0, 67, 28, 172]
abbrev dktX1_setLimit_0 : List UInt8 := dkwX1_setLimit_0 ++ []
theorem dksX1_setLimit_0 : cX1_setLimit.data.toList.drop 0 = dktX1_setLimit_0 := by decide +kernel
theorem dX1_setLimit_0 : decode cX1_setLimit 0 = .ok (.iload_n 1, 1) := dk_27 (dk_at dksX1_setLimit_0 0 rfl rfl)
theorem dX1_setLimit_1 : decode cX1_setLimit 1 = .ok (.iconst 0, 1) := dk_3 (dk_at dksX1_setLimit_0 1 rfl rfl)
theorem dX1_setLimit_2 : decode cX1_setLimit 2 = .ok (.sipush 1000, 3) := dk_17 3 232 (dk_at dksX1_setLimit_0 2 rfl rfl)
theorem dX1_setLimit_5 : decode cX1_setLimit 5 = .ok (.invokestatic 73, 3) := dk_184 0 73 (dk_at dksX1_setLimit_0 5 rfl rfl)
theorem dX1_setLimit_8 : decode cX1_setLimit 8 = .ok (.invokestatic 81, 3) := dk_184 0 81 (dk_at dksX1_setLimit_0 8 rfl rfl)
theorem dX1_setLimit_11 : decode cX1_setLimit 11 = .ok (.aload_n 0, 1) := dk_42 (dk_at dksX1_setLimit_0 11 rfl rfl)
theorem dX1_setLimit_12 : decode cX1_setLimit 12 = .ok (.getfield 67, 3) := dk_180 0 67 (dk_at dksX1_setLimit_0 12 rfl rfl)
theorem dX1_setLimit_15 : decode cX1_setLimit 15 = .ok (.istore_n 2, 1) := dk_61 (dk_at dksX1_setLimit_0 15 rfl rfl)
theorem dX1_setLimit_16 : decode cX1_setLimit 16 = .ok (.aload_n 0, 1) := dk_42 (dk_at dksX1_setLimit_0 16 rfl rfl)
theorem dX1_setLimit_17 : decode cX1_setLimit 17 = .ok (.iload_n 1, 1) := dk_27 (dk_at dksX1_setLimit_0 17 rfl rfl)
theorem dX1_setLimit_18 : decode cX1_setLimit 18 = .ok (.putfield 67, 3) := dk_181 0 67 (dk_at dksX1_setLimit_0 18 rfl rfl)
theorem dX1_setLimit_21 : decode cX1_setLimit 21 = .ok (.iload_n 2, 1) := dk_28 (dk_at dksX1_setLimit_0 21 rfl rfl)
theorem dX1_setLimit_22 : decode cX1_setLimit 22 = .ok (.ireturn, 1) := dk_172 (dk_at dksX1_setLimit_0 22 rfl rfl)
abbrev cX1_cut : ByteArray := prog_1_method_24_code
def yX1_cut : MethodName := ⟨RX1, "cut", "(I)I"⟩
def dkwX1_cut_2 : List UInt8 := [96, 187, 0, 251, 89, 27, 183, 1, 72, 182, 0, 144, 42, 180, 0, 141, 16, 14, 96, 172]
abbrev dktX1_cut_2 : List UInt8 := dkwX1_cut_2 ++ []
def dkwX1_cut_1 : List UInt8 := [167, 0, 4, 3, 184, 1, 54, 42, 89, 180, 1, 69, 27, 96, 181, 1, 69, 42, 42, 180, 0, 141, 16, 14]
abbrev dktX1_cut_1 : List UInt8 := dkwX1_cut_1 ++ dktX1_cut_2
def dkwX1_cut_0 : List UInt8 := [27, 4, 16, 20, 184, 0, 73, 184, 0, 81, 42, 180, 1, 69, 27, 96, 17, 0, 200, 163, 0, 7, 4]
abbrev dktX1_cut_0 : List UInt8 := dkwX1_cut_0 ++ dktX1_cut_1
theorem dksX1_cut_0 : cX1_cut.data.toList.drop 0 = dktX1_cut_0 := by decide +kernel
theorem dksX1_cut_1 : cX1_cut.data.toList.drop 23 = dktX1_cut_1 := dk_seg dksX1_cut_0 23 rfl rfl
theorem dksX1_cut_2 : cX1_cut.data.toList.drop 47 = dktX1_cut_2 := dk_seg dksX1_cut_1 24 rfl rfl
theorem dX1_cut_0 : decode cX1_cut 0 = .ok (.iload_n 1, 1) := dk_27 (dk_at dksX1_cut_0 0 rfl rfl)
theorem dX1_cut_1 : decode cX1_cut 1 = .ok (.iconst 1, 1) := dk_4 (dk_at dksX1_cut_0 1 rfl rfl)
theorem dX1_cut_2 : decode cX1_cut 2 = .ok (.bipush 20, 2) := dk_16 20 (dk_at dksX1_cut_0 2 rfl rfl)
theorem dX1_cut_4 : decode cX1_cut 4 = .ok (.invokestatic 73, 3) := dk_184 0 73 (dk_at dksX1_cut_0 4 rfl rfl)
theorem dX1_cut_7 : decode cX1_cut 7 = .ok (.invokestatic 81, 3) := dk_184 0 81 (dk_at dksX1_cut_0 7 rfl rfl)
theorem dX1_cut_10 : decode cX1_cut 10 = .ok (.aload_n 0, 1) := dk_42 (dk_at dksX1_cut_0 10 rfl rfl)
theorem dX1_cut_11 : decode cX1_cut 11 = .ok (.getfield 325, 3) := dk_180 1 69 (dk_at dksX1_cut_0 11 rfl rfl)
theorem dX1_cut_14 : decode cX1_cut 14 = .ok (.iload_n 1, 1) := dk_27 (dk_at dksX1_cut_0 14 rfl rfl)
theorem dX1_cut_15 : decode cX1_cut 15 = .ok (.iadd, 1) := dk_96 (dk_at dksX1_cut_0 15 rfl rfl)
theorem dX1_cut_16 : decode cX1_cut 16 = .ok (.sipush 200, 3) := dk_17 0 200 (dk_at dksX1_cut_0 16 rfl rfl)
theorem dX1_cut_19 : decode cX1_cut 19 = .ok (.if_icmp .gt 7, 3) := dk_163 0 7 (dk_at dksX1_cut_0 19 rfl rfl)
theorem dX1_cut_22 : decode cX1_cut 22 = .ok (.iconst 1, 1) := dk_4 (dk_at dksX1_cut_0 22 rfl rfl)
theorem dX1_cut_23 : decode cX1_cut 23 = .ok (.goto 4, 3) := dk_167 0 4 (dk_at dksX1_cut_1 0 rfl rfl)
theorem dX1_cut_26 : decode cX1_cut 26 = .ok (.iconst 0, 1) := dk_3 (dk_at dksX1_cut_1 3 rfl rfl)
theorem dX1_cut_27 : decode cX1_cut 27 = .ok (.invokestatic 310, 3) := dk_184 1 54 (dk_at dksX1_cut_1 4 rfl rfl)
theorem dX1_cut_30 : decode cX1_cut 30 = .ok (.aload_n 0, 1) := dk_42 (dk_at dksX1_cut_1 7 rfl rfl)
theorem dX1_cut_31 : decode cX1_cut 31 = .ok (.dup, 1) := dk_89 (dk_at dksX1_cut_1 8 rfl rfl)
theorem dX1_cut_32 : decode cX1_cut 32 = .ok (.getfield 325, 3) := dk_180 1 69 (dk_at dksX1_cut_1 9 rfl rfl)
theorem dX1_cut_35 : decode cX1_cut 35 = .ok (.iload_n 1, 1) := dk_27 (dk_at dksX1_cut_1 12 rfl rfl)
theorem dX1_cut_36 : decode cX1_cut 36 = .ok (.iadd, 1) := dk_96 (dk_at dksX1_cut_1 13 rfl rfl)
theorem dX1_cut_37 : decode cX1_cut 37 = .ok (.putfield 325, 3) := dk_181 1 69 (dk_at dksX1_cut_1 14 rfl rfl)
theorem dX1_cut_40 : decode cX1_cut 40 = .ok (.aload_n 0, 1) := dk_42 (dk_at dksX1_cut_1 17 rfl rfl)
theorem dX1_cut_41 : decode cX1_cut 41 = .ok (.aload_n 0, 1) := dk_42 (dk_at dksX1_cut_1 18 rfl rfl)
theorem dX1_cut_42 : decode cX1_cut 42 = .ok (.getfield 141, 3) := dk_180 0 141 (dk_at dksX1_cut_1 19 rfl rfl)
theorem dX1_cut_45 : decode cX1_cut 45 = .ok (.bipush 14, 2) := dk_16 14 (dk_at dksX1_cut_1 22 rfl rfl)
theorem dX1_cut_47 : decode cX1_cut 47 = .ok (.iadd, 1) := dk_96 (dk_at dksX1_cut_2 0 rfl rfl)
theorem dX1_cut_48 : decode cX1_cut 48 = .ok (.new 251, 3) := dk_187 0 251 (dk_at dksX1_cut_2 1 rfl rfl)
theorem dX1_cut_51 : decode cX1_cut 51 = .ok (.dup, 1) := dk_89 (dk_at dksX1_cut_2 4 rfl rfl)
theorem dX1_cut_52 : decode cX1_cut 52 = .ok (.iload_n 1, 1) := dk_27 (dk_at dksX1_cut_2 5 rfl rfl)
theorem dX1_cut_53 : decode cX1_cut 53 = .ok (.invokespecial 328, 3) := dk_183 1 72 (dk_at dksX1_cut_2 6 rfl rfl)
theorem dX1_cut_56 : decode cX1_cut 56 = .ok (.invokevirtual 144, 3) := dk_182 0 144 (dk_at dksX1_cut_2 9 rfl rfl)
theorem dX1_cut_59 : decode cX1_cut 59 = .ok (.aload_n 0, 1) := dk_42 (dk_at dksX1_cut_2 12 rfl rfl)
theorem dX1_cut_60 : decode cX1_cut 60 = .ok (.getfield 141, 3) := dk_180 0 141 (dk_at dksX1_cut_2 13 rfl rfl)
theorem dX1_cut_63 : decode cX1_cut 63 = .ok (.bipush 14, 2) := dk_16 14 (dk_at dksX1_cut_2 16 rfl rfl)
theorem dX1_cut_65 : decode cX1_cut 65 = .ok (.iadd, 1) := dk_96 (dk_at dksX1_cut_2 18 rfl rfl)
theorem dX1_cut_66 : decode cX1_cut 66 = .ok (.ireturn, 1) := dk_172 (dk_at dksX1_cut_2 19 rfl rfl)
abbrev cX1_lay : ByteArray := prog_1_method_25_code
def yX1_lay : MethodName := ⟨RX1, "lay", "(II)I"⟩
def dkwX1_lay_1 : List UInt8 := [161, 0, 7, 4, 167, 0, 4, 3, 184, 1, 54, 42, 45, 28, 182, 0, 173, 172]
abbrev dktX1_lay_1 : List UInt8 := dkwX1_lay_1 ++ []
def dkwX1_lay_0 : List UInt8 := [42, 27, 182, 1, 62, 78, 28, 4, 16, 20, 184, 0, 73, 184, 0, 81, 42, 180, 0, 36, 182, 0, 162, 28]
abbrev dktX1_lay_0 : List UInt8 := dkwX1_lay_0 ++ dktX1_lay_1
theorem dksX1_lay_0 : cX1_lay.data.toList.drop 0 = dktX1_lay_0 := by decide +kernel
theorem dksX1_lay_1 : cX1_lay.data.toList.drop 24 = dktX1_lay_1 := dk_seg dksX1_lay_0 24 rfl rfl
theorem dX1_lay_0 : decode cX1_lay 0 = .ok (.aload_n 0, 1) := dk_42 (dk_at dksX1_lay_0 0 rfl rfl)
theorem dX1_lay_1 : decode cX1_lay 1 = .ok (.iload_n 1, 1) := dk_27 (dk_at dksX1_lay_0 1 rfl rfl)
theorem dX1_lay_2 : decode cX1_lay 2 = .ok (.invokevirtual 318, 3) := dk_182 1 62 (dk_at dksX1_lay_0 2 rfl rfl)
theorem dX1_lay_5 : decode cX1_lay 5 = .ok (.astore_n 3, 1) := dk_78 (dk_at dksX1_lay_0 5 rfl rfl)
theorem dX1_lay_6 : decode cX1_lay 6 = .ok (.iload_n 2, 1) := dk_28 (dk_at dksX1_lay_0 6 rfl rfl)
theorem dX1_lay_7 : decode cX1_lay 7 = .ok (.iconst 1, 1) := dk_4 (dk_at dksX1_lay_0 7 rfl rfl)
theorem dX1_lay_8 : decode cX1_lay 8 = .ok (.bipush 20, 2) := dk_16 20 (dk_at dksX1_lay_0 8 rfl rfl)
theorem dX1_lay_10 : decode cX1_lay 10 = .ok (.invokestatic 73, 3) := dk_184 0 73 (dk_at dksX1_lay_0 10 rfl rfl)
theorem dX1_lay_13 : decode cX1_lay 13 = .ok (.invokestatic 81, 3) := dk_184 0 81 (dk_at dksX1_lay_0 13 rfl rfl)
theorem dX1_lay_16 : decode cX1_lay 16 = .ok (.aload_n 0, 1) := dk_42 (dk_at dksX1_lay_0 16 rfl rfl)
theorem dX1_lay_17 : decode cX1_lay 17 = .ok (.getfield 36, 3) := dk_180 0 36 (dk_at dksX1_lay_0 17 rfl rfl)
theorem dX1_lay_20 : decode cX1_lay 20 = .ok (.invokevirtual 162, 3) := dk_182 0 162 (dk_at dksX1_lay_0 20 rfl rfl)
theorem dX1_lay_23 : decode cX1_lay 23 = .ok (.iload_n 2, 1) := dk_28 (dk_at dksX1_lay_0 23 rfl rfl)
theorem dX1_lay_24 : decode cX1_lay 24 = .ok (.if_icmp .lt 7, 3) := dk_161 0 7 (dk_at dksX1_lay_1 0 rfl rfl)
theorem dX1_lay_27 : decode cX1_lay 27 = .ok (.iconst 1, 1) := dk_4 (dk_at dksX1_lay_1 3 rfl rfl)
theorem dX1_lay_28 : decode cX1_lay 28 = .ok (.goto 4, 3) := dk_167 0 4 (dk_at dksX1_lay_1 4 rfl rfl)
theorem dX1_lay_31 : decode cX1_lay 31 = .ok (.iconst 0, 1) := dk_3 (dk_at dksX1_lay_1 7 rfl rfl)
theorem dX1_lay_32 : decode cX1_lay 32 = .ok (.invokestatic 310, 3) := dk_184 1 54 (dk_at dksX1_lay_1 8 rfl rfl)
theorem dX1_lay_35 : decode cX1_lay 35 = .ok (.aload_n 0, 1) := dk_42 (dk_at dksX1_lay_1 11 rfl rfl)
theorem dX1_lay_36 : decode cX1_lay 36 = .ok (.aload_n 3, 1) := dk_45 (dk_at dksX1_lay_1 12 rfl rfl)
theorem dX1_lay_37 : decode cX1_lay 37 = .ok (.iload_n 2, 1) := dk_28 (dk_at dksX1_lay_1 13 rfl rfl)
theorem dX1_lay_38 : decode cX1_lay 38 = .ok (.invokevirtual 173, 3) := dk_182 0 173 (dk_at dksX1_lay_1 14 rfl rfl)
theorem dX1_lay_41 : decode cX1_lay 41 = .ok (.ireturn, 1) := dk_172 (dk_at dksX1_lay_1 17 rfl rfl)
abbrev cX1_stock : ByteArray := prog_1_method_28_code
def yX1_stock : MethodName := ⟨RX1, "stock", "(I)I"⟩
def dkwX1_stock_2 : List UInt8 := [16, 7, 160, 0, 15, 42, 180, 0, 27, 185, 0, 180, 1, 0, 167, 0, 8, 42, 27, 182, 1, 77, 172]
abbrev dktX1_stock_2 : List UInt8 := dkwX1_stock_2 ++ []
def dkwX1_stock_1 : List UInt8 := [16, 6, 160, 0, 20, 42, 180, 1, 69, 42, 180, 0, 27, 185, 0, 180, 1, 0, 100, 167, 0, 26, 27]
abbrev dktX1_stock_1 : List UInt8 := dkwX1_stock_1 ++ dktX1_stock_2
def dkwX1_stock_0 : List UInt8 := [27, 3, 16, 7, 184, 0, 73, 184, 0, 81, 27, 8, 160, 0, 10, 42, 182, 1, 74, 167, 0, 49, 27]
abbrev dktX1_stock_0 : List UInt8 := dkwX1_stock_0 ++ dktX1_stock_1
theorem dksX1_stock_0 : cX1_stock.data.toList.drop 0 = dktX1_stock_0 := by decide +kernel
theorem dksX1_stock_1 : cX1_stock.data.toList.drop 23 = dktX1_stock_1 := dk_seg dksX1_stock_0 23 rfl rfl
theorem dksX1_stock_2 : cX1_stock.data.toList.drop 46 = dktX1_stock_2 := dk_seg dksX1_stock_1 23 rfl rfl
theorem dX1_stock_0 : decode cX1_stock 0 = .ok (.iload_n 1, 1) := dk_27 (dk_at dksX1_stock_0 0 rfl rfl)
theorem dX1_stock_1 : decode cX1_stock 1 = .ok (.iconst 0, 1) := dk_3 (dk_at dksX1_stock_0 1 rfl rfl)
theorem dX1_stock_2 : decode cX1_stock 2 = .ok (.bipush 7, 2) := dk_16 7 (dk_at dksX1_stock_0 2 rfl rfl)
theorem dX1_stock_4 : decode cX1_stock 4 = .ok (.invokestatic 73, 3) := dk_184 0 73 (dk_at dksX1_stock_0 4 rfl rfl)
theorem dX1_stock_7 : decode cX1_stock 7 = .ok (.invokestatic 81, 3) := dk_184 0 81 (dk_at dksX1_stock_0 7 rfl rfl)
theorem dX1_stock_10 : decode cX1_stock 10 = .ok (.iload_n 1, 1) := dk_27 (dk_at dksX1_stock_0 10 rfl rfl)
theorem dX1_stock_11 : decode cX1_stock 11 = .ok (.iconst 5, 1) := dk_8 (dk_at dksX1_stock_0 11 rfl rfl)
theorem dX1_stock_12 : decode cX1_stock 12 = .ok (.if_icmp .ne 10, 3) := dk_160 0 10 (dk_at dksX1_stock_0 12 rfl rfl)
theorem dX1_stock_15 : decode cX1_stock 15 = .ok (.aload_n 0, 1) := dk_42 (dk_at dksX1_stock_0 15 rfl rfl)
theorem dX1_stock_16 : decode cX1_stock 16 = .ok (.invokevirtual 330, 3) := dk_182 1 74 (dk_at dksX1_stock_0 16 rfl rfl)
theorem dX1_stock_19 : decode cX1_stock 19 = .ok (.goto 49, 3) := dk_167 0 49 (dk_at dksX1_stock_0 19 rfl rfl)
theorem dX1_stock_22 : decode cX1_stock 22 = .ok (.iload_n 1, 1) := dk_27 (dk_at dksX1_stock_0 22 rfl rfl)
theorem dX1_stock_23 : decode cX1_stock 23 = .ok (.bipush 6, 2) := dk_16 6 (dk_at dksX1_stock_1 0 rfl rfl)
theorem dX1_stock_25 : decode cX1_stock 25 = .ok (.if_icmp .ne 20, 3) := dk_160 0 20 (dk_at dksX1_stock_1 2 rfl rfl)
theorem dX1_stock_28 : decode cX1_stock 28 = .ok (.aload_n 0, 1) := dk_42 (dk_at dksX1_stock_1 5 rfl rfl)
theorem dX1_stock_29 : decode cX1_stock 29 = .ok (.getfield 325, 3) := dk_180 1 69 (dk_at dksX1_stock_1 6 rfl rfl)
theorem dX1_stock_32 : decode cX1_stock 32 = .ok (.aload_n 0, 1) := dk_42 (dk_at dksX1_stock_1 9 rfl rfl)
theorem dX1_stock_33 : decode cX1_stock 33 = .ok (.getfield 27, 3) := dk_180 0 27 (dk_at dksX1_stock_1 10 rfl rfl)
theorem dX1_stock_36 : decode cX1_stock 36 = .ok (.invokeinterface 180 1, 5) := by decide +kernel
theorem dX1_stock_41 : decode cX1_stock 41 = .ok (.isub, 1) := dk_100 (dk_at dksX1_stock_1 18 rfl rfl)
theorem dX1_stock_42 : decode cX1_stock 42 = .ok (.goto 26, 3) := dk_167 0 26 (dk_at dksX1_stock_1 19 rfl rfl)
theorem dX1_stock_45 : decode cX1_stock 45 = .ok (.iload_n 1, 1) := dk_27 (dk_at dksX1_stock_1 22 rfl rfl)
theorem dX1_stock_46 : decode cX1_stock 46 = .ok (.bipush 7, 2) := dk_16 7 (dk_at dksX1_stock_2 0 rfl rfl)
theorem dX1_stock_48 : decode cX1_stock 48 = .ok (.if_icmp .ne 15, 3) := dk_160 0 15 (dk_at dksX1_stock_2 2 rfl rfl)
theorem dX1_stock_51 : decode cX1_stock 51 = .ok (.aload_n 0, 1) := dk_42 (dk_at dksX1_stock_2 5 rfl rfl)
theorem dX1_stock_52 : decode cX1_stock 52 = .ok (.getfield 27, 3) := dk_180 0 27 (dk_at dksX1_stock_2 6 rfl rfl)
theorem dX1_stock_55 : decode cX1_stock 55 = .ok (.invokeinterface 180 1, 5) := by decide +kernel
theorem dX1_stock_60 : decode cX1_stock 60 = .ok (.goto 8, 3) := dk_167 0 8 (dk_at dksX1_stock_2 14 rfl rfl)
theorem dX1_stock_63 : decode cX1_stock 63 = .ok (.aload_n 0, 1) := dk_42 (dk_at dksX1_stock_2 17 rfl rfl)
theorem dX1_stock_64 : decode cX1_stock 64 = .ok (.iload_n 1, 1) := dk_27 (dk_at dksX1_stock_2 18 rfl rfl)
theorem dX1_stock_65 : decode cX1_stock 65 = .ok (.invokevirtual 333, 3) := dk_182 1 77 (dk_at dksX1_stock_2 19 rfl rfl)
theorem dX1_stock_68 : decode cX1_stock 68 = .ok (.ireturn, 1) := dk_172 (dk_at dksX1_stock_2 22 rfl rfl)
abbrev cX1_owedAll : ByteArray := prog_1_method_27_code
def yX1_owedAll : MethodName := ⟨RX1, "owedAll", "()I"⟩
def dkwX1_owedAll_1 : List UInt8 := [185, 0, 201, 1, 0, 192, 0, 157, 78, 27, 45, 180, 0, 159, 96, 60, 167, 255, 230, 27, 172]
abbrev dktX1_owedAll_1 : List UInt8 := dkwX1_owedAll_1 ++ []
def dkwX1_owedAll_0 : List UInt8 := [3, 60, 42, 180, 0, 43, 182, 1, 73, 77, 44, 185, 0, 196, 1, 0, 153, 0, 23, 44]
abbrev dktX1_owedAll_0 : List UInt8 := dkwX1_owedAll_0 ++ dktX1_owedAll_1
theorem dksX1_owedAll_0 : cX1_owedAll.data.toList.drop 0 = dktX1_owedAll_0 := by decide +kernel
theorem dksX1_owedAll_1 : cX1_owedAll.data.toList.drop 20 = dktX1_owedAll_1 := dk_seg dksX1_owedAll_0 20 rfl rfl
theorem dX1_owedAll_0 : decode cX1_owedAll 0 = .ok (.iconst 0, 1) := dk_3 (dk_at dksX1_owedAll_0 0 rfl rfl)
theorem dX1_owedAll_1 : decode cX1_owedAll 1 = .ok (.istore_n 1, 1) := dk_60 (dk_at dksX1_owedAll_0 1 rfl rfl)
theorem dX1_owedAll_2 : decode cX1_owedAll 2 = .ok (.aload_n 0, 1) := dk_42 (dk_at dksX1_owedAll_0 2 rfl rfl)
theorem dX1_owedAll_3 : decode cX1_owedAll 3 = .ok (.getfield 43, 3) := dk_180 0 43 (dk_at dksX1_owedAll_0 3 rfl rfl)
theorem dX1_owedAll_6 : decode cX1_owedAll 6 = .ok (.invokevirtual 329, 3) := dk_182 1 73 (dk_at dksX1_owedAll_0 6 rfl rfl)
theorem dX1_owedAll_9 : decode cX1_owedAll 9 = .ok (.astore_n 2, 1) := dk_77 (dk_at dksX1_owedAll_0 9 rfl rfl)
theorem dX1_owedAll_10 : decode cX1_owedAll 10 = .ok (.aload_n 2, 1) := dk_44 (dk_at dksX1_owedAll_0 10 rfl rfl)
theorem dX1_owedAll_11 : decode cX1_owedAll 11 = .ok (.invokeinterface 196 1, 5) := by decide +kernel
theorem dX1_owedAll_16 : decode cX1_owedAll 16 = .ok (.ifCond .eq 23, 3) := dk_153 0 23 (dk_at dksX1_owedAll_0 16 rfl rfl)
theorem dX1_owedAll_19 : decode cX1_owedAll 19 = .ok (.aload_n 2, 1) := dk_44 (dk_at dksX1_owedAll_0 19 rfl rfl)
theorem dX1_owedAll_20 : decode cX1_owedAll 20 = .ok (.invokeinterface 201 1, 5) := by decide +kernel
theorem dX1_owedAll_25 : decode cX1_owedAll 25 = .ok (.checkcast 157, 3) := dk_192 0 157 (dk_at dksX1_owedAll_1 5 rfl rfl)
theorem dX1_owedAll_28 : decode cX1_owedAll 28 = .ok (.astore_n 3, 1) := dk_78 (dk_at dksX1_owedAll_1 8 rfl rfl)
theorem dX1_owedAll_29 : decode cX1_owedAll 29 = .ok (.iload_n 1, 1) := dk_27 (dk_at dksX1_owedAll_1 9 rfl rfl)
theorem dX1_owedAll_30 : decode cX1_owedAll 30 = .ok (.aload_n 3, 1) := dk_45 (dk_at dksX1_owedAll_1 10 rfl rfl)
theorem dX1_owedAll_31 : decode cX1_owedAll 31 = .ok (.getfield 159, 3) := dk_180 0 159 (dk_at dksX1_owedAll_1 11 rfl rfl)
theorem dX1_owedAll_34 : decode cX1_owedAll 34 = .ok (.iadd, 1) := dk_96 (dk_at dksX1_owedAll_1 14 rfl rfl)
theorem dX1_owedAll_35 : decode cX1_owedAll 35 = .ok (.istore_n 1, 1) := dk_60 (dk_at dksX1_owedAll_1 15 rfl rfl)
theorem dX1_owedAll_36 : decode cX1_owedAll 36 = .ok (.goto (-26), 3) := dk_167 255 230 (dk_at dksX1_owedAll_1 16 rfl rfl)
theorem dX1_owedAll_39 : decode cX1_owedAll 39 = .ok (.iload_n 1, 1) := dk_27 (dk_at dksX1_owedAll_1 19 rfl rfl)
theorem dX1_owedAll_40 : decode cX1_owedAll 40 = .ok (.ireturn, 1) := dk_172 (dk_at dksX1_owedAll_1 20 rfl rfl)
abbrev cX1_board : ByteArray := prog_1_method_29_code
def yX1_board : MethodName := ⟨RX1, "board", "(II)I"⟩
def dkwX1_board_4 : List UInt8 := [180, 1, 27, 167, 0, 18, 45, 180, 1, 24, 167, 0, 11, 187, 0, 7, 89, 183, 0, 9, 191, 172]
abbrev dktX1_board_4 : List UInt8 := dkwX1_board_4 ++ []
def dkwX1_board_3 : List UInt8 := [45, 180, 0, 128, 167, 0, 39, 45, 180, 0, 134, 167, 0, 32, 45, 180, 1, 80, 167, 0, 25, 45]
abbrev dktX1_board_3 : List UInt8 := dkwX1_board_3 ++ dktX1_board_4
def dkwX1_board_2 : List UInt8 := [170, 0, 0, 0, 0, 69, 0, 0, 0, 0, 0, 0, 0, 4, 0, 0, 0, 34, 0, 0, 0, 41, 0, 0, 0, 48, 0, 0, 0, 55, 0, 0, 0, 62]
abbrev dktX1_board_2 : List UInt8 := dkwX1_board_2 ++ dktX1_board_3
def dkwX1_board_1 : List UInt8 := [185, 0, 121, 2, 0, 192, 0, 126, 78, 28]
abbrev dktX1_board_1 : List UInt8 := dkwX1_board_1 ++ dktX1_board_2
def dkwX1_board_0 : List UInt8 := [27, 3, 42, 180, 0, 27, 185, 0, 180, 1, 0, 4, 100, 184, 0, 73, 184, 0, 77, 42, 180, 0, 27, 27]
abbrev dktX1_board_0 : List UInt8 := dkwX1_board_0 ++ dktX1_board_1
theorem dksX1_board_0 : cX1_board.data.toList.drop 0 = dktX1_board_0 := by decide +kernel
theorem dksX1_board_1 : cX1_board.data.toList.drop 24 = dktX1_board_1 := dk_seg dksX1_board_0 24 rfl rfl
theorem dksX1_board_2 : cX1_board.data.toList.drop 34 = dktX1_board_2 := dk_seg dksX1_board_1 10 rfl rfl
theorem dksX1_board_3 : cX1_board.data.toList.drop 68 = dktX1_board_3 := dk_seg dksX1_board_2 34 rfl rfl
theorem dksX1_board_4 : cX1_board.data.toList.drop 90 = dktX1_board_4 := dk_seg dksX1_board_3 22 rfl rfl
theorem dX1_board_0 : decode cX1_board 0 = .ok (.iload_n 1, 1) := dk_27 (dk_at dksX1_board_0 0 rfl rfl)
theorem dX1_board_1 : decode cX1_board 1 = .ok (.iconst 0, 1) := dk_3 (dk_at dksX1_board_0 1 rfl rfl)
theorem dX1_board_2 : decode cX1_board 2 = .ok (.aload_n 0, 1) := dk_42 (dk_at dksX1_board_0 2 rfl rfl)
theorem dX1_board_3 : decode cX1_board 3 = .ok (.getfield 27, 3) := dk_180 0 27 (dk_at dksX1_board_0 3 rfl rfl)
theorem dX1_board_6 : decode cX1_board 6 = .ok (.invokeinterface 180 1, 5) := by decide +kernel
theorem dX1_board_11 : decode cX1_board 11 = .ok (.iconst 1, 1) := dk_4 (dk_at dksX1_board_0 11 rfl rfl)
theorem dX1_board_12 : decode cX1_board 12 = .ok (.isub, 1) := dk_100 (dk_at dksX1_board_0 12 rfl rfl)
theorem dX1_board_13 : decode cX1_board 13 = .ok (.invokestatic 73, 3) := dk_184 0 73 (dk_at dksX1_board_0 13 rfl rfl)
theorem dX1_board_16 : decode cX1_board 16 = .ok (.invokestatic 77, 3) := dk_184 0 77 (dk_at dksX1_board_0 16 rfl rfl)
theorem dX1_board_19 : decode cX1_board 19 = .ok (.aload_n 0, 1) := dk_42 (dk_at dksX1_board_0 19 rfl rfl)
theorem dX1_board_20 : decode cX1_board 20 = .ok (.getfield 27, 3) := dk_180 0 27 (dk_at dksX1_board_0 20 rfl rfl)
theorem dX1_board_23 : decode cX1_board 23 = .ok (.iload_n 1, 1) := dk_27 (dk_at dksX1_board_0 23 rfl rfl)
theorem dX1_board_24 : decode cX1_board 24 = .ok (.invokeinterface 121 2, 5) := by decide +kernel
theorem dX1_board_29 : decode cX1_board 29 = .ok (.checkcast 126, 3) := dk_192 0 126 (dk_at dksX1_board_1 5 rfl rfl)
theorem dX1_board_32 : decode cX1_board 32 = .ok (.astore_n 3, 1) := dk_78 (dk_at dksX1_board_1 8 rfl rfl)
theorem dX1_board_33 : decode cX1_board 33 = .ok (.iload_n 2, 1) := dk_28 (dk_at dksX1_board_1 9 rfl rfl)
theorem dX1_board_34 : decode cX1_board 34 = .ok (.tableswitch 69 0 4 #[34, 41, 48, 55, 62], 34) := by decide +kernel
theorem dX1_board_68 : decode cX1_board 68 = .ok (.aload_n 3, 1) := dk_45 (dk_at dksX1_board_3 0 rfl rfl)
theorem dX1_board_69 : decode cX1_board 69 = .ok (.getfield 128, 3) := dk_180 0 128 (dk_at dksX1_board_3 1 rfl rfl)
theorem dX1_board_72 : decode cX1_board 72 = .ok (.goto 39, 3) := dk_167 0 39 (dk_at dksX1_board_3 4 rfl rfl)
theorem dX1_board_75 : decode cX1_board 75 = .ok (.aload_n 3, 1) := dk_45 (dk_at dksX1_board_3 7 rfl rfl)
theorem dX1_board_76 : decode cX1_board 76 = .ok (.getfield 134, 3) := dk_180 0 134 (dk_at dksX1_board_3 8 rfl rfl)
theorem dX1_board_79 : decode cX1_board 79 = .ok (.goto 32, 3) := dk_167 0 32 (dk_at dksX1_board_3 11 rfl rfl)
theorem dX1_board_82 : decode cX1_board 82 = .ok (.aload_n 3, 1) := dk_45 (dk_at dksX1_board_3 14 rfl rfl)
theorem dX1_board_83 : decode cX1_board 83 = .ok (.getfield 336, 3) := dk_180 1 80 (dk_at dksX1_board_3 15 rfl rfl)
theorem dX1_board_86 : decode cX1_board 86 = .ok (.goto 25, 3) := dk_167 0 25 (dk_at dksX1_board_3 18 rfl rfl)
theorem dX1_board_89 : decode cX1_board 89 = .ok (.aload_n 3, 1) := dk_45 (dk_at dksX1_board_3 21 rfl rfl)
theorem dX1_board_90 : decode cX1_board 90 = .ok (.getfield 283, 3) := dk_180 1 27 (dk_at dksX1_board_4 0 rfl rfl)
theorem dX1_board_93 : decode cX1_board 93 = .ok (.goto 18, 3) := dk_167 0 18 (dk_at dksX1_board_4 3 rfl rfl)
theorem dX1_board_96 : decode cX1_board 96 = .ok (.aload_n 3, 1) := dk_45 (dk_at dksX1_board_4 6 rfl rfl)
theorem dX1_board_97 : decode cX1_board 97 = .ok (.getfield 280, 3) := dk_180 1 24 (dk_at dksX1_board_4 7 rfl rfl)
theorem dX1_board_100 : decode cX1_board 100 = .ok (.goto 11, 3) := dk_167 0 11 (dk_at dksX1_board_4 10 rfl rfl)
theorem dX1_board_103 : decode cX1_board 103 = .ok (.new 7, 3) := dk_187 0 7 (dk_at dksX1_board_4 13 rfl rfl)
theorem dX1_board_106 : decode cX1_board 106 = .ok (.dup, 1) := dk_89 (dk_at dksX1_board_4 16 rfl rfl)
theorem dX1_board_107 : decode cX1_board 107 = .ok (.invokespecial 9, 3) := dk_183 0 9 (dk_at dksX1_board_4 17 rfl rfl)
theorem dX1_board_110 : decode cX1_board 110 = .ok (.athrow, 1) := dk_191 (dk_at dksX1_board_4 20 rfl rfl)
theorem dX1_board_111 : decode cX1_board 111 = .ok (.ireturn, 1) := dk_172 (dk_at dksX1_board_4 21 rfl rfl)
abbrev cX1_owed : ByteArray := prog_1_method_30_code
def yX1_owed : MethodName := ⟨RX1, "owed", "(I)I"⟩
def dkwX1_owed_3 : List UInt8 := [89, 183, 1, 85, 191]
abbrev dktX1_owed_3 : List UInt8 := dkwX1_owed_3 ++ []
def dkwX1_owed_2 : List UInt8 := [16, 100, 25, 4, 180, 0, 172, 104, 25, 4, 180, 0, 159, 96, 172, 132, 2, 255, 167, 255, 214, 187, 1, 83]
abbrev dktX1_owed_2 : List UInt8 := dkwX1_owed_2 ++ dktX1_owed_3
def dkwX1_owed_1 : List UInt8 := [185, 0, 196, 1, 0, 153, 0, 39, 45, 185, 0, 201, 1, 0, 192, 0, 157, 58, 4, 28, 154, 0, 18]
abbrev dktX1_owed_1 : List UInt8 := dkwX1_owed_1 ++ dktX1_owed_2
def dkwX1_owed_0 : List UInt8 := [27, 61, 27, 156, 0, 11, 187, 1, 83, 89, 183, 1, 85, 191, 42, 180, 0, 43, 182, 1, 73, 78, 45]
abbrev dktX1_owed_0 : List UInt8 := dkwX1_owed_0 ++ dktX1_owed_1
theorem dksX1_owed_0 : cX1_owed.data.toList.drop 0 = dktX1_owed_0 := by decide +kernel
theorem dksX1_owed_1 : cX1_owed.data.toList.drop 23 = dktX1_owed_1 := dk_seg dksX1_owed_0 23 rfl rfl
theorem dksX1_owed_2 : cX1_owed.data.toList.drop 46 = dktX1_owed_2 := dk_seg dksX1_owed_1 23 rfl rfl
theorem dksX1_owed_3 : cX1_owed.data.toList.drop 70 = dktX1_owed_3 := dk_seg dksX1_owed_2 24 rfl rfl
theorem dX1_owed_0 : decode cX1_owed 0 = .ok (.iload_n 1, 1) := dk_27 (dk_at dksX1_owed_0 0 rfl rfl)
theorem dX1_owed_1 : decode cX1_owed 1 = .ok (.istore_n 2, 1) := dk_61 (dk_at dksX1_owed_0 1 rfl rfl)
theorem dX1_owed_2 : decode cX1_owed 2 = .ok (.iload_n 1, 1) := dk_27 (dk_at dksX1_owed_0 2 rfl rfl)
theorem dX1_owed_3 : decode cX1_owed 3 = .ok (.ifCond .ge 11, 3) := dk_156 0 11 (dk_at dksX1_owed_0 3 rfl rfl)
theorem dX1_owed_6 : decode cX1_owed 6 = .ok (.new 339, 3) := dk_187 1 83 (dk_at dksX1_owed_0 6 rfl rfl)
theorem dX1_owed_9 : decode cX1_owed 9 = .ok (.dup, 1) := dk_89 (dk_at dksX1_owed_0 9 rfl rfl)
theorem dX1_owed_10 : decode cX1_owed 10 = .ok (.invokespecial 341, 3) := dk_183 1 85 (dk_at dksX1_owed_0 10 rfl rfl)
theorem dX1_owed_13 : decode cX1_owed 13 = .ok (.athrow, 1) := dk_191 (dk_at dksX1_owed_0 13 rfl rfl)
theorem dX1_owed_14 : decode cX1_owed 14 = .ok (.aload_n 0, 1) := dk_42 (dk_at dksX1_owed_0 14 rfl rfl)
theorem dX1_owed_15 : decode cX1_owed 15 = .ok (.getfield 43, 3) := dk_180 0 43 (dk_at dksX1_owed_0 15 rfl rfl)
theorem dX1_owed_18 : decode cX1_owed 18 = .ok (.invokevirtual 329, 3) := dk_182 1 73 (dk_at dksX1_owed_0 18 rfl rfl)
theorem dX1_owed_21 : decode cX1_owed 21 = .ok (.astore_n 3, 1) := dk_78 (dk_at dksX1_owed_0 21 rfl rfl)
theorem dX1_owed_22 : decode cX1_owed 22 = .ok (.aload_n 3, 1) := dk_45 (dk_at dksX1_owed_0 22 rfl rfl)
theorem dX1_owed_23 : decode cX1_owed 23 = .ok (.invokeinterface 196 1, 5) := by decide +kernel
theorem dX1_owed_28 : decode cX1_owed 28 = .ok (.ifCond .eq 39, 3) := dk_153 0 39 (dk_at dksX1_owed_1 5 rfl rfl)
theorem dX1_owed_31 : decode cX1_owed 31 = .ok (.aload_n 3, 1) := dk_45 (dk_at dksX1_owed_1 8 rfl rfl)
theorem dX1_owed_32 : decode cX1_owed 32 = .ok (.invokeinterface 201 1, 5) := by decide +kernel
theorem dX1_owed_37 : decode cX1_owed 37 = .ok (.checkcast 157, 3) := dk_192 0 157 (dk_at dksX1_owed_1 14 rfl rfl)
theorem dX1_owed_40 : decode cX1_owed 40 = .ok (.astore 4, 2) := dk_58 4 (dk_at dksX1_owed_1 17 rfl rfl)
theorem dX1_owed_42 : decode cX1_owed 42 = .ok (.iload_n 2, 1) := dk_28 (dk_at dksX1_owed_1 19 rfl rfl)
theorem dX1_owed_43 : decode cX1_owed 43 = .ok (.ifCond .ne 18, 3) := dk_154 0 18 (dk_at dksX1_owed_1 20 rfl rfl)
theorem dX1_owed_46 : decode cX1_owed 46 = .ok (.bipush 100, 2) := dk_16 100 (dk_at dksX1_owed_2 0 rfl rfl)
theorem dX1_owed_48 : decode cX1_owed 48 = .ok (.aload 4, 2) := dk_25 4 (dk_at dksX1_owed_2 2 rfl rfl)
theorem dX1_owed_50 : decode cX1_owed 50 = .ok (.getfield 172, 3) := dk_180 0 172 (dk_at dksX1_owed_2 4 rfl rfl)
theorem dX1_owed_53 : decode cX1_owed 53 = .ok (.imul, 1) := dk_104 (dk_at dksX1_owed_2 7 rfl rfl)
theorem dX1_owed_54 : decode cX1_owed 54 = .ok (.aload 4, 2) := dk_25 4 (dk_at dksX1_owed_2 8 rfl rfl)
theorem dX1_owed_56 : decode cX1_owed 56 = .ok (.getfield 159, 3) := dk_180 0 159 (dk_at dksX1_owed_2 10 rfl rfl)
theorem dX1_owed_59 : decode cX1_owed 59 = .ok (.iadd, 1) := dk_96 (dk_at dksX1_owed_2 13 rfl rfl)
theorem dX1_owed_60 : decode cX1_owed 60 = .ok (.ireturn, 1) := dk_172 (dk_at dksX1_owed_2 14 rfl rfl)
theorem dX1_owed_61 : decode cX1_owed 61 = .ok (.iinc 2 (-1), 3) := dk_132 2 255 (dk_at dksX1_owed_2 15 rfl rfl)
theorem dX1_owed_64 : decode cX1_owed 64 = .ok (.goto (-42), 3) := dk_167 255 214 (dk_at dksX1_owed_2 18 rfl rfl)
theorem dX1_owed_67 : decode cX1_owed 67 = .ok (.new 339, 3) := dk_187 1 83 (dk_at dksX1_owed_2 21 rfl rfl)
theorem dX1_owed_70 : decode cX1_owed 70 = .ok (.dup, 1) := dk_89 (dk_at dksX1_owed_3 0 rfl rfl)
theorem dX1_owed_71 : decode cX1_owed 71 = .ok (.invokespecial 341, 3) := dk_183 1 85 (dk_at dksX1_owed_3 1 rfl rfl)
theorem dX1_owed_74 : decode cX1_owed 74 = .ok (.athrow, 1) := dk_191 (dk_at dksX1_owed_3 4 rfl rfl)
abbrev cX1_send : ByteArray := prog_1_method_31_code
def yX1_send : MethodName := ⟨RX1, "send", "(III)I"⟩
def dkwX1_send_4 : List UInt8 := [182, 0, 144, 42, 180, 0, 47, 185, 0, 180, 1, 0, 4, 100, 172]
abbrev dktX1_send_4 : List UInt8 := dkwX1_send_4 ++ []
def dkwX1_send_3 : List UInt8 := [25, 5, 185, 0, 138, 2, 0, 87, 42, 25, 5, 180, 1, 92, 187, 1, 5, 89, 25, 5, 183, 1, 94]
abbrev dktX1_send_3 : List UInt8 := dkwX1_send_3 ++ dktX1_send_4
def dkwX1_send_2 : List UInt8 := [42, 180, 0, 141, 42, 180, 0, 141, 42, 180, 0, 56, 27, 46, 96, 183, 1, 89, 58, 5, 42, 180, 0, 47]
abbrev dktX1_send_2 : List UInt8 := dkwX1_send_2 ++ dktX1_send_3
def dkwX1_send_1 : List UInt8 := [16, 60, 162, 0, 7, 4, 167, 0, 4, 3, 184, 1, 54, 187, 0, 213, 89, 27, 25, 4, 180, 0, 131, 29]
abbrev dktX1_send_1 : List UInt8 := dkwX1_send_1 ++ dktX1_send_2
def dkwX1_send_0 : List UInt8 := [27, 184, 1, 66, 42, 28, 182, 1, 62, 58, 4, 29, 184, 1, 86, 42, 180, 0, 47, 185, 0, 180, 1, 0]
abbrev dktX1_send_0 : List UInt8 := dkwX1_send_0 ++ dktX1_send_1
theorem dksX1_send_0 : cX1_send.data.toList.drop 0 = dktX1_send_0 := by decide +kernel
theorem dksX1_send_1 : cX1_send.data.toList.drop 24 = dktX1_send_1 := dk_seg dksX1_send_0 24 rfl rfl
theorem dksX1_send_2 : cX1_send.data.toList.drop 48 = dktX1_send_2 := dk_seg dksX1_send_1 24 rfl rfl
theorem dksX1_send_3 : cX1_send.data.toList.drop 72 = dktX1_send_3 := dk_seg dksX1_send_2 24 rfl rfl
theorem dksX1_send_4 : cX1_send.data.toList.drop 95 = dktX1_send_4 := dk_seg dksX1_send_3 23 rfl rfl
theorem dX1_send_0 : decode cX1_send 0 = .ok (.iload_n 1, 1) := dk_27 (dk_at dksX1_send_0 0 rfl rfl)
theorem dX1_send_1 : decode cX1_send 1 = .ok (.invokestatic 322, 3) := dk_184 1 66 (dk_at dksX1_send_0 1 rfl rfl)
theorem dX1_send_4 : decode cX1_send 4 = .ok (.aload_n 0, 1) := dk_42 (dk_at dksX1_send_0 4 rfl rfl)
theorem dX1_send_5 : decode cX1_send 5 = .ok (.iload_n 2, 1) := dk_28 (dk_at dksX1_send_0 5 rfl rfl)
theorem dX1_send_6 : decode cX1_send 6 = .ok (.invokevirtual 318, 3) := dk_182 1 62 (dk_at dksX1_send_0 6 rfl rfl)
theorem dX1_send_9 : decode cX1_send 9 = .ok (.astore 4, 2) := dk_58 4 (dk_at dksX1_send_0 9 rfl rfl)
theorem dX1_send_11 : decode cX1_send 11 = .ok (.iload_n 3, 1) := dk_29 (dk_at dksX1_send_0 11 rfl rfl)
theorem dX1_send_12 : decode cX1_send 12 = .ok (.invokestatic 342, 3) := dk_184 1 86 (dk_at dksX1_send_0 12 rfl rfl)
theorem dX1_send_15 : decode cX1_send 15 = .ok (.aload_n 0, 1) := dk_42 (dk_at dksX1_send_0 15 rfl rfl)
theorem dX1_send_16 : decode cX1_send 16 = .ok (.getfield 47, 3) := dk_180 0 47 (dk_at dksX1_send_0 16 rfl rfl)
theorem dX1_send_19 : decode cX1_send 19 = .ok (.invokeinterface 180 1, 5) := by decide +kernel
theorem dX1_send_24 : decode cX1_send 24 = .ok (.bipush 60, 2) := dk_16 60 (dk_at dksX1_send_1 0 rfl rfl)
theorem dX1_send_26 : decode cX1_send 26 = .ok (.if_icmp .ge 7, 3) := dk_162 0 7 (dk_at dksX1_send_1 2 rfl rfl)
theorem dX1_send_29 : decode cX1_send 29 = .ok (.iconst 1, 1) := dk_4 (dk_at dksX1_send_1 5 rfl rfl)
theorem dX1_send_30 : decode cX1_send 30 = .ok (.goto 4, 3) := dk_167 0 4 (dk_at dksX1_send_1 6 rfl rfl)
theorem dX1_send_33 : decode cX1_send 33 = .ok (.iconst 0, 1) := dk_3 (dk_at dksX1_send_1 9 rfl rfl)
theorem dX1_send_34 : decode cX1_send 34 = .ok (.invokestatic 310, 3) := dk_184 1 54 (dk_at dksX1_send_1 10 rfl rfl)
theorem dX1_send_37 : decode cX1_send 37 = .ok (.new 213, 3) := dk_187 0 213 (dk_at dksX1_send_1 13 rfl rfl)
theorem dX1_send_40 : decode cX1_send 40 = .ok (.dup, 1) := dk_89 (dk_at dksX1_send_1 16 rfl rfl)
theorem dX1_send_41 : decode cX1_send 41 = .ok (.iload_n 1, 1) := dk_27 (dk_at dksX1_send_1 17 rfl rfl)
theorem dX1_send_42 : decode cX1_send 42 = .ok (.aload 4, 2) := dk_25 4 (dk_at dksX1_send_1 18 rfl rfl)
theorem dX1_send_44 : decode cX1_send 44 = .ok (.getfield 131, 3) := dk_180 0 131 (dk_at dksX1_send_1 20 rfl rfl)
theorem dX1_send_47 : decode cX1_send 47 = .ok (.iload_n 3, 1) := dk_29 (dk_at dksX1_send_1 23 rfl rfl)
theorem dX1_send_48 : decode cX1_send 48 = .ok (.aload_n 0, 1) := dk_42 (dk_at dksX1_send_2 0 rfl rfl)
theorem dX1_send_49 : decode cX1_send 49 = .ok (.getfield 141, 3) := dk_180 0 141 (dk_at dksX1_send_2 1 rfl rfl)
theorem dX1_send_52 : decode cX1_send 52 = .ok (.aload_n 0, 1) := dk_42 (dk_at dksX1_send_2 4 rfl rfl)
theorem dX1_send_53 : decode cX1_send 53 = .ok (.getfield 141, 3) := dk_180 0 141 (dk_at dksX1_send_2 5 rfl rfl)
theorem dX1_send_56 : decode cX1_send 56 = .ok (.aload_n 0, 1) := dk_42 (dk_at dksX1_send_2 8 rfl rfl)
theorem dX1_send_57 : decode cX1_send 57 = .ok (.getfield 56, 3) := dk_180 0 56 (dk_at dksX1_send_2 9 rfl rfl)
theorem dX1_send_60 : decode cX1_send 60 = .ok (.iload_n 1, 1) := dk_27 (dk_at dksX1_send_2 12 rfl rfl)
theorem dX1_send_61 : decode cX1_send 61 = .ok (.iaload, 1) := dk_46 (dk_at dksX1_send_2 13 rfl rfl)
theorem dX1_send_62 : decode cX1_send 62 = .ok (.iadd, 1) := dk_96 (dk_at dksX1_send_2 14 rfl rfl)
theorem dX1_send_63 : decode cX1_send 63 = .ok (.invokespecial 345, 3) := dk_183 1 89 (dk_at dksX1_send_2 15 rfl rfl)
theorem dX1_send_66 : decode cX1_send 66 = .ok (.astore 5, 2) := dk_58 5 (dk_at dksX1_send_2 18 rfl rfl)
theorem dX1_send_68 : decode cX1_send 68 = .ok (.aload_n 0, 1) := dk_42 (dk_at dksX1_send_2 20 rfl rfl)
theorem dX1_send_69 : decode cX1_send 69 = .ok (.getfield 47, 3) := dk_180 0 47 (dk_at dksX1_send_2 21 rfl rfl)
theorem dX1_send_72 : decode cX1_send 72 = .ok (.aload 5, 2) := dk_25 5 (dk_at dksX1_send_3 0 rfl rfl)
theorem dX1_send_74 : decode cX1_send 74 = .ok (.invokeinterface 138 2, 5) := by decide +kernel
theorem dX1_send_79 : decode cX1_send 79 = .ok (.pop, 1) := dk_87 (dk_at dksX1_send_3 7 rfl rfl)
theorem dX1_send_80 : decode cX1_send 80 = .ok (.aload_n 0, 1) := dk_42 (dk_at dksX1_send_3 8 rfl rfl)
theorem dX1_send_81 : decode cX1_send 81 = .ok (.aload 5, 2) := dk_25 5 (dk_at dksX1_send_3 9 rfl rfl)
theorem dX1_send_83 : decode cX1_send 83 = .ok (.getfield 348, 3) := dk_180 1 92 (dk_at dksX1_send_3 11 rfl rfl)
theorem dX1_send_86 : decode cX1_send 86 = .ok (.new 261, 3) := dk_187 1 5 (dk_at dksX1_send_3 14 rfl rfl)
theorem dX1_send_89 : decode cX1_send 89 = .ok (.dup, 1) := dk_89 (dk_at dksX1_send_3 17 rfl rfl)
theorem dX1_send_90 : decode cX1_send 90 = .ok (.aload 5, 2) := dk_25 5 (dk_at dksX1_send_3 18 rfl rfl)
theorem dX1_send_92 : decode cX1_send 92 = .ok (.invokespecial 350, 3) := dk_183 1 94 (dk_at dksX1_send_3 20 rfl rfl)
theorem dX1_send_95 : decode cX1_send 95 = .ok (.invokevirtual 144, 3) := dk_182 0 144 (dk_at dksX1_send_4 0 rfl rfl)
theorem dX1_send_98 : decode cX1_send 98 = .ok (.aload_n 0, 1) := dk_42 (dk_at dksX1_send_4 3 rfl rfl)
theorem dX1_send_99 : decode cX1_send 99 = .ok (.getfield 47, 3) := dk_180 0 47 (dk_at dksX1_send_4 4 rfl rfl)
theorem dX1_send_102 : decode cX1_send 102 = .ok (.invokeinterface 180 1, 5) := by decide +kernel
theorem dX1_send_107 : decode cX1_send 107 = .ok (.iconst 1, 1) := dk_4 (dk_at dksX1_send_4 12 rfl rfl)
theorem dX1_send_108 : decode cX1_send 108 = .ok (.isub, 1) := dk_100 (dk_at dksX1_send_4 13 rfl rfl)
theorem dX1_send_109 : decode cX1_send 109 = .ok (.ireturn, 1) := dk_172 (dk_at dksX1_send_4 14 rfl rfl)
abbrev cX1_requireWord : ByteArray := prog_1_method_8_code
def yX1_requireWord : MethodName := ⟨RX1, "requireWord", "(I)V"⟩
def dkwX1_requireWord_0 : List UInt8 := [26, 3, 6, 184, 0, 73, 184, 0, 81, 177]
abbrev dktX1_requireWord_0 : List UInt8 := dkwX1_requireWord_0 ++ []
theorem dksX1_requireWord_0 : cX1_requireWord.data.toList.drop 0 = dktX1_requireWord_0 := by decide +kernel
theorem dX1_requireWord_0 : decode cX1_requireWord 0 = .ok (.iload_n 0, 1) := dk_26 (dk_at dksX1_requireWord_0 0 rfl rfl)
theorem dX1_requireWord_1 : decode cX1_requireWord 1 = .ok (.iconst 0, 1) := dk_3 (dk_at dksX1_requireWord_0 1 rfl rfl)
theorem dX1_requireWord_2 : decode cX1_requireWord 2 = .ok (.iconst 3, 1) := dk_6 (dk_at dksX1_requireWord_0 2 rfl rfl)
theorem dX1_requireWord_3 : decode cX1_requireWord 3 = .ok (.invokestatic 73, 3) := dk_184 0 73 (dk_at dksX1_requireWord_0 3 rfl rfl)
theorem dX1_requireWord_6 : decode cX1_requireWord 6 = .ok (.invokestatic 81, 3) := dk_184 0 81 (dk_at dksX1_requireWord_0 6 rfl rfl)
theorem dX1_requireWord_9 : decode cX1_requireWord 9 = .ok (.return_, 1) := dk_177 (dk_at dksX1_requireWord_0 9 rfl rfl)
abbrev cX1_message : ByteArray := prog_1_method_33_code
def yX1_message : MethodName := ⟨RX1, "message", "(II)I"⟩
def dkwX1_message_5 : List UInt8 := [183, 0, 9, 191, 172]
abbrev dktX1_message_5 : List UInt8 := dkwX1_message_5 ++ []
def dkwX1_message_4 : List UInt8 := [3, 167, 0, 26, 45, 180, 1, 109, 153, 0, 7, 4, 167, 0, 15, 3, 167, 0, 11, 187, 0, 7, 89]
abbrev dktX1_message_4 : List UInt8 := dkwX1_message_4 ++ dktX1_message_5
def dkwX1_message_3 : List UInt8 := [180, 1, 106, 167, 0, 48, 45, 180, 1, 92, 167, 0, 41, 45, 180, 0, 212, 153, 0, 7, 4, 167, 0, 30]
abbrev dktX1_message_3 : List UInt8 := dkwX1_message_3 ++ dktX1_message_4
def dkwX1_message_2 : List UInt8 := [45, 180, 1, 100, 167, 0, 69, 45, 180, 0, 226, 167, 0, 62, 45, 180, 1, 103, 167, 0, 55, 45]
abbrev dktX1_message_2 : List UInt8 := dkwX1_message_2 ++ dktX1_message_3
def dkwX1_message_1 : List UInt8 := [170, 0, 0, 0, 106, 0, 0, 0, 0, 0, 0, 0, 6, 0, 0, 0, 41, 0, 0, 0, 48, 0, 0, 0, 55, 0, 0, 0, 62, 0, 0, 0, 69, 0, 0, 0, 76, 0, 0, 0, 91]
abbrev dktX1_message_1 : List UInt8 := dkwX1_message_1 ++ dktX1_message_2
def dkwX1_message_0 : List UInt8 := [42, 27, 182, 1, 96, 78, 28]
abbrev dktX1_message_0 : List UInt8 := dkwX1_message_0 ++ dktX1_message_1
theorem dksX1_message_0 : cX1_message.data.toList.drop 0 = dktX1_message_0 := by decide +kernel
theorem dksX1_message_1 : cX1_message.data.toList.drop 7 = dktX1_message_1 := dk_seg dksX1_message_0 7 rfl rfl
theorem dksX1_message_2 : cX1_message.data.toList.drop 48 = dktX1_message_2 := dk_seg dksX1_message_1 41 rfl rfl
theorem dksX1_message_3 : cX1_message.data.toList.drop 70 = dktX1_message_3 := dk_seg dksX1_message_2 22 rfl rfl
theorem dksX1_message_4 : cX1_message.data.toList.drop 94 = dktX1_message_4 := dk_seg dksX1_message_3 24 rfl rfl
theorem dksX1_message_5 : cX1_message.data.toList.drop 117 = dktX1_message_5 := dk_seg dksX1_message_4 23 rfl rfl
theorem dX1_message_0 : decode cX1_message 0 = .ok (.aload_n 0, 1) := dk_42 (dk_at dksX1_message_0 0 rfl rfl)
theorem dX1_message_1 : decode cX1_message 1 = .ok (.iload_n 1, 1) := dk_27 (dk_at dksX1_message_0 1 rfl rfl)
theorem dX1_message_2 : decode cX1_message 2 = .ok (.invokevirtual 352, 3) := dk_182 1 96 (dk_at dksX1_message_0 2 rfl rfl)
theorem dX1_message_5 : decode cX1_message 5 = .ok (.astore_n 3, 1) := dk_78 (dk_at dksX1_message_0 5 rfl rfl)
theorem dX1_message_6 : decode cX1_message 6 = .ok (.iload_n 2, 1) := dk_28 (dk_at dksX1_message_0 6 rfl rfl)
theorem dX1_message_7 : decode cX1_message 7 = .ok (.tableswitch 106 0 6 #[41, 48, 55, 62, 69, 76, 91], 41) := by decide +kernel
theorem dX1_message_48 : decode cX1_message 48 = .ok (.aload_n 3, 1) := dk_45 (dk_at dksX1_message_2 0 rfl rfl)
theorem dX1_message_49 : decode cX1_message 49 = .ok (.getfield 356, 3) := dk_180 1 100 (dk_at dksX1_message_2 1 rfl rfl)
theorem dX1_message_52 : decode cX1_message 52 = .ok (.goto 69, 3) := dk_167 0 69 (dk_at dksX1_message_2 4 rfl rfl)
theorem dX1_message_55 : decode cX1_message 55 = .ok (.aload_n 3, 1) := dk_45 (dk_at dksX1_message_2 7 rfl rfl)
theorem dX1_message_56 : decode cX1_message 56 = .ok (.getfield 226, 3) := dk_180 0 226 (dk_at dksX1_message_2 8 rfl rfl)
theorem dX1_message_59 : decode cX1_message 59 = .ok (.goto 62, 3) := dk_167 0 62 (dk_at dksX1_message_2 11 rfl rfl)
theorem dX1_message_62 : decode cX1_message 62 = .ok (.aload_n 3, 1) := dk_45 (dk_at dksX1_message_2 14 rfl rfl)
theorem dX1_message_63 : decode cX1_message 63 = .ok (.getfield 359, 3) := dk_180 1 103 (dk_at dksX1_message_2 15 rfl rfl)
theorem dX1_message_66 : decode cX1_message 66 = .ok (.goto 55, 3) := dk_167 0 55 (dk_at dksX1_message_2 18 rfl rfl)
theorem dX1_message_69 : decode cX1_message 69 = .ok (.aload_n 3, 1) := dk_45 (dk_at dksX1_message_2 21 rfl rfl)
theorem dX1_message_70 : decode cX1_message 70 = .ok (.getfield 362, 3) := dk_180 1 106 (dk_at dksX1_message_3 0 rfl rfl)
theorem dX1_message_73 : decode cX1_message 73 = .ok (.goto 48, 3) := dk_167 0 48 (dk_at dksX1_message_3 3 rfl rfl)
theorem dX1_message_76 : decode cX1_message 76 = .ok (.aload_n 3, 1) := dk_45 (dk_at dksX1_message_3 6 rfl rfl)
theorem dX1_message_77 : decode cX1_message 77 = .ok (.getfield 348, 3) := dk_180 1 92 (dk_at dksX1_message_3 7 rfl rfl)
theorem dX1_message_80 : decode cX1_message 80 = .ok (.goto 41, 3) := dk_167 0 41 (dk_at dksX1_message_3 10 rfl rfl)
theorem dX1_message_83 : decode cX1_message 83 = .ok (.aload_n 3, 1) := dk_45 (dk_at dksX1_message_3 13 rfl rfl)
theorem dX1_message_84 : decode cX1_message 84 = .ok (.getfield 212, 3) := dk_180 0 212 (dk_at dksX1_message_3 14 rfl rfl)
theorem dX1_message_87 : decode cX1_message 87 = .ok (.ifCond .eq 7, 3) := dk_153 0 7 (dk_at dksX1_message_3 17 rfl rfl)
theorem dX1_message_90 : decode cX1_message 90 = .ok (.iconst 1, 1) := dk_4 (dk_at dksX1_message_3 20 rfl rfl)
theorem dX1_message_91 : decode cX1_message 91 = .ok (.goto 30, 3) := dk_167 0 30 (dk_at dksX1_message_3 21 rfl rfl)
theorem dX1_message_94 : decode cX1_message 94 = .ok (.iconst 0, 1) := dk_3 (dk_at dksX1_message_4 0 rfl rfl)
theorem dX1_message_95 : decode cX1_message 95 = .ok (.goto 26, 3) := dk_167 0 26 (dk_at dksX1_message_4 1 rfl rfl)
theorem dX1_message_98 : decode cX1_message 98 = .ok (.aload_n 3, 1) := dk_45 (dk_at dksX1_message_4 4 rfl rfl)
theorem dX1_message_99 : decode cX1_message 99 = .ok (.getfield 365, 3) := dk_180 1 109 (dk_at dksX1_message_4 5 rfl rfl)
theorem dX1_message_102 : decode cX1_message 102 = .ok (.ifCond .eq 7, 3) := dk_153 0 7 (dk_at dksX1_message_4 8 rfl rfl)
theorem dX1_message_105 : decode cX1_message 105 = .ok (.iconst 1, 1) := dk_4 (dk_at dksX1_message_4 11 rfl rfl)
theorem dX1_message_106 : decode cX1_message 106 = .ok (.goto 15, 3) := dk_167 0 15 (dk_at dksX1_message_4 12 rfl rfl)
theorem dX1_message_109 : decode cX1_message 109 = .ok (.iconst 0, 1) := dk_3 (dk_at dksX1_message_4 15 rfl rfl)
theorem dX1_message_110 : decode cX1_message 110 = .ok (.goto 11, 3) := dk_167 0 11 (dk_at dksX1_message_4 16 rfl rfl)
theorem dX1_message_113 : decode cX1_message 113 = .ok (.new 7, 3) := dk_187 0 7 (dk_at dksX1_message_4 19 rfl rfl)
theorem dX1_message_116 : decode cX1_message 116 = .ok (.dup, 1) := dk_89 (dk_at dksX1_message_4 22 rfl rfl)
theorem dX1_message_117 : decode cX1_message 117 = .ok (.invokespecial 9, 3) := dk_183 0 9 (dk_at dksX1_message_5 0 rfl rfl)
theorem dX1_message_120 : decode cX1_message 120 = .ok (.athrow, 1) := dk_191 (dk_at dksX1_message_5 3 rfl rfl)
theorem dX1_message_121 : decode cX1_message 121 = .ok (.ireturn, 1) := dk_172 (dk_at dksX1_message_5 4 rfl rfl)
abbrev cX1_messageAt : ByteArray := prog_1_method_32_code
def yX1_messageAt : MethodName := ⟨RX1, "messageAt", "(I)LBogsign$Message;"⟩
def dkwX1_messageAt_1 : List UInt8 := [185, 0, 121, 2, 0, 192, 0, 213, 176]
abbrev dktX1_messageAt_1 : List UInt8 := dkwX1_messageAt_1 ++ []
def dkwX1_messageAt_0 : List UInt8 := [27, 3, 42, 180, 0, 47, 185, 0, 180, 1, 0, 4, 100, 184, 0, 73, 184, 0, 77, 42, 180, 0, 47, 27]
abbrev dktX1_messageAt_0 : List UInt8 := dkwX1_messageAt_0 ++ dktX1_messageAt_1
theorem dksX1_messageAt_0 : cX1_messageAt.data.toList.drop 0 = dktX1_messageAt_0 := by decide +kernel
theorem dksX1_messageAt_1 : cX1_messageAt.data.toList.drop 24 = dktX1_messageAt_1 := dk_seg dksX1_messageAt_0 24 rfl rfl
theorem dX1_messageAt_0 : decode cX1_messageAt 0 = .ok (.iload_n 1, 1) := dk_27 (dk_at dksX1_messageAt_0 0 rfl rfl)
theorem dX1_messageAt_1 : decode cX1_messageAt 1 = .ok (.iconst 0, 1) := dk_3 (dk_at dksX1_messageAt_0 1 rfl rfl)
theorem dX1_messageAt_2 : decode cX1_messageAt 2 = .ok (.aload_n 0, 1) := dk_42 (dk_at dksX1_messageAt_0 2 rfl rfl)
theorem dX1_messageAt_3 : decode cX1_messageAt 3 = .ok (.getfield 47, 3) := dk_180 0 47 (dk_at dksX1_messageAt_0 3 rfl rfl)
theorem dX1_messageAt_6 : decode cX1_messageAt 6 = .ok (.invokeinterface 180 1, 5) := by decide +kernel
theorem dX1_messageAt_11 : decode cX1_messageAt 11 = .ok (.iconst 1, 1) := dk_4 (dk_at dksX1_messageAt_0 11 rfl rfl)
theorem dX1_messageAt_12 : decode cX1_messageAt 12 = .ok (.isub, 1) := dk_100 (dk_at dksX1_messageAt_0 12 rfl rfl)
theorem dX1_messageAt_13 : decode cX1_messageAt 13 = .ok (.invokestatic 73, 3) := dk_184 0 73 (dk_at dksX1_messageAt_0 13 rfl rfl)
theorem dX1_messageAt_16 : decode cX1_messageAt 16 = .ok (.invokestatic 77, 3) := dk_184 0 77 (dk_at dksX1_messageAt_0 16 rfl rfl)
theorem dX1_messageAt_19 : decode cX1_messageAt 19 = .ok (.aload_n 0, 1) := dk_42 (dk_at dksX1_messageAt_0 19 rfl rfl)
theorem dX1_messageAt_20 : decode cX1_messageAt 20 = .ok (.getfield 47, 3) := dk_180 0 47 (dk_at dksX1_messageAt_0 20 rfl rfl)
theorem dX1_messageAt_23 : decode cX1_messageAt 23 = .ok (.iload_n 1, 1) := dk_27 (dk_at dksX1_messageAt_0 23 rfl rfl)
theorem dX1_messageAt_24 : decode cX1_messageAt 24 = .ok (.invokeinterface 121 2, 5) := by decide +kernel
theorem dX1_messageAt_29 : decode cX1_messageAt 29 = .ok (.checkcast 213, 3) := dk_192 0 213 (dk_at dksX1_messageAt_1 5 rfl rfl)
theorem dX1_messageAt_32 : decode cX1_messageAt 32 = .ok (.areturn, 1) := dk_176 (dk_at dksX1_messageAt_1 8 rfl rfl)
abbrev cX1_sign : ByteArray := prog_1_method_34_code
def yX1_sign : MethodName := ⟨RX1, "sign", "(II)I"⟩
def dkwX1_sign_1 : List UInt8 := [180, 0, 222, 182, 1, 112, 4, 100, 184, 0, 73, 184, 0, 77, 45, 180, 0, 222, 28, 182, 1, 117, 172]
abbrev dktX1_sign_1 : List UInt8 := dkwX1_sign_1 ++ []
def dkwX1_sign_0 : List UInt8 := [42, 27, 182, 1, 96, 78, 28, 2, 160, 0, 11, 45, 180, 0, 222, 182, 1, 112, 172, 28, 3, 45]
abbrev dktX1_sign_0 : List UInt8 := dkwX1_sign_0 ++ dktX1_sign_1
theorem dksX1_sign_0 : cX1_sign.data.toList.drop 0 = dktX1_sign_0 := by decide +kernel
theorem dksX1_sign_1 : cX1_sign.data.toList.drop 22 = dktX1_sign_1 := dk_seg dksX1_sign_0 22 rfl rfl
theorem dX1_sign_0 : decode cX1_sign 0 = .ok (.aload_n 0, 1) := dk_42 (dk_at dksX1_sign_0 0 rfl rfl)
theorem dX1_sign_1 : decode cX1_sign 1 = .ok (.iload_n 1, 1) := dk_27 (dk_at dksX1_sign_0 1 rfl rfl)
theorem dX1_sign_2 : decode cX1_sign 2 = .ok (.invokevirtual 352, 3) := dk_182 1 96 (dk_at dksX1_sign_0 2 rfl rfl)
theorem dX1_sign_5 : decode cX1_sign 5 = .ok (.astore_n 3, 1) := dk_78 (dk_at dksX1_sign_0 5 rfl rfl)
theorem dX1_sign_6 : decode cX1_sign 6 = .ok (.iload_n 2, 1) := dk_28 (dk_at dksX1_sign_0 6 rfl rfl)
theorem dX1_sign_7 : decode cX1_sign 7 = .ok (.iconst (-1), 1) := dk_2 (dk_at dksX1_sign_0 7 rfl rfl)
theorem dX1_sign_8 : decode cX1_sign 8 = .ok (.if_icmp .ne 11, 3) := dk_160 0 11 (dk_at dksX1_sign_0 8 rfl rfl)
theorem dX1_sign_11 : decode cX1_sign 11 = .ok (.aload_n 3, 1) := dk_45 (dk_at dksX1_sign_0 11 rfl rfl)
theorem dX1_sign_12 : decode cX1_sign 12 = .ok (.getfield 222, 3) := dk_180 0 222 (dk_at dksX1_sign_0 12 rfl rfl)
theorem dX1_sign_15 : decode cX1_sign 15 = .ok (.invokevirtual 368, 3) := dk_182 1 112 (dk_at dksX1_sign_0 15 rfl rfl)
theorem dX1_sign_18 : decode cX1_sign 18 = .ok (.ireturn, 1) := dk_172 (dk_at dksX1_sign_0 18 rfl rfl)
theorem dX1_sign_19 : decode cX1_sign 19 = .ok (.iload_n 2, 1) := dk_28 (dk_at dksX1_sign_0 19 rfl rfl)
theorem dX1_sign_20 : decode cX1_sign 20 = .ok (.iconst 0, 1) := dk_3 (dk_at dksX1_sign_0 20 rfl rfl)
theorem dX1_sign_21 : decode cX1_sign 21 = .ok (.aload_n 3, 1) := dk_45 (dk_at dksX1_sign_0 21 rfl rfl)
theorem dX1_sign_22 : decode cX1_sign 22 = .ok (.getfield 222, 3) := dk_180 0 222 (dk_at dksX1_sign_1 0 rfl rfl)
theorem dX1_sign_25 : decode cX1_sign 25 = .ok (.invokevirtual 368, 3) := dk_182 1 112 (dk_at dksX1_sign_1 3 rfl rfl)
theorem dX1_sign_28 : decode cX1_sign 28 = .ok (.iconst 1, 1) := dk_4 (dk_at dksX1_sign_1 6 rfl rfl)
theorem dX1_sign_29 : decode cX1_sign 29 = .ok (.isub, 1) := dk_100 (dk_at dksX1_sign_1 7 rfl rfl)
theorem dX1_sign_30 : decode cX1_sign 30 = .ok (.invokestatic 73, 3) := dk_184 0 73 (dk_at dksX1_sign_1 8 rfl rfl)
theorem dX1_sign_33 : decode cX1_sign 33 = .ok (.invokestatic 77, 3) := dk_184 0 77 (dk_at dksX1_sign_1 11 rfl rfl)
theorem dX1_sign_36 : decode cX1_sign 36 = .ok (.aload_n 3, 1) := dk_45 (dk_at dksX1_sign_1 14 rfl rfl)
theorem dX1_sign_37 : decode cX1_sign 37 = .ok (.getfield 222, 3) := dk_180 0 222 (dk_at dksX1_sign_1 15 rfl rfl)
theorem dX1_sign_40 : decode cX1_sign 40 = .ok (.iload_n 2, 1) := dk_28 (dk_at dksX1_sign_1 18 rfl rfl)
theorem dX1_sign_41 : decode cX1_sign 41 = .ok (.invokevirtual 373, 3) := dk_182 1 117 (dk_at dksX1_sign_1 19 rfl rfl)
theorem dX1_sign_44 : decode cX1_sign 44 = .ok (.ireturn, 1) := dk_172 (dk_at dksX1_sign_1 22 rfl rfl)
abbrev cX1_meaning : ByteArray := prog_1_method_37_code
def yX1_meaning : MethodName := ⟨RX1, "meaning", "(II)I"⟩
def dkwX1_meaning_0 : List UInt8 := [27, 184, 1, 66, 28, 184, 1, 86, 42, 27, 28, 182, 1, 134, 172]
abbrev dktX1_meaning_0 : List UInt8 := dkwX1_meaning_0 ++ []
theorem dksX1_meaning_0 : cX1_meaning.data.toList.drop 0 = dktX1_meaning_0 := by decide +kernel
theorem dX1_meaning_0 : decode cX1_meaning 0 = .ok (.iload_n 1, 1) := dk_27 (dk_at dksX1_meaning_0 0 rfl rfl)
theorem dX1_meaning_1 : decode cX1_meaning 1 = .ok (.invokestatic 322, 3) := dk_184 1 66 (dk_at dksX1_meaning_0 1 rfl rfl)
theorem dX1_meaning_4 : decode cX1_meaning 4 = .ok (.iload_n 2, 1) := dk_28 (dk_at dksX1_meaning_0 4 rfl rfl)
theorem dX1_meaning_5 : decode cX1_meaning 5 = .ok (.invokestatic 342, 3) := dk_184 1 86 (dk_at dksX1_meaning_0 5 rfl rfl)
theorem dX1_meaning_8 : decode cX1_meaning 8 = .ok (.aload_n 0, 1) := dk_42 (dk_at dksX1_meaning_0 8 rfl rfl)
theorem dX1_meaning_9 : decode cX1_meaning 9 = .ok (.iload_n 1, 1) := dk_27 (dk_at dksX1_meaning_0 9 rfl rfl)
theorem dX1_meaning_10 : decode cX1_meaning 10 = .ok (.iload_n 2, 1) := dk_28 (dk_at dksX1_meaning_0 10 rfl rfl)
theorem dX1_meaning_11 : decode cX1_meaning 11 = .ok (.invokevirtual 390, 3) := dk_182 1 134 (dk_at dksX1_meaning_0 11 rfl rfl)
theorem dX1_meaning_14 : decode cX1_meaning 14 = .ok (.ireturn, 1) := dk_172 (dk_at dksX1_meaning_0 14 rfl rfl)
abbrev cX1_inspect : ByteArray := prog_1_method_38_code
def yX1_inspect : MethodName := ⟨RX1, "inspect", "(I)I"⟩
def dkwX1_inspect_4 : List UInt8 := [182, 1, 121, 29, 182, 1, 139, 167, 255, 179, 44, 29, 181, 1, 142, 44, 4, 181, 0, 237, 29, 172]
abbrev dktX1_inspect_4 : List UInt8 := dkwX1_inspect_4 ++ []
def dkwX1_inspect_3 : List UInt8 := [153, 0, 6, 167, 255, 206, 25, 5, 4, 181, 1, 109, 42, 25, 5, 180, 1, 100, 25, 5, 180, 1, 103]
abbrev dktX1_inspect_3 : List UInt8 := dkwX1_inspect_3 ++ dktX1_inspect_4
def dkwX1_inspect_2 : List UInt8 := [180, 0, 226, 44, 180, 0, 131, 160, 255, 225, 25, 5, 180, 0, 212, 153, 255, 217, 25, 5, 180, 1, 109]
abbrev dktX1_inspect_2 : List UInt8 := dkwX1_inspect_2 ++ dktX1_inspect_3
def dkwX1_inspect_1 : List UInt8 := [185, 0, 196, 1, 0, 153, 0, 73, 25, 4, 185, 0, 201, 1, 0, 192, 0, 213, 58, 5, 25, 5]
abbrev dktX1_inspect_1 : List UInt8 := dkwX1_inspect_1 ++ dktX1_inspect_2
def dkwX1_inspect_0 : List UInt8 := [42, 27, 182, 1, 62, 77, 44, 182, 1, 137, 62, 42, 180, 0, 47, 185, 0, 192, 1, 0, 58, 4, 25, 4]
abbrev dktX1_inspect_0 : List UInt8 := dkwX1_inspect_0 ++ dktX1_inspect_1
theorem dksX1_inspect_0 : cX1_inspect.data.toList.drop 0 = dktX1_inspect_0 := by decide +kernel
theorem dksX1_inspect_1 : cX1_inspect.data.toList.drop 24 = dktX1_inspect_1 := dk_seg dksX1_inspect_0 24 rfl rfl
theorem dksX1_inspect_2 : cX1_inspect.data.toList.drop 46 = dktX1_inspect_2 := dk_seg dksX1_inspect_1 22 rfl rfl
theorem dksX1_inspect_3 : cX1_inspect.data.toList.drop 69 = dktX1_inspect_3 := dk_seg dksX1_inspect_2 23 rfl rfl
theorem dksX1_inspect_4 : cX1_inspect.data.toList.drop 92 = dktX1_inspect_4 := dk_seg dksX1_inspect_3 23 rfl rfl
theorem dX1_inspect_0 : decode cX1_inspect 0 = .ok (.aload_n 0, 1) := dk_42 (dk_at dksX1_inspect_0 0 rfl rfl)
theorem dX1_inspect_1 : decode cX1_inspect 1 = .ok (.iload_n 1, 1) := dk_27 (dk_at dksX1_inspect_0 1 rfl rfl)
theorem dX1_inspect_2 : decode cX1_inspect 2 = .ok (.invokevirtual 318, 3) := dk_182 1 62 (dk_at dksX1_inspect_0 2 rfl rfl)
theorem dX1_inspect_5 : decode cX1_inspect 5 = .ok (.astore_n 2, 1) := dk_77 (dk_at dksX1_inspect_0 5 rfl rfl)
theorem dX1_inspect_6 : decode cX1_inspect 6 = .ok (.aload_n 2, 1) := dk_44 (dk_at dksX1_inspect_0 6 rfl rfl)
theorem dX1_inspect_7 : decode cX1_inspect 7 = .ok (.invokevirtual 393, 3) := dk_182 1 137 (dk_at dksX1_inspect_0 7 rfl rfl)
theorem dX1_inspect_10 : decode cX1_inspect 10 = .ok (.istore_n 3, 1) := dk_62 (dk_at dksX1_inspect_0 10 rfl rfl)
theorem dX1_inspect_11 : decode cX1_inspect 11 = .ok (.aload_n 0, 1) := dk_42 (dk_at dksX1_inspect_0 11 rfl rfl)
theorem dX1_inspect_12 : decode cX1_inspect 12 = .ok (.getfield 47, 3) := dk_180 0 47 (dk_at dksX1_inspect_0 12 rfl rfl)
theorem dX1_inspect_15 : decode cX1_inspect 15 = .ok (.invokeinterface 192 1, 5) := by decide +kernel
theorem dX1_inspect_20 : decode cX1_inspect 20 = .ok (.astore 4, 2) := dk_58 4 (dk_at dksX1_inspect_0 20 rfl rfl)
theorem dX1_inspect_22 : decode cX1_inspect 22 = .ok (.aload 4, 2) := dk_25 4 (dk_at dksX1_inspect_0 22 rfl rfl)
theorem dX1_inspect_24 : decode cX1_inspect 24 = .ok (.invokeinterface 196 1, 5) := by decide +kernel
theorem dX1_inspect_29 : decode cX1_inspect 29 = .ok (.ifCond .eq 73, 3) := dk_153 0 73 (dk_at dksX1_inspect_1 5 rfl rfl)
theorem dX1_inspect_32 : decode cX1_inspect 32 = .ok (.aload 4, 2) := dk_25 4 (dk_at dksX1_inspect_1 8 rfl rfl)
theorem dX1_inspect_34 : decode cX1_inspect 34 = .ok (.invokeinterface 201 1, 5) := by decide +kernel
theorem dX1_inspect_39 : decode cX1_inspect 39 = .ok (.checkcast 213, 3) := dk_192 0 213 (dk_at dksX1_inspect_1 15 rfl rfl)
theorem dX1_inspect_42 : decode cX1_inspect 42 = .ok (.astore 5, 2) := dk_58 5 (dk_at dksX1_inspect_1 18 rfl rfl)
theorem dX1_inspect_44 : decode cX1_inspect 44 = .ok (.aload 5, 2) := dk_25 5 (dk_at dksX1_inspect_1 20 rfl rfl)
theorem dX1_inspect_46 : decode cX1_inspect 46 = .ok (.getfield 226, 3) := dk_180 0 226 (dk_at dksX1_inspect_2 0 rfl rfl)
theorem dX1_inspect_49 : decode cX1_inspect 49 = .ok (.aload_n 2, 1) := dk_44 (dk_at dksX1_inspect_2 3 rfl rfl)
theorem dX1_inspect_50 : decode cX1_inspect 50 = .ok (.getfield 131, 3) := dk_180 0 131 (dk_at dksX1_inspect_2 4 rfl rfl)
theorem dX1_inspect_53 : decode cX1_inspect 53 = .ok (.if_icmp .ne (-31), 3) := dk_160 255 225 (dk_at dksX1_inspect_2 7 rfl rfl)
theorem dX1_inspect_56 : decode cX1_inspect 56 = .ok (.aload 5, 2) := dk_25 5 (dk_at dksX1_inspect_2 10 rfl rfl)
theorem dX1_inspect_58 : decode cX1_inspect 58 = .ok (.getfield 212, 3) := dk_180 0 212 (dk_at dksX1_inspect_2 12 rfl rfl)
theorem dX1_inspect_61 : decode cX1_inspect 61 = .ok (.ifCond .eq (-39), 3) := dk_153 255 217 (dk_at dksX1_inspect_2 15 rfl rfl)
theorem dX1_inspect_64 : decode cX1_inspect 64 = .ok (.aload 5, 2) := dk_25 5 (dk_at dksX1_inspect_2 18 rfl rfl)
theorem dX1_inspect_66 : decode cX1_inspect 66 = .ok (.getfield 365, 3) := dk_180 1 109 (dk_at dksX1_inspect_2 20 rfl rfl)
theorem dX1_inspect_69 : decode cX1_inspect 69 = .ok (.ifCond .eq 6, 3) := dk_153 0 6 (dk_at dksX1_inspect_3 0 rfl rfl)
theorem dX1_inspect_72 : decode cX1_inspect 72 = .ok (.goto (-50), 3) := dk_167 255 206 (dk_at dksX1_inspect_3 3 rfl rfl)
theorem dX1_inspect_75 : decode cX1_inspect 75 = .ok (.aload 5, 2) := dk_25 5 (dk_at dksX1_inspect_3 6 rfl rfl)
theorem dX1_inspect_77 : decode cX1_inspect 77 = .ok (.iconst 1, 1) := dk_4 (dk_at dksX1_inspect_3 8 rfl rfl)
theorem dX1_inspect_78 : decode cX1_inspect 78 = .ok (.putfield 365, 3) := dk_181 1 109 (dk_at dksX1_inspect_3 9 rfl rfl)
theorem dX1_inspect_81 : decode cX1_inspect 81 = .ok (.aload_n 0, 1) := dk_42 (dk_at dksX1_inspect_3 12 rfl rfl)
theorem dX1_inspect_82 : decode cX1_inspect 82 = .ok (.aload 5, 2) := dk_25 5 (dk_at dksX1_inspect_3 13 rfl rfl)
theorem dX1_inspect_84 : decode cX1_inspect 84 = .ok (.getfield 356, 3) := dk_180 1 100 (dk_at dksX1_inspect_3 15 rfl rfl)
theorem dX1_inspect_87 : decode cX1_inspect 87 = .ok (.aload 5, 2) := dk_25 5 (dk_at dksX1_inspect_3 18 rfl rfl)
theorem dX1_inspect_89 : decode cX1_inspect 89 = .ok (.getfield 359, 3) := dk_180 1 103 (dk_at dksX1_inspect_3 20 rfl rfl)
theorem dX1_inspect_92 : decode cX1_inspect 92 = .ok (.invokevirtual 377, 3) := dk_182 1 121 (dk_at dksX1_inspect_4 0 rfl rfl)
theorem dX1_inspect_95 : decode cX1_inspect 95 = .ok (.iload_n 3, 1) := dk_29 (dk_at dksX1_inspect_4 3 rfl rfl)
theorem dX1_inspect_96 : decode cX1_inspect 96 = .ok (.invokevirtual 395, 3) := dk_182 1 139 (dk_at dksX1_inspect_4 4 rfl rfl)
theorem dX1_inspect_99 : decode cX1_inspect 99 = .ok (.goto (-77), 3) := dk_167 255 179 (dk_at dksX1_inspect_4 7 rfl rfl)
theorem dX1_inspect_102 : decode cX1_inspect 102 = .ok (.aload_n 2, 1) := dk_44 (dk_at dksX1_inspect_4 10 rfl rfl)
theorem dX1_inspect_103 : decode cX1_inspect 103 = .ok (.iload_n 3, 1) := dk_29 (dk_at dksX1_inspect_4 11 rfl rfl)
theorem dX1_inspect_104 : decode cX1_inspect 104 = .ok (.putfield 398, 3) := dk_181 1 142 (dk_at dksX1_inspect_4 12 rfl rfl)
theorem dX1_inspect_107 : decode cX1_inspect 107 = .ok (.aload_n 2, 1) := dk_44 (dk_at dksX1_inspect_4 15 rfl rfl)
theorem dX1_inspect_108 : decode cX1_inspect 108 = .ok (.iconst 1, 1) := dk_4 (dk_at dksX1_inspect_4 16 rfl rfl)
theorem dX1_inspect_109 : decode cX1_inspect 109 = .ok (.putfield 237, 3) := dk_181 0 237 (dk_at dksX1_inspect_4 17 rfl rfl)
theorem dX1_inspect_112 : decode cX1_inspect 112 = .ok (.iload_n 3, 1) := dk_29 (dk_at dksX1_inspect_4 20 rfl rfl)
theorem dX1_inspect_113 : decode cX1_inspect 113 = .ok (.ireturn, 1) := dk_172 (dk_at dksX1_inspect_4 21 rfl rfl)
abbrev cX1_stretch : ByteArray := prog_1_method_41_code
def yX1_stretch : MethodName := ⟨RX1, "stretch", "(II)I"⟩
def dkwX1_stretch_4 : List UInt8 := [167, 0, 22, 3, 167, 0, 18, 45, 180, 1, 15, 167, 0, 11, 187, 0, 7, 89, 183, 0, 9, 191, 172]
abbrev dktX1_stretch_4 : List UInt8 := dkwX1_stretch_4 ++ []
def dkwX1_stretch_3 : List UInt8 := [45, 180, 1, 161, 167, 0, 42, 42, 45, 182, 1, 150, 167, 0, 34, 42, 45, 182, 1, 164, 153, 0, 7, 4]
abbrev dktX1_stretch_3 : List UInt8 := dkwX1_stretch_3 ++ dktX1_stretch_4
def dkwX1_stretch_2 : List UInt8 := [45, 180, 1, 154, 182, 1, 157, 167, 0, 63, 45, 182, 1, 137, 167, 0, 56, 45, 182, 1, 158, 167, 0, 49]
abbrev dktX1_stretch_2 : List UInt8 := dkwX1_stretch_2 ++ dktX1_stretch_3
def dkwX1_stretch_1 : List UInt8 := [170, 0, 0, 0, 103, 0, 0, 0, 0, 0, 0, 0, 6, 0, 0, 0, 41, 0, 0, 0, 51, 0, 0, 0, 58, 0, 0, 0, 65, 0, 0, 0, 72, 0, 0, 0, 80, 0, 0, 0, 96]
abbrev dktX1_stretch_1 : List UInt8 := dkwX1_stretch_1 ++ dktX1_stretch_2
def dkwX1_stretch_0 : List UInt8 := [42, 27, 182, 1, 62, 78, 28]
abbrev dktX1_stretch_0 : List UInt8 := dkwX1_stretch_0 ++ dktX1_stretch_1
theorem dksX1_stretch_0 : cX1_stretch.data.toList.drop 0 = dktX1_stretch_0 := by decide +kernel
theorem dksX1_stretch_1 : cX1_stretch.data.toList.drop 7 = dktX1_stretch_1 := dk_seg dksX1_stretch_0 7 rfl rfl
theorem dksX1_stretch_2 : cX1_stretch.data.toList.drop 48 = dktX1_stretch_2 := dk_seg dksX1_stretch_1 41 rfl rfl
theorem dksX1_stretch_3 : cX1_stretch.data.toList.drop 72 = dktX1_stretch_3 := dk_seg dksX1_stretch_2 24 rfl rfl
theorem dksX1_stretch_4 : cX1_stretch.data.toList.drop 96 = dktX1_stretch_4 := dk_seg dksX1_stretch_3 24 rfl rfl
theorem dX1_stretch_0 : decode cX1_stretch 0 = .ok (.aload_n 0, 1) := dk_42 (dk_at dksX1_stretch_0 0 rfl rfl)
theorem dX1_stretch_1 : decode cX1_stretch 1 = .ok (.iload_n 1, 1) := dk_27 (dk_at dksX1_stretch_0 1 rfl rfl)
theorem dX1_stretch_2 : decode cX1_stretch 2 = .ok (.invokevirtual 318, 3) := dk_182 1 62 (dk_at dksX1_stretch_0 2 rfl rfl)
theorem dX1_stretch_5 : decode cX1_stretch 5 = .ok (.astore_n 3, 1) := dk_78 (dk_at dksX1_stretch_0 5 rfl rfl)
theorem dX1_stretch_6 : decode cX1_stretch 6 = .ok (.iload_n 2, 1) := dk_28 (dk_at dksX1_stretch_0 6 rfl rfl)
theorem dX1_stretch_7 : decode cX1_stretch 7 = .ok (.tableswitch 103 0 6 #[41, 51, 58, 65, 72, 80, 96], 41) := by decide +kernel
theorem dX1_stretch_48 : decode cX1_stretch 48 = .ok (.aload_n 3, 1) := dk_45 (dk_at dksX1_stretch_2 0 rfl rfl)
theorem dX1_stretch_49 : decode cX1_stretch 49 = .ok (.getfield 410, 3) := dk_180 1 154 (dk_at dksX1_stretch_2 1 rfl rfl)
theorem dX1_stretch_52 : decode cX1_stretch 52 = .ok (.invokevirtual 413, 3) := dk_182 1 157 (dk_at dksX1_stretch_2 4 rfl rfl)
theorem dX1_stretch_55 : decode cX1_stretch 55 = .ok (.goto 63, 3) := dk_167 0 63 (dk_at dksX1_stretch_2 7 rfl rfl)
theorem dX1_stretch_58 : decode cX1_stretch 58 = .ok (.aload_n 3, 1) := dk_45 (dk_at dksX1_stretch_2 10 rfl rfl)
theorem dX1_stretch_59 : decode cX1_stretch 59 = .ok (.invokevirtual 393, 3) := dk_182 1 137 (dk_at dksX1_stretch_2 11 rfl rfl)
theorem dX1_stretch_62 : decode cX1_stretch 62 = .ok (.goto 56, 3) := dk_167 0 56 (dk_at dksX1_stretch_2 14 rfl rfl)
theorem dX1_stretch_65 : decode cX1_stretch 65 = .ok (.aload_n 3, 1) := dk_45 (dk_at dksX1_stretch_2 17 rfl rfl)
theorem dX1_stretch_66 : decode cX1_stretch 66 = .ok (.invokevirtual 414, 3) := dk_182 1 158 (dk_at dksX1_stretch_2 18 rfl rfl)
theorem dX1_stretch_69 : decode cX1_stretch 69 = .ok (.goto 49, 3) := dk_167 0 49 (dk_at dksX1_stretch_2 21 rfl rfl)
theorem dX1_stretch_72 : decode cX1_stretch 72 = .ok (.aload_n 3, 1) := dk_45 (dk_at dksX1_stretch_3 0 rfl rfl)
theorem dX1_stretch_73 : decode cX1_stretch 73 = .ok (.getfield 417, 3) := dk_180 1 161 (dk_at dksX1_stretch_3 1 rfl rfl)
theorem dX1_stretch_76 : decode cX1_stretch 76 = .ok (.goto 42, 3) := dk_167 0 42 (dk_at dksX1_stretch_3 4 rfl rfl)
theorem dX1_stretch_79 : decode cX1_stretch 79 = .ok (.aload_n 0, 1) := dk_42 (dk_at dksX1_stretch_3 7 rfl rfl)
theorem dX1_stretch_80 : decode cX1_stretch 80 = .ok (.aload_n 3, 1) := dk_45 (dk_at dksX1_stretch_3 8 rfl rfl)
theorem dX1_stretch_81 : decode cX1_stretch 81 = .ok (.invokevirtual 406, 3) := dk_182 1 150 (dk_at dksX1_stretch_3 9 rfl rfl)
theorem dX1_stretch_84 : decode cX1_stretch 84 = .ok (.goto 34, 3) := dk_167 0 34 (dk_at dksX1_stretch_3 12 rfl rfl)
theorem dX1_stretch_87 : decode cX1_stretch 87 = .ok (.aload_n 0, 1) := dk_42 (dk_at dksX1_stretch_3 15 rfl rfl)
theorem dX1_stretch_88 : decode cX1_stretch 88 = .ok (.aload_n 3, 1) := dk_45 (dk_at dksX1_stretch_3 16 rfl rfl)
theorem dX1_stretch_89 : decode cX1_stretch 89 = .ok (.invokevirtual 420, 3) := dk_182 1 164 (dk_at dksX1_stretch_3 17 rfl rfl)
theorem dX1_stretch_92 : decode cX1_stretch 92 = .ok (.ifCond .eq 7, 3) := dk_153 0 7 (dk_at dksX1_stretch_3 20 rfl rfl)
theorem dX1_stretch_95 : decode cX1_stretch 95 = .ok (.iconst 1, 1) := dk_4 (dk_at dksX1_stretch_3 23 rfl rfl)
theorem dX1_stretch_96 : decode cX1_stretch 96 = .ok (.goto 22, 3) := dk_167 0 22 (dk_at dksX1_stretch_4 0 rfl rfl)
theorem dX1_stretch_99 : decode cX1_stretch 99 = .ok (.iconst 0, 1) := dk_3 (dk_at dksX1_stretch_4 3 rfl rfl)
theorem dX1_stretch_100 : decode cX1_stretch 100 = .ok (.goto 18, 3) := dk_167 0 18 (dk_at dksX1_stretch_4 4 rfl rfl)
theorem dX1_stretch_103 : decode cX1_stretch 103 = .ok (.aload_n 3, 1) := dk_45 (dk_at dksX1_stretch_4 7 rfl rfl)
theorem dX1_stretch_104 : decode cX1_stretch 104 = .ok (.getfield 271, 3) := dk_180 1 15 (dk_at dksX1_stretch_4 8 rfl rfl)
theorem dX1_stretch_107 : decode cX1_stretch 107 = .ok (.goto 11, 3) := dk_167 0 11 (dk_at dksX1_stretch_4 11 rfl rfl)
theorem dX1_stretch_110 : decode cX1_stretch 110 = .ok (.new 7, 3) := dk_187 0 7 (dk_at dksX1_stretch_4 14 rfl rfl)
theorem dX1_stretch_113 : decode cX1_stretch 113 = .ok (.dup, 1) := dk_89 (dk_at dksX1_stretch_4 17 rfl rfl)
theorem dX1_stretch_114 : decode cX1_stretch 114 = .ok (.invokespecial 9, 3) := dk_183 0 9 (dk_at dksX1_stretch_4 18 rfl rfl)
theorem dX1_stretch_117 : decode cX1_stretch 117 = .ok (.athrow, 1) := dk_191 (dk_at dksX1_stretch_4 21 rfl rfl)
theorem dX1_stretch_118 : decode cX1_stretch 118 = .ok (.ireturn, 1) := dk_172 (dk_at dksX1_stretch_4 22 rfl rfl)
abbrev cX1_cart : ByteArray := prog_1_method_44_code
def yX1_cart : MethodName := ⟨RX1, "cart", "(III)I"⟩
def dkwX1_cart_3 : List UInt8 := [29, 182, 1, 182, 21, 4, 21, 5, 96, 54, 4, 167, 255, 204, 21, 4, 172]
abbrev dktX1_cart_3 : List UInt8 := dkwX1_cart_3 ++ []
def dkwX1_cart_2 : List UInt8 := [182, 1, 178, 58, 6, 25, 6, 182, 1, 145, 154, 0, 6, 21, 4, 172, 25, 6, 182, 1, 148, 192, 0, 18]
abbrev dktX1_cart_2 : List UInt8 := dkwX1_cart_2 ++ dktX1_cart_3
def dkwX1_cart_1 : List UInt8 := [4, 167, 0, 4, 2, 54, 5, 21, 4, 28, 159, 0, 52, 42, 21, 4, 21, 4, 21, 5, 96, 184, 0, 166]
abbrev dktX1_cart_1 : List UInt8 := dkwX1_cart_1 ++ dktX1_cart_2
def dkwX1_cart_0 : List UInt8 := [27, 28, 184, 1, 175, 29, 4, 17, 1, 244, 184, 0, 73, 184, 0, 81, 27, 54, 4, 28, 27, 164, 0, 7]
abbrev dktX1_cart_0 : List UInt8 := dkwX1_cart_0 ++ dktX1_cart_1
theorem dksX1_cart_0 : cX1_cart.data.toList.drop 0 = dktX1_cart_0 := by decide +kernel
theorem dksX1_cart_1 : cX1_cart.data.toList.drop 24 = dktX1_cart_1 := dk_seg dksX1_cart_0 24 rfl rfl
theorem dksX1_cart_2 : cX1_cart.data.toList.drop 48 = dktX1_cart_2 := dk_seg dksX1_cart_1 24 rfl rfl
theorem dksX1_cart_3 : cX1_cart.data.toList.drop 72 = dktX1_cart_3 := dk_seg dksX1_cart_2 24 rfl rfl
theorem dX1_cart_0 : decode cX1_cart 0 = .ok (.iload_n 1, 1) := dk_27 (dk_at dksX1_cart_0 0 rfl rfl)
theorem dX1_cart_1 : decode cX1_cart 1 = .ok (.iload_n 2, 1) := dk_28 (dk_at dksX1_cart_0 1 rfl rfl)
theorem dX1_cart_2 : decode cX1_cart 2 = .ok (.invokestatic 431, 3) := dk_184 1 175 (dk_at dksX1_cart_0 2 rfl rfl)
theorem dX1_cart_5 : decode cX1_cart 5 = .ok (.iload_n 3, 1) := dk_29 (dk_at dksX1_cart_0 5 rfl rfl)
theorem dX1_cart_6 : decode cX1_cart 6 = .ok (.iconst 1, 1) := dk_4 (dk_at dksX1_cart_0 6 rfl rfl)
theorem dX1_cart_7 : decode cX1_cart 7 = .ok (.sipush 500, 3) := dk_17 1 244 (dk_at dksX1_cart_0 7 rfl rfl)
theorem dX1_cart_10 : decode cX1_cart 10 = .ok (.invokestatic 73, 3) := dk_184 0 73 (dk_at dksX1_cart_0 10 rfl rfl)
theorem dX1_cart_13 : decode cX1_cart 13 = .ok (.invokestatic 81, 3) := dk_184 0 81 (dk_at dksX1_cart_0 13 rfl rfl)
theorem dX1_cart_16 : decode cX1_cart 16 = .ok (.iload_n 1, 1) := dk_27 (dk_at dksX1_cart_0 16 rfl rfl)
theorem dX1_cart_17 : decode cX1_cart 17 = .ok (.istore 4, 2) := dk_54 4 (dk_at dksX1_cart_0 17 rfl rfl)
theorem dX1_cart_19 : decode cX1_cart 19 = .ok (.iload_n 2, 1) := dk_28 (dk_at dksX1_cart_0 19 rfl rfl)
theorem dX1_cart_20 : decode cX1_cart 20 = .ok (.iload_n 1, 1) := dk_27 (dk_at dksX1_cart_0 20 rfl rfl)
theorem dX1_cart_21 : decode cX1_cart 21 = .ok (.if_icmp .le 7, 3) := dk_164 0 7 (dk_at dksX1_cart_0 21 rfl rfl)
theorem dX1_cart_24 : decode cX1_cart 24 = .ok (.iconst 1, 1) := dk_4 (dk_at dksX1_cart_1 0 rfl rfl)
theorem dX1_cart_25 : decode cX1_cart 25 = .ok (.goto 4, 3) := dk_167 0 4 (dk_at dksX1_cart_1 1 rfl rfl)
theorem dX1_cart_28 : decode cX1_cart 28 = .ok (.iconst (-1), 1) := dk_2 (dk_at dksX1_cart_1 4 rfl rfl)
theorem dX1_cart_29 : decode cX1_cart 29 = .ok (.istore 5, 2) := dk_54 5 (dk_at dksX1_cart_1 5 rfl rfl)
theorem dX1_cart_31 : decode cX1_cart 31 = .ok (.iload 4, 2) := dk_21 4 (dk_at dksX1_cart_1 7 rfl rfl)
theorem dX1_cart_33 : decode cX1_cart 33 = .ok (.iload_n 2, 1) := dk_28 (dk_at dksX1_cart_1 9 rfl rfl)
theorem dX1_cart_34 : decode cX1_cart 34 = .ok (.if_icmp .eq 52, 3) := dk_159 0 52 (dk_at dksX1_cart_1 10 rfl rfl)
theorem dX1_cart_37 : decode cX1_cart 37 = .ok (.aload_n 0, 1) := dk_42 (dk_at dksX1_cart_1 13 rfl rfl)
theorem dX1_cart_38 : decode cX1_cart 38 = .ok (.iload 4, 2) := dk_21 4 (dk_at dksX1_cart_1 14 rfl rfl)
theorem dX1_cart_40 : decode cX1_cart 40 = .ok (.iload 4, 2) := dk_21 4 (dk_at dksX1_cart_1 16 rfl rfl)
theorem dX1_cart_42 : decode cX1_cart 42 = .ok (.iload 5, 2) := dk_21 5 (dk_at dksX1_cart_1 18 rfl rfl)
theorem dX1_cart_44 : decode cX1_cart 44 = .ok (.iadd, 1) := dk_96 (dk_at dksX1_cart_1 20 rfl rfl)
theorem dX1_cart_45 : decode cX1_cart 45 = .ok (.invokestatic 166, 3) := dk_184 0 166 (dk_at dksX1_cart_1 21 rfl rfl)
theorem dX1_cart_48 : decode cX1_cart 48 = .ok (.invokevirtual 434, 3) := dk_182 1 178 (dk_at dksX1_cart_2 0 rfl rfl)
theorem dX1_cart_51 : decode cX1_cart 51 = .ok (.astore 6, 2) := dk_58 6 (dk_at dksX1_cart_2 3 rfl rfl)
theorem dX1_cart_53 : decode cX1_cart 53 = .ok (.aload 6, 2) := dk_25 6 (dk_at dksX1_cart_2 5 rfl rfl)
theorem dX1_cart_55 : decode cX1_cart 55 = .ok (.invokevirtual 401, 3) := dk_182 1 145 (dk_at dksX1_cart_2 7 rfl rfl)
theorem dX1_cart_58 : decode cX1_cart 58 = .ok (.ifCond .ne 6, 3) := dk_154 0 6 (dk_at dksX1_cart_2 10 rfl rfl)
theorem dX1_cart_61 : decode cX1_cart 61 = .ok (.iload 4, 2) := dk_21 4 (dk_at dksX1_cart_2 13 rfl rfl)
theorem dX1_cart_63 : decode cX1_cart 63 = .ok (.ireturn, 1) := dk_172 (dk_at dksX1_cart_2 15 rfl rfl)
theorem dX1_cart_64 : decode cX1_cart 64 = .ok (.aload 6, 2) := dk_25 6 (dk_at dksX1_cart_2 16 rfl rfl)
theorem dX1_cart_66 : decode cX1_cart 66 = .ok (.invokevirtual 404, 3) := dk_182 1 148 (dk_at dksX1_cart_2 18 rfl rfl)
theorem dX1_cart_69 : decode cX1_cart 69 = .ok (.checkcast 18, 3) := dk_192 0 18 (dk_at dksX1_cart_2 21 rfl rfl)
theorem dX1_cart_72 : decode cX1_cart 72 = .ok (.iload_n 3, 1) := dk_29 (dk_at dksX1_cart_3 0 rfl rfl)
theorem dX1_cart_73 : decode cX1_cart 73 = .ok (.invokevirtual 438, 3) := dk_182 1 182 (dk_at dksX1_cart_3 1 rfl rfl)
theorem dX1_cart_76 : decode cX1_cart 76 = .ok (.iload 4, 2) := dk_21 4 (dk_at dksX1_cart_3 4 rfl rfl)
theorem dX1_cart_78 : decode cX1_cart 78 = .ok (.iload 5, 2) := dk_21 5 (dk_at dksX1_cart_3 6 rfl rfl)
theorem dX1_cart_80 : decode cX1_cart 80 = .ok (.iadd, 1) := dk_96 (dk_at dksX1_cart_3 8 rfl rfl)
theorem dX1_cart_81 : decode cX1_cart 81 = .ok (.istore 4, 2) := dk_54 4 (dk_at dksX1_cart_3 9 rfl rfl)
theorem dX1_cart_83 : decode cX1_cart 83 = .ok (.goto (-52), 3) := dk_167 255 204 (dk_at dksX1_cart_3 11 rfl rfl)
theorem dX1_cart_86 : decode cX1_cart 86 = .ok (.iload 4, 2) := dk_21 4 (dk_at dksX1_cart_3 14 rfl rfl)
theorem dX1_cart_88 : decode cX1_cart 88 = .ok (.ireturn, 1) := dk_172 (dk_at dksX1_cart_3 16 rfl rfl)
abbrev cX1_requireWay : ByteArray := prog_1_method_42_code
def yX1_requireWay : MethodName := ⟨RX1, "requireWay", "(II)V"⟩
def dkwX1_requireWay_1 : List UInt8 := [3, 184, 0, 77, 26, 27, 159, 0, 7, 4, 167, 0, 4, 3, 184, 0, 81, 177]
abbrev dktX1_requireWay_1 : List UInt8 := dkwX1_requireWay_1 ++ []
def dkwX1_requireWay_0 : List UInt8 := [26, 3, 16, 6, 184, 0, 73, 153, 0, 17, 27, 3, 16, 6, 184, 0, 73, 153, 0, 7, 4, 167, 0, 4]
abbrev dktX1_requireWay_0 : List UInt8 := dkwX1_requireWay_0 ++ dktX1_requireWay_1
theorem dksX1_requireWay_0 : cX1_requireWay.data.toList.drop 0 = dktX1_requireWay_0 := by decide +kernel
theorem dksX1_requireWay_1 : cX1_requireWay.data.toList.drop 24 = dktX1_requireWay_1 := dk_seg dksX1_requireWay_0 24 rfl rfl
theorem dX1_requireWay_0 : decode cX1_requireWay 0 = .ok (.iload_n 0, 1) := dk_26 (dk_at dksX1_requireWay_0 0 rfl rfl)
theorem dX1_requireWay_1 : decode cX1_requireWay 1 = .ok (.iconst 0, 1) := dk_3 (dk_at dksX1_requireWay_0 1 rfl rfl)
theorem dX1_requireWay_2 : decode cX1_requireWay 2 = .ok (.bipush 6, 2) := dk_16 6 (dk_at dksX1_requireWay_0 2 rfl rfl)
theorem dX1_requireWay_4 : decode cX1_requireWay 4 = .ok (.invokestatic 73, 3) := dk_184 0 73 (dk_at dksX1_requireWay_0 4 rfl rfl)
theorem dX1_requireWay_7 : decode cX1_requireWay 7 = .ok (.ifCond .eq 17, 3) := dk_153 0 17 (dk_at dksX1_requireWay_0 7 rfl rfl)
theorem dX1_requireWay_10 : decode cX1_requireWay 10 = .ok (.iload_n 1, 1) := dk_27 (dk_at dksX1_requireWay_0 10 rfl rfl)
theorem dX1_requireWay_11 : decode cX1_requireWay 11 = .ok (.iconst 0, 1) := dk_3 (dk_at dksX1_requireWay_0 11 rfl rfl)
theorem dX1_requireWay_12 : decode cX1_requireWay 12 = .ok (.bipush 6, 2) := dk_16 6 (dk_at dksX1_requireWay_0 12 rfl rfl)
theorem dX1_requireWay_14 : decode cX1_requireWay 14 = .ok (.invokestatic 73, 3) := dk_184 0 73 (dk_at dksX1_requireWay_0 14 rfl rfl)
theorem dX1_requireWay_17 : decode cX1_requireWay 17 = .ok (.ifCond .eq 7, 3) := dk_153 0 7 (dk_at dksX1_requireWay_0 17 rfl rfl)
theorem dX1_requireWay_20 : decode cX1_requireWay 20 = .ok (.iconst 1, 1) := dk_4 (dk_at dksX1_requireWay_0 20 rfl rfl)
theorem dX1_requireWay_21 : decode cX1_requireWay 21 = .ok (.goto 4, 3) := dk_167 0 4 (dk_at dksX1_requireWay_0 21 rfl rfl)
theorem dX1_requireWay_24 : decode cX1_requireWay 24 = .ok (.iconst 0, 1) := dk_3 (dk_at dksX1_requireWay_1 0 rfl rfl)
theorem dX1_requireWay_25 : decode cX1_requireWay 25 = .ok (.invokestatic 77, 3) := dk_184 0 77 (dk_at dksX1_requireWay_1 1 rfl rfl)
theorem dX1_requireWay_28 : decode cX1_requireWay 28 = .ok (.iload_n 0, 1) := dk_26 (dk_at dksX1_requireWay_1 4 rfl rfl)
theorem dX1_requireWay_29 : decode cX1_requireWay 29 = .ok (.iload_n 1, 1) := dk_27 (dk_at dksX1_requireWay_1 5 rfl rfl)
theorem dX1_requireWay_30 : decode cX1_requireWay 30 = .ok (.if_icmp .eq 7, 3) := dk_159 0 7 (dk_at dksX1_requireWay_1 6 rfl rfl)
theorem dX1_requireWay_33 : decode cX1_requireWay 33 = .ok (.iconst 1, 1) := dk_4 (dk_at dksX1_requireWay_1 9 rfl rfl)
theorem dX1_requireWay_34 : decode cX1_requireWay 34 = .ok (.goto 4, 3) := dk_167 0 4 (dk_at dksX1_requireWay_1 10 rfl rfl)
theorem dX1_requireWay_37 : decode cX1_requireWay 37 = .ok (.iconst 0, 1) := dk_3 (dk_at dksX1_requireWay_1 13 rfl rfl)
theorem dX1_requireWay_38 : decode cX1_requireWay 38 = .ok (.invokestatic 81, 3) := dk_184 0 81 (dk_at dksX1_requireWay_1 14 rfl rfl)
theorem dX1_requireWay_41 : decode cX1_requireWay 41 = .ok (.return_, 1) := dk_177 (dk_at dksX1_requireWay_1 17 rfl rfl)
abbrev cX1_taken : ByteArray := prog_1_method_43_code
def yX1_taken : MethodName := ⟨RX1, "taken", "(I)Ljava/util/Optional;"⟩
def dkwX1_taken_3 : List UInt8 := [167, 0, 8, 25, 5, 184, 0, 227, 176]
abbrev dktX1_taken_3 : List UInt8 := dkwX1_taken_3 ++ []
def dkwX1_taken_2 : List UInt8 := [21, 4, 153, 0, 7, 45, 167, 0, 4, 44, 58, 5, 25, 5, 182, 1, 168, 153, 0, 9, 184, 1, 171]
abbrev dktX1_taken_2 : List UInt8 := dkwX1_taken_2 ++ dktX1_taken_3
def dkwX1_taken_1 : List UInt8 := [153, 0, 18, 45, 182, 1, 168, 154, 0, 7, 4, 167, 0, 11, 3, 167, 0, 7, 44, 182, 1, 168, 54, 4]
abbrev dktX1_taken_1 : List UInt8 := dkwX1_taken_1 ++ dktX1_taken_2
def dkwX1_taken_0 : List UInt8 := [42, 180, 0, 20, 27, 50, 77, 42, 180, 0, 20, 27, 16, 6, 96, 50, 78, 42, 44, 182, 1, 164]
abbrev dktX1_taken_0 : List UInt8 := dkwX1_taken_0 ++ dktX1_taken_1
theorem dksX1_taken_0 : cX1_taken.data.toList.drop 0 = dktX1_taken_0 := by decide +kernel
theorem dksX1_taken_1 : cX1_taken.data.toList.drop 22 = dktX1_taken_1 := dk_seg dksX1_taken_0 22 rfl rfl
theorem dksX1_taken_2 : cX1_taken.data.toList.drop 46 = dktX1_taken_2 := dk_seg dksX1_taken_1 24 rfl rfl
theorem dksX1_taken_3 : cX1_taken.data.toList.drop 69 = dktX1_taken_3 := dk_seg dksX1_taken_2 23 rfl rfl
theorem dX1_taken_0 : decode cX1_taken 0 = .ok (.aload_n 0, 1) := dk_42 (dk_at dksX1_taken_0 0 rfl rfl)
theorem dX1_taken_1 : decode cX1_taken 1 = .ok (.getfield 20, 3) := dk_180 0 20 (dk_at dksX1_taken_0 1 rfl rfl)
theorem dX1_taken_4 : decode cX1_taken 4 = .ok (.iload_n 1, 1) := dk_27 (dk_at dksX1_taken_0 4 rfl rfl)
theorem dX1_taken_5 : decode cX1_taken 5 = .ok (.aaload, 1) := dk_50 (dk_at dksX1_taken_0 5 rfl rfl)
theorem dX1_taken_6 : decode cX1_taken 6 = .ok (.astore_n 2, 1) := dk_77 (dk_at dksX1_taken_0 6 rfl rfl)
theorem dX1_taken_7 : decode cX1_taken 7 = .ok (.aload_n 0, 1) := dk_42 (dk_at dksX1_taken_0 7 rfl rfl)
theorem dX1_taken_8 : decode cX1_taken 8 = .ok (.getfield 20, 3) := dk_180 0 20 (dk_at dksX1_taken_0 8 rfl rfl)
theorem dX1_taken_11 : decode cX1_taken 11 = .ok (.iload_n 1, 1) := dk_27 (dk_at dksX1_taken_0 11 rfl rfl)
theorem dX1_taken_12 : decode cX1_taken 12 = .ok (.bipush 6, 2) := dk_16 6 (dk_at dksX1_taken_0 12 rfl rfl)
theorem dX1_taken_14 : decode cX1_taken 14 = .ok (.iadd, 1) := dk_96 (dk_at dksX1_taken_0 14 rfl rfl)
theorem dX1_taken_15 : decode cX1_taken 15 = .ok (.aaload, 1) := dk_50 (dk_at dksX1_taken_0 15 rfl rfl)
theorem dX1_taken_16 : decode cX1_taken 16 = .ok (.astore_n 3, 1) := dk_78 (dk_at dksX1_taken_0 16 rfl rfl)
theorem dX1_taken_17 : decode cX1_taken 17 = .ok (.aload_n 0, 1) := dk_42 (dk_at dksX1_taken_0 17 rfl rfl)
theorem dX1_taken_18 : decode cX1_taken 18 = .ok (.aload_n 2, 1) := dk_44 (dk_at dksX1_taken_0 18 rfl rfl)
theorem dX1_taken_19 : decode cX1_taken 19 = .ok (.invokevirtual 420, 3) := dk_182 1 164 (dk_at dksX1_taken_0 19 rfl rfl)
theorem dX1_taken_22 : decode cX1_taken 22 = .ok (.ifCond .eq 18, 3) := dk_153 0 18 (dk_at dksX1_taken_1 0 rfl rfl)
theorem dX1_taken_25 : decode cX1_taken 25 = .ok (.aload_n 3, 1) := dk_45 (dk_at dksX1_taken_1 3 rfl rfl)
theorem dX1_taken_26 : decode cX1_taken 26 = .ok (.invokevirtual 424, 3) := dk_182 1 168 (dk_at dksX1_taken_1 4 rfl rfl)
theorem dX1_taken_29 : decode cX1_taken 29 = .ok (.ifCond .ne 7, 3) := dk_154 0 7 (dk_at dksX1_taken_1 7 rfl rfl)
theorem dX1_taken_32 : decode cX1_taken 32 = .ok (.iconst 1, 1) := dk_4 (dk_at dksX1_taken_1 10 rfl rfl)
theorem dX1_taken_33 : decode cX1_taken 33 = .ok (.goto 11, 3) := dk_167 0 11 (dk_at dksX1_taken_1 11 rfl rfl)
theorem dX1_taken_36 : decode cX1_taken 36 = .ok (.iconst 0, 1) := dk_3 (dk_at dksX1_taken_1 14 rfl rfl)
theorem dX1_taken_37 : decode cX1_taken 37 = .ok (.goto 7, 3) := dk_167 0 7 (dk_at dksX1_taken_1 15 rfl rfl)
theorem dX1_taken_40 : decode cX1_taken 40 = .ok (.aload_n 2, 1) := dk_44 (dk_at dksX1_taken_1 18 rfl rfl)
theorem dX1_taken_41 : decode cX1_taken 41 = .ok (.invokevirtual 424, 3) := dk_182 1 168 (dk_at dksX1_taken_1 19 rfl rfl)
theorem dX1_taken_44 : decode cX1_taken 44 = .ok (.istore 4, 2) := dk_54 4 (dk_at dksX1_taken_1 22 rfl rfl)
theorem dX1_taken_46 : decode cX1_taken 46 = .ok (.iload 4, 2) := dk_21 4 (dk_at dksX1_taken_2 0 rfl rfl)
theorem dX1_taken_48 : decode cX1_taken 48 = .ok (.ifCond .eq 7, 3) := dk_153 0 7 (dk_at dksX1_taken_2 2 rfl rfl)
theorem dX1_taken_51 : decode cX1_taken 51 = .ok (.aload_n 3, 1) := dk_45 (dk_at dksX1_taken_2 5 rfl rfl)
theorem dX1_taken_52 : decode cX1_taken 52 = .ok (.goto 4, 3) := dk_167 0 4 (dk_at dksX1_taken_2 6 rfl rfl)
theorem dX1_taken_55 : decode cX1_taken 55 = .ok (.aload_n 2, 1) := dk_44 (dk_at dksX1_taken_2 9 rfl rfl)
theorem dX1_taken_56 : decode cX1_taken 56 = .ok (.astore 5, 2) := dk_58 5 (dk_at dksX1_taken_2 10 rfl rfl)
theorem dX1_taken_58 : decode cX1_taken 58 = .ok (.aload 5, 2) := dk_25 5 (dk_at dksX1_taken_2 12 rfl rfl)
theorem dX1_taken_60 : decode cX1_taken 60 = .ok (.invokevirtual 424, 3) := dk_182 1 168 (dk_at dksX1_taken_2 14 rfl rfl)
theorem dX1_taken_63 : decode cX1_taken 63 = .ok (.ifCond .eq 9, 3) := dk_153 0 9 (dk_at dksX1_taken_2 17 rfl rfl)
theorem dX1_taken_66 : decode cX1_taken 66 = .ok (.invokestatic 427, 3) := dk_184 1 171 (dk_at dksX1_taken_2 20 rfl rfl)
theorem dX1_taken_69 : decode cX1_taken 69 = .ok (.goto 8, 3) := dk_167 0 8 (dk_at dksX1_taken_3 0 rfl rfl)
theorem dX1_taken_72 : decode cX1_taken 72 = .ok (.aload 5, 2) := dk_25 5 (dk_at dksX1_taken_3 3 rfl rfl)
theorem dX1_taken_74 : decode cX1_taken 74 = .ok (.invokestatic 227, 3) := dk_184 0 227 (dk_at dksX1_taken_3 5 rfl rfl)
theorem dX1_taken_77 : decode cX1_taken 77 = .ok (.areturn, 1) := dk_176 (dk_at dksX1_taken_3 8 rfl rfl)
abbrev cX1_round : ByteArray := prog_1_method_45_code
def yX1_round : MethodName := ⟨RX1, "round", "(II)I"⟩
def dkwX1_round_3 : List UInt8 := [167, 255, 199, 29, 172]
abbrev dktX1_round_3 : List UInt8 := dkwX1_round_3 ++ []
def dkwX1_round_2 : List UInt8 := [192, 0, 18, 180, 0, 131, 8, 164, 0, 10, 4, 21, 4, 120, 167, 0, 4, 3, 128, 62, 132, 4, 1]
abbrev dktX1_round_2 : List UInt8 := dkwX1_round_2 ++ dktX1_round_3
def dkwX1_round_1 : List UInt8 := [42, 21, 4, 182, 1, 178, 58, 5, 25, 5, 182, 1, 145, 154, 0, 5, 2, 172, 29, 25, 5, 182, 1, 148]
abbrev dktX1_round_1 : List UInt8 := dkwX1_round_1 ++ dktX1_round_2
def dkwX1_round_0 : List UInt8 := [27, 28, 184, 1, 175, 3, 62, 27, 28, 184, 0, 166, 54, 4, 21, 4, 27, 28, 184, 1, 185, 162, 0, 53]
abbrev dktX1_round_0 : List UInt8 := dkwX1_round_0 ++ dktX1_round_1
theorem dksX1_round_0 : cX1_round.data.toList.drop 0 = dktX1_round_0 := by decide +kernel
theorem dksX1_round_1 : cX1_round.data.toList.drop 24 = dktX1_round_1 := dk_seg dksX1_round_0 24 rfl rfl
theorem dksX1_round_2 : cX1_round.data.toList.drop 48 = dktX1_round_2 := dk_seg dksX1_round_1 24 rfl rfl
theorem dksX1_round_3 : cX1_round.data.toList.drop 71 = dktX1_round_3 := dk_seg dksX1_round_2 23 rfl rfl
theorem dX1_round_0 : decode cX1_round 0 = .ok (.iload_n 1, 1) := dk_27 (dk_at dksX1_round_0 0 rfl rfl)
theorem dX1_round_1 : decode cX1_round 1 = .ok (.iload_n 2, 1) := dk_28 (dk_at dksX1_round_0 1 rfl rfl)
theorem dX1_round_2 : decode cX1_round 2 = .ok (.invokestatic 431, 3) := dk_184 1 175 (dk_at dksX1_round_0 2 rfl rfl)
theorem dX1_round_5 : decode cX1_round 5 = .ok (.iconst 0, 1) := dk_3 (dk_at dksX1_round_0 5 rfl rfl)
theorem dX1_round_6 : decode cX1_round 6 = .ok (.istore_n 3, 1) := dk_62 (dk_at dksX1_round_0 6 rfl rfl)
theorem dX1_round_7 : decode cX1_round 7 = .ok (.iload_n 1, 1) := dk_27 (dk_at dksX1_round_0 7 rfl rfl)
theorem dX1_round_8 : decode cX1_round 8 = .ok (.iload_n 2, 1) := dk_28 (dk_at dksX1_round_0 8 rfl rfl)
theorem dX1_round_9 : decode cX1_round 9 = .ok (.invokestatic 166, 3) := dk_184 0 166 (dk_at dksX1_round_0 9 rfl rfl)
theorem dX1_round_12 : decode cX1_round 12 = .ok (.istore 4, 2) := dk_54 4 (dk_at dksX1_round_0 12 rfl rfl)
theorem dX1_round_14 : decode cX1_round 14 = .ok (.iload 4, 2) := dk_21 4 (dk_at dksX1_round_0 14 rfl rfl)
theorem dX1_round_16 : decode cX1_round 16 = .ok (.iload_n 1, 1) := dk_27 (dk_at dksX1_round_0 16 rfl rfl)
theorem dX1_round_17 : decode cX1_round 17 = .ok (.iload_n 2, 1) := dk_28 (dk_at dksX1_round_0 17 rfl rfl)
theorem dX1_round_18 : decode cX1_round 18 = .ok (.invokestatic 441, 3) := dk_184 1 185 (dk_at dksX1_round_0 18 rfl rfl)
theorem dX1_round_21 : decode cX1_round 21 = .ok (.if_icmp .ge 53, 3) := dk_162 0 53 (dk_at dksX1_round_0 21 rfl rfl)
theorem dX1_round_24 : decode cX1_round 24 = .ok (.aload_n 0, 1) := dk_42 (dk_at dksX1_round_1 0 rfl rfl)
theorem dX1_round_25 : decode cX1_round 25 = .ok (.iload 4, 2) := dk_21 4 (dk_at dksX1_round_1 1 rfl rfl)
theorem dX1_round_27 : decode cX1_round 27 = .ok (.invokevirtual 434, 3) := dk_182 1 178 (dk_at dksX1_round_1 3 rfl rfl)
theorem dX1_round_30 : decode cX1_round 30 = .ok (.astore 5, 2) := dk_58 5 (dk_at dksX1_round_1 6 rfl rfl)
theorem dX1_round_32 : decode cX1_round 32 = .ok (.aload 5, 2) := dk_25 5 (dk_at dksX1_round_1 8 rfl rfl)
theorem dX1_round_34 : decode cX1_round 34 = .ok (.invokevirtual 401, 3) := dk_182 1 145 (dk_at dksX1_round_1 10 rfl rfl)
theorem dX1_round_37 : decode cX1_round 37 = .ok (.ifCond .ne 5, 3) := dk_154 0 5 (dk_at dksX1_round_1 13 rfl rfl)
theorem dX1_round_40 : decode cX1_round 40 = .ok (.iconst (-1), 1) := dk_2 (dk_at dksX1_round_1 16 rfl rfl)
theorem dX1_round_41 : decode cX1_round 41 = .ok (.ireturn, 1) := dk_172 (dk_at dksX1_round_1 17 rfl rfl)
theorem dX1_round_42 : decode cX1_round 42 = .ok (.iload_n 3, 1) := dk_29 (dk_at dksX1_round_1 18 rfl rfl)
theorem dX1_round_43 : decode cX1_round 43 = .ok (.aload 5, 2) := dk_25 5 (dk_at dksX1_round_1 19 rfl rfl)
theorem dX1_round_45 : decode cX1_round 45 = .ok (.invokevirtual 404, 3) := dk_182 1 148 (dk_at dksX1_round_1 21 rfl rfl)
theorem dX1_round_48 : decode cX1_round 48 = .ok (.checkcast 18, 3) := dk_192 0 18 (dk_at dksX1_round_2 0 rfl rfl)
theorem dX1_round_51 : decode cX1_round 51 = .ok (.getfield 131, 3) := dk_180 0 131 (dk_at dksX1_round_2 3 rfl rfl)
theorem dX1_round_54 : decode cX1_round 54 = .ok (.iconst 5, 1) := dk_8 (dk_at dksX1_round_2 6 rfl rfl)
theorem dX1_round_55 : decode cX1_round 55 = .ok (.if_icmp .le 10, 3) := dk_164 0 10 (dk_at dksX1_round_2 7 rfl rfl)
theorem dX1_round_58 : decode cX1_round 58 = .ok (.iconst 1, 1) := dk_4 (dk_at dksX1_round_2 10 rfl rfl)
theorem dX1_round_59 : decode cX1_round 59 = .ok (.iload 4, 2) := dk_21 4 (dk_at dksX1_round_2 11 rfl rfl)
theorem dX1_round_61 : decode cX1_round 61 = .ok (.ishl, 1) := dk_120 (dk_at dksX1_round_2 13 rfl rfl)
theorem dX1_round_62 : decode cX1_round 62 = .ok (.goto 4, 3) := dk_167 0 4 (dk_at dksX1_round_2 14 rfl rfl)
theorem dX1_round_65 : decode cX1_round 65 = .ok (.iconst 0, 1) := dk_3 (dk_at dksX1_round_2 17 rfl rfl)
theorem dX1_round_66 : decode cX1_round 66 = .ok (.ior, 1) := dk_128 (dk_at dksX1_round_2 18 rfl rfl)
theorem dX1_round_67 : decode cX1_round 67 = .ok (.istore_n 3, 1) := dk_62 (dk_at dksX1_round_2 19 rfl rfl)
theorem dX1_round_68 : decode cX1_round 68 = .ok (.iinc 4 1, 3) := dk_132 4 1 (dk_at dksX1_round_2 20 rfl rfl)
theorem dX1_round_71 : decode cX1_round 71 = .ok (.goto (-57), 3) := dk_167 255 199 (dk_at dksX1_round_3 0 rfl rfl)
theorem dX1_round_74 : decode cX1_round 74 = .ok (.iload_n 3, 1) := dk_29 (dk_at dksX1_round_3 3 rfl rfl)
theorem dX1_round_75 : decode cX1_round 75 = .ok (.ireturn, 1) := dk_172 (dk_at dksX1_round_3 4 rfl rfl)
theorem q72 : (Jvm.Cond.initialized "Bogsign") ∈ lw_all := lw_g (lw_at lw_m1 1 rfl) rfl
theorem q128 : (Jvm.Cond.instantiable "Bogsign" (11 : Nat)) ∈ lw_all := lw_g (lw_at lw_m1 57 rfl) rfl
theorem q130 : (Jvm.Cond.instanceMethod ({ cls := "Bogsign", name := "<init>", desc := "()V" } : Jvm.MethodName)) ∈ lw_all := lw_g (lw_at lw_m1 59 rfl) rfl
theorem q131 : (Jvm.Cond.code ({ cls := "Bogsign", name := "<init>", desc := "()V" } : Jvm.MethodName) prog_1_method_5_code (2 : Nat) (Option.none : Option Jvm.ClassFile.FieldType)) ∈ lw_all := lw_g (lw_at lw_m1 60 rfl) rfl
theorem q132 : (Jvm.Cond.methodLink "Bogsign" (13 : Nat) ({ cls := "java/lang/Object", name := "<init>", desc := "()V" } : Jvm.MethodName)) ∈ lw_all := lw_g (lw_at lw_m1 61 rfl) rfl
theorem q135 : (Jvm.Cond.classLink "Bogsign" (18 : Nat) "Bogsign$Stretch") ∈ lw_all := lw_g (lw_at lw_m1 64 rfl) rfl
theorem q137 : (Jvm.Cond.classLink "Bogsign" (24 : Nat) "java/util/ArrayList") ∈ lw_all := lw_g (lw_at lw_m1 66 rfl) rfl
theorem q139 : (Jvm.Cond.methodLink "Bogsign" (26 : Nat) ({ cls := "java/util/ArrayList", name := "<init>", desc := "()V" } : Jvm.MethodName)) ∈ lw_all := lw_g (lw_at lw_m1 68 rfl) rfl
theorem q170 : (Jvm.Cond.classLink "Bogsign" (31 : Nat) "java/util/BitSet") ∈ lw_all := lw_g (lw_at lw_m1 99 rfl) rfl
theorem q172 : (Jvm.Cond.methodLink "Bogsign" (33 : Nat) ({ cls := "java/util/BitSet", name := "<init>", desc := "(I)V" } : Jvm.MethodName)) ∈ lw_all := lw_g (lw_at lw_m1 101 rfl) rfl
theorem q194 : (Jvm.Cond.classLink "Bogsign" (40 : Nat) "java/util/ArrayDeque") ∈ lw_all := lw_g (lw_at lw_m1 123 rfl) rfl
theorem q196 : (Jvm.Cond.methodLink "Bogsign" (42 : Nat) ({ cls := "java/util/ArrayDeque", name := "<init>", desc := "()V" } : Jvm.MethodName)) ∈ lw_all := lw_g (lw_at lw_m1 125 rfl) rfl
theorem q214 : (Jvm.Cond.classLink "Bogsign" (50 : Nat) "Bogsign$Notes") ∈ lw_all := lw_g (lw_at lw_m1 143 rfl) rfl
theorem q216 : (Jvm.Cond.classLink "Bogsign" (60 : Nat) "java/util/TreeMap") ∈ lw_all := lw_g (lw_at lw_m1 145 rfl) rfl
theorem q218 : (Jvm.Cond.methodLink "Bogsign" (62 : Nat) ({ cls := "java/util/TreeMap", name := "<init>", desc := "()V" } : Jvm.MethodName)) ∈ lw_all := lw_g (lw_at lw_m1 147 rfl) rfl
theorem q250 : (Jvm.Cond.methodLink "Bogsign" (71 : Nat) ({ cls := "Bogsign$Stretch", name := "<init>", desc := "(I)V" } : Jvm.MethodName)) ∈ lw_all := lw_g (lw_at lw_m1 179 rfl) rfl
theorem q283 : (Jvm.Cond.fieldLinkNest "Bogsign" (131 : Nat) "Bogsign$Stretch" "number" "I" "Bogsign") ∈ lw_tbl := lw_at lw_m1 212 rfl
theorem q285 : (Jvm.Cond.fieldLinkNest "Bogsign" (410 : Nat) "Bogsign$Stretch" "boards" "Ljava/util/LinkedList;" "Bogsign") ∈ lw_tbl := lw_at lw_m1 214 rfl
theorem q288 : (Jvm.Cond.fieldLinkNest "Bogsign" (271 : Nat) "Bogsign$Stretch" "softness" "I" "Bogsign") ∈ lw_tbl := lw_at lw_m1 217 rfl
theorem q290 : (Jvm.Cond.fieldLinkNest "Bogsign" (417 : Nat) "Bogsign$Stretch" "weights" "I" "Bogsign") ∈ lw_tbl := lw_at lw_m1 219 rfl
theorem q291 : (Jvm.Cond.fieldLinkNest "Bogsign" (398 : Nat) "Bogsign$Stretch" "found" "I" "Bogsign") ∈ lw_tbl := lw_at lw_m1 220 rfl
theorem q292 : (Jvm.Cond.fieldLinkNest "Bogsign" (237 : Nat) "Bogsign$Stretch" "isFound" "Z" "Bogsign") ∈ lw_tbl := lw_at lw_m1 221 rfl
theorem q294 : (Jvm.Cond.fieldLinkNest "Bogsign" (233 : Nat) "Bogsign$Stretch" "latest" "Ljava/util/Optional;" "Bogsign") ∈ lw_tbl := lw_at lw_m1 223 rfl
theorem q313 : (Jvm.Cond.methodLinkNest "Bogsign" (72 : Nat) ({ cls := "Bogsign$Notes", name := "<init>", desc := "()V" } : Jvm.MethodName) "Bogsign") ∈ lw_tbl := lw_at lw_m2 2 rfl
theorem q324 : (Jvm.Cond.fieldLink "Bogsign" (20 : Nat) "Bogsign" "stretches" "[LBogsign$Stretch;") ∈ lw_all := lw_g (lw_at lw_m2 13 rfl) rfl
theorem q325 : (Jvm.Cond.fieldLink "Bogsign" (27 : Nat) "Bogsign" "boards" "Ljava/util/List;") ∈ lw_all := lw_g (lw_at lw_m2 14 rfl) rfl
theorem q326 : (Jvm.Cond.fieldLink "Bogsign" (36 : Nat) "Bogsign" "depot" "Ljava/util/BitSet;") ∈ lw_all := lw_g (lw_at lw_m2 15 rfl) rfl
theorem q327 : (Jvm.Cond.fieldLink "Bogsign" (43 : Nat) "Bogsign" "debts" "Ljava/util/ArrayDeque;") ∈ lw_all := lw_g (lw_at lw_m2 16 rfl) rfl
theorem q328 : (Jvm.Cond.fieldLink "Bogsign" (47 : Nat) "Bogsign" "messages" "Ljava/util/List;") ∈ lw_all := lw_g (lw_at lw_m2 17 rfl) rfl
theorem q329 : (Jvm.Cond.fieldLink "Bogsign" (52 : Nat) "Bogsign" "notes" "[LBogsign$Notes;") ∈ lw_all := lw_g (lw_at lw_m2 18 rfl) rfl
theorem q330 : (Jvm.Cond.fieldLink "Bogsign" (56 : Nat) "Bogsign" "riderDays" "[I") ∈ lw_all := lw_g (lw_at lw_m2 19 rfl) rfl
theorem q331 : (Jvm.Cond.fieldLink "Bogsign" (63 : Nat) "Bogsign" "coming" "Ljava/util/TreeMap;") ∈ lw_all := lw_g (lw_at lw_m2 20 rfl) rfl
theorem q332 : (Jvm.Cond.fieldLink "Bogsign" (141 : Nat) "Bogsign" "day" "I") ∈ lw_all := lw_g (lw_at lw_m2 21 rfl) rfl
theorem q333 : (Jvm.Cond.fieldLink "Bogsign" (67 : Nat) "Bogsign" "limit" "I") ∈ lw_all := lw_g (lw_at lw_m2 22 rfl) rfl
theorem q334 : (Jvm.Cond.fieldLink "Bogsign" (325 : Nat) "Bogsign" "ordered" "I") ∈ lw_all := lw_g (lw_at lw_m2 23 rfl) rfl
theorem q335 : (Jvm.Cond.laysFinal "Bogsign" "Bogsign" "stretches" "[LBogsign$Stretch;") ∈ lw_all := lw_g (lw_at lw_m2 24 rfl) rfl
theorem q336 : (Jvm.Cond.soleField "Bogsign" "stretches") ∈ lw_all := lw_g (lw_at lw_m2 25 rfl) rfl
theorem q337 : (Jvm.Cond.laysFinal "Bogsign" "Bogsign" "boards" "Ljava/util/List;") ∈ lw_all := lw_g (lw_at lw_m2 26 rfl) rfl
theorem q338 : (Jvm.Cond.soleField "Bogsign" "boards") ∈ lw_all := lw_g (lw_at lw_m2 27 rfl) rfl
theorem q339 : (Jvm.Cond.laysFinal "Bogsign" "Bogsign" "depot" "Ljava/util/BitSet;") ∈ lw_all := lw_g (lw_at lw_m2 28 rfl) rfl
theorem q340 : (Jvm.Cond.soleField "Bogsign" "depot") ∈ lw_all := lw_g (lw_at lw_m2 29 rfl) rfl
theorem q341 : (Jvm.Cond.laysFinal "Bogsign" "Bogsign" "debts" "Ljava/util/ArrayDeque;") ∈ lw_all := lw_g (lw_at lw_m2 30 rfl) rfl
theorem q342 : (Jvm.Cond.soleField "Bogsign" "debts") ∈ lw_all := lw_g (lw_at lw_m2 31 rfl) rfl
theorem q343 : (Jvm.Cond.laysFinal "Bogsign" "Bogsign" "messages" "Ljava/util/List;") ∈ lw_all := lw_g (lw_at lw_m2 32 rfl) rfl
theorem q344 : (Jvm.Cond.soleField "Bogsign" "messages") ∈ lw_all := lw_g (lw_at lw_m2 33 rfl) rfl
theorem q345 : (Jvm.Cond.laysFinal "Bogsign" "Bogsign" "notes" "[LBogsign$Notes;") ∈ lw_all := lw_g (lw_at lw_m2 34 rfl) rfl
theorem q346 : (Jvm.Cond.soleField "Bogsign" "notes") ∈ lw_all := lw_g (lw_at lw_m2 35 rfl) rfl
theorem q347 : (Jvm.Cond.laysFinal "Bogsign" "Bogsign" "riderDays" "[I") ∈ lw_all := lw_g (lw_at lw_m2 36 rfl) rfl
theorem q348 : (Jvm.Cond.soleField "Bogsign" "riderDays") ∈ lw_all := lw_g (lw_at lw_m2 37 rfl) rfl
theorem q349 : (Jvm.Cond.laysFinal "Bogsign" "Bogsign" "coming" "Ljava/util/TreeMap;") ∈ lw_all := lw_g (lw_at lw_m2 38 rfl) rfl
theorem q350 : (Jvm.Cond.soleField "Bogsign" "coming") ∈ lw_all := lw_g (lw_at lw_m2 39 rfl) rfl
theorem q351 : (Jvm.Cond.lays "Bogsign" "Bogsign" "day" "I") ∈ lw_all := lw_g (lw_at lw_m2 40 rfl) rfl
theorem q352 : (Jvm.Cond.soleField "Bogsign" "day") ∈ lw_all := lw_g (lw_at lw_m2 41 rfl) rfl
theorem q353 : (Jvm.Cond.lays "Bogsign" "Bogsign" "limit" "I") ∈ lw_all := lw_g (lw_at lw_m2 42 rfl) rfl
theorem q354 : (Jvm.Cond.soleField "Bogsign" "limit") ∈ lw_all := lw_g (lw_at lw_m2 43 rfl) rfl
theorem q355 : (Jvm.Cond.lays "Bogsign" "Bogsign" "ordered" "I") ∈ lw_all := lw_g (lw_at lw_m2 44 rfl) rfl
theorem q356 : (Jvm.Cond.soleField "Bogsign" "ordered") ∈ lw_all := lw_g (lw_at lw_m2 45 rfl) rfl
theorem q357 : (Jvm.Cond.superclass "Bogsign" "java/lang/Object") ∈ lw_all := lw_g (lw_at lw_m2 46 rfl) rfl
theorem q359 : (Jvm.Cond.instanceMethod ({ cls := "Bogsign", name := "season", desc := "()I" } : Jvm.MethodName)) ∈ lw_all := lw_g (lw_at lw_m2 48 rfl) rfl
theorem q360 : (Jvm.Cond.selects "Bogsign" ({ cls := "Bogsign", name := "season", desc := "()I" } : Jvm.MethodName) ({ cls := "Bogsign", name := "season", desc := "()I" } : Jvm.MethodName)) ∈ lw_all := lw_g (lw_at lw_m2 49 rfl) rfl
theorem q361 : (Jvm.Cond.code ({ cls := "Bogsign", name := "season", desc := "()I" } : Jvm.MethodName) prog_1_method_20_code (1 : Nat) (Option.some Jvm.ClassFile.FieldType.int)) ∈ lw_all := lw_g (lw_at lw_m2 50 rfl) rfl
theorem q362 : (Jvm.Cond.methodLink "Bogsign" (316 : Nat) ({ cls := "Bogsign$Seasons", name := "of", desc := "(I)I" } : Jvm.MethodName)) ∈ lw_all := lw_g (lw_at lw_m2 51 rfl) rfl
theorem q366 : (Jvm.Cond.instanceMethod ({ cls := "Bogsign", name := "boardErrors", desc := "()I" } : Jvm.MethodName)) ∈ lw_all := lw_g (lw_at lw_m2 55 rfl) rfl
theorem q367 : (Jvm.Cond.selects "Bogsign" ({ cls := "Bogsign", name := "boardErrors", desc := "()I" } : Jvm.MethodName) ({ cls := "Bogsign", name := "boardErrors", desc := "()I" } : Jvm.MethodName)) ∈ lw_all := lw_g (lw_at lw_m2 56 rfl) rfl
theorem q368 : (Jvm.Cond.code ({ cls := "Bogsign", name := "boardErrors", desc := "()I" } : Jvm.MethodName) prog_1_method_47_code (7 : Nat) (Option.some Jvm.ClassFile.FieldType.int)) ∈ lw_all := lw_g (lw_at lw_m2 57 rfl) rfl
theorem q369 : (Jvm.Cond.interfaceEntry "Bogsign" (192 : Nat)) ∈ lw_tbl := lw_at lw_m2 58 rfl
theorem q370 : (Jvm.Cond.methodLink "Bogsign" (192 : Nat) ({ cls := "java/util/List", name := "iterator", desc := "()Ljava/util/Iterator;" } : Jvm.MethodName)) ∈ lw_all := lw_g (lw_at lw_m2 59 rfl) rfl
theorem q821 : (Jvm.Cond.interfaceEntry "Bogsign" (196 : Nat)) ∈ lw_tbl := lw_at lw_m4 30 rfl
theorem q822 : (Jvm.Cond.methodLink "Bogsign" (196 : Nat) ({ cls := "java/util/Iterator", name := "hasNext", desc := "()Z" } : Jvm.MethodName)) ∈ lw_all := lw_g (lw_at lw_m4 31 rfl) rfl
theorem q861 : (Jvm.Cond.interfaceEntry "Bogsign" (201 : Nat)) ∈ lw_tbl := lw_at lw_m4 70 rfl
theorem q862 : (Jvm.Cond.methodLink "Bogsign" (201 : Nat) ({ cls := "java/util/Iterator", name := "next", desc := "()Ljava/lang/Object;" } : Jvm.MethodName)) ∈ lw_all := lw_g (lw_at lw_m4 71 rfl) rfl
theorem q936 : (Jvm.Cond.selects "Bogsign" ({ cls := "java/lang/Object", name := "getClass", desc := "()Ljava/lang/Class;" } : Jvm.MethodName) ({ cls := "java/lang/Object", name := "getClass", desc := "()Ljava/lang/Class;" } : Jvm.MethodName)) ∈ lw_all := lw_g (lw_at lw_m4 145 rfl) rfl
theorem q1044 : (Jvm.Cond.classLink "Bogsign" (126 : Nat) "Bogsign$Board") ∈ lw_all := lw_g (lw_at lw_m5 13 rfl) rfl
theorem q1045 : (Jvm.Cond.methodLink "Bogsign" (450 : Nat) ({ cls := "Bogsign", name := "isWrong", desc := "(LBogsign$Board;)Z" } : Jvm.MethodName)) ∈ lw_all := lw_g (lw_at lw_m5 14 rfl) rfl
theorem q1046 : (Jvm.Cond.privateMethod ({ cls := "Bogsign", name := "isWrong", desc := "(LBogsign$Board;)Z" } : Jvm.MethodName)) ∈ lw_tbl := lw_at lw_m5 15 rfl
theorem q1047 : (Jvm.Cond.instanceMethod ({ cls := "Bogsign", name := "isWrong", desc := "(LBogsign$Board;)Z" } : Jvm.MethodName)) ∈ lw_all := lw_g (lw_at lw_m5 16 rfl) rfl
theorem q1048 : (Jvm.Cond.code ({ cls := "Bogsign", name := "isWrong", desc := "(LBogsign$Board;)Z" } : Jvm.MethodName) prog_1_method_46_code (3 : Nat) (Option.some Jvm.ClassFile.FieldType.boolean)) ∈ lw_all := lw_g (lw_at lw_m5 17 rfl) rfl
theorem q1049 : (Jvm.Cond.methodLink "Bogsign" (446 : Nat) ({ cls := "Bogsign$Stretch", name := "depthAgain", desc := "(LBogsign$Board;)I" } : Jvm.MethodName)) ∈ lw_all := lw_g (lw_at lw_m5 18 rfl) rfl
theorem q1078 : (Jvm.Cond.methodLink "Bogsign" (413 : Nat) ({ cls := "java/util/LinkedList", name := "size", desc := "()I" } : Jvm.MethodName)) ∈ lw_all := lw_g (lw_at lw_m5 47 rfl) rfl
theorem q1079 : (Jvm.Cond.methodLink "Bogsign" (162 : Nat) ({ cls := "java/util/BitSet", name := "cardinality", desc := "()I" } : Jvm.MethodName)) ∈ lw_all := lw_g (lw_at lw_m5 48 rfl) rfl
theorem q1089 : (Jvm.Cond.methodLink "Bogsign" (333 : Nat) ({ cls := "Bogsign", name := "boardsThat", desc := "(I)I" } : Jvm.MethodName)) ∈ lw_all := lw_g (lw_at lw_m5 58 rfl) rfl
theorem q1090 : (Jvm.Cond.privateMethod ({ cls := "Bogsign", name := "boardsThat", desc := "(I)I" } : Jvm.MethodName)) ∈ lw_tbl := lw_at lw_m5 59 rfl
theorem q1091 : (Jvm.Cond.instanceMethod ({ cls := "Bogsign", name := "boardsThat", desc := "(I)I" } : Jvm.MethodName)) ∈ lw_all := lw_g (lw_at lw_m5 60 rfl) rfl
theorem q1092 : (Jvm.Cond.code ({ cls := "Bogsign", name := "boardsThat", desc := "(I)I" } : Jvm.MethodName) prog_1_method_26_code (5 : Nat) (Option.some Jvm.ClassFile.FieldType.int)) ∈ lw_all := lw_g (lw_at lw_m5 61 rfl) rfl
theorem q1093 : (Jvm.Cond.interfaceEntry "Bogsign" (180 : Nat)) ∈ lw_tbl := lw_at lw_m5 62 rfl
theorem q1094 : (Jvm.Cond.methodLink "Bogsign" (180 : Nat) ({ cls := "java/util/List", name := "size", desc := "()I" } : Jvm.MethodName)) ∈ lw_all := lw_g (lw_at lw_m5 63 rfl) rfl
theorem q1096 : (Jvm.Cond.instanceMethod ({ cls := "Bogsign", name := "meanDepth", desc := "()D" } : Jvm.MethodName)) ∈ lw_all := lw_g (lw_at lw_m5 65 rfl) rfl
theorem q1097 : (Jvm.Cond.selects "Bogsign" ({ cls := "Bogsign", name := "meanDepth", desc := "()D" } : Jvm.MethodName) ({ cls := "Bogsign", name := "meanDepth", desc := "()D" } : Jvm.MethodName)) ∈ lw_all := lw_g (lw_at lw_m5 66 rfl) rfl
theorem q1098 : (Jvm.Cond.code ({ cls := "Bogsign", name := "meanDepth", desc := "()D" } : Jvm.MethodName) prog_1_method_48_code (9 : Nat) (Option.some Jvm.ClassFile.FieldType.double)) ∈ lw_all := lw_g (lw_at lw_m5 67 rfl) rfl
theorem q1099 : (Jvm.Cond.methodLink "Bogsign" (454 : Nat) ({ cls := "java/util/LinkedList", name := "iterator", desc := "()Ljava/util/Iterator;" } : Jvm.MethodName)) ∈ lw_all := lw_g (lw_at lw_m5 68 rfl) rfl
theorem q1104 : (Jvm.Cond.instanceMethod ({ cls := "Bogsign", name := "doubtedShare", desc := "()F" } : Jvm.MethodName)) ∈ lw_all := lw_g (lw_at lw_m5 73 rfl) rfl
theorem q1105 : (Jvm.Cond.selects "Bogsign" ({ cls := "Bogsign", name := "doubtedShare", desc := "()F" } : Jvm.MethodName) ({ cls := "Bogsign", name := "doubtedShare", desc := "()F" } : Jvm.MethodName)) ∈ lw_all := lw_g (lw_at lw_m5 74 rfl) rfl
theorem q1106 : (Jvm.Cond.code ({ cls := "Bogsign", name := "doubtedShare", desc := "()F" } : Jvm.MethodName) prog_1_method_49_code (3 : Nat) (Option.some Jvm.ClassFile.FieldType.float)) ∈ lw_all := lw_g (lw_at lw_m5 75 rfl) rfl
theorem q1107 : (Jvm.Cond.methodLink "Bogsign" (420 : Nat) ({ cls := "Bogsign", name := "isDoubted", desc := "(LBogsign$Stretch;)Z" } : Jvm.MethodName)) ∈ lw_all := lw_g (lw_at lw_m5 76 rfl) rfl
theorem q1108 : (Jvm.Cond.privateMethod ({ cls := "Bogsign", name := "isDoubted", desc := "(LBogsign$Stretch;)Z" } : Jvm.MethodName)) ∈ lw_tbl := lw_at lw_m5 77 rfl
theorem q1109 : (Jvm.Cond.instanceMethod ({ cls := "Bogsign", name := "isDoubted", desc := "(LBogsign$Stretch;)Z" } : Jvm.MethodName)) ∈ lw_all := lw_g (lw_at lw_m5 78 rfl) rfl
theorem q1110 : (Jvm.Cond.code ({ cls := "Bogsign", name := "isDoubted", desc := "(LBogsign$Stretch;)Z" } : Jvm.MethodName) prog_1_method_40_code (2 : Nat) (Option.some Jvm.ClassFile.FieldType.boolean)) ∈ lw_all := lw_g (lw_at lw_m5 79 rfl) rfl
theorem q1111 : (Jvm.Cond.methodLink "Bogsign" (406 : Nat) ({ cls := "Bogsign", name := "guess", desc := "(LBogsign$Stretch;)I" } : Jvm.MethodName)) ∈ lw_all := lw_g (lw_at lw_m5 80 rfl) rfl
theorem q1112 : (Jvm.Cond.privateMethod ({ cls := "Bogsign", name := "guess", desc := "(LBogsign$Stretch;)I" } : Jvm.MethodName)) ∈ lw_tbl := lw_at lw_m5 81 rfl
theorem q1113 : (Jvm.Cond.instanceMethod ({ cls := "Bogsign", name := "guess", desc := "(LBogsign$Stretch;)I" } : Jvm.MethodName)) ∈ lw_all := lw_g (lw_at lw_m5 82 rfl) rfl
theorem q1114 : (Jvm.Cond.code ({ cls := "Bogsign", name := "guess", desc := "(LBogsign$Stretch;)I" } : Jvm.MethodName) prog_1_method_39_code (2 : Nat) (Option.some Jvm.ClassFile.FieldType.int)) ∈ lw_all := lw_g (lw_at lw_m5 83 rfl) rfl
theorem q1115 : (Jvm.Cond.methodLink "Bogsign" (401 : Nat) ({ cls := "java/util/Optional", name := "isPresent", desc := "()Z" } : Jvm.MethodName)) ∈ lw_all := lw_g (lw_at lw_m5 84 rfl) rfl
theorem q1119 : (Jvm.Cond.methodLink "Bogsign" (404 : Nat) ({ cls := "java/util/Optional", name := "get", desc := "()Ljava/lang/Object;" } : Jvm.MethodName)) ∈ lw_all := lw_g (lw_at lw_m5 88 rfl) rfl
theorem q1129 : (Jvm.Cond.classLink "Bogsign" (213 : Nat) "Bogsign$Message") ∈ lw_all := lw_g (lw_at lw_m5 98 rfl) rfl
theorem q1130 : (Jvm.Cond.methodLink "Bogsign" (390 : Nat) ({ cls := "Bogsign", name := "meant", desc := "(II)I" } : Jvm.MethodName)) ∈ lw_all := lw_g (lw_at lw_m5 99 rfl) rfl
theorem q1131 : (Jvm.Cond.privateMethod ({ cls := "Bogsign", name := "meant", desc := "(II)I" } : Jvm.MethodName)) ∈ lw_tbl := lw_at lw_m5 100 rfl
theorem q1132 : (Jvm.Cond.instanceMethod ({ cls := "Bogsign", name := "meant", desc := "(II)I" } : Jvm.MethodName)) ∈ lw_all := lw_g (lw_at lw_m5 101 rfl) rfl
theorem q1133 : (Jvm.Cond.code ({ cls := "Bogsign", name := "meant", desc := "(II)I" } : Jvm.MethodName) prog_1_method_36_code (3 : Nat) (Option.some Jvm.ClassFile.FieldType.int)) ∈ lw_all := lw_g (lw_at lw_m5 102 rfl) rfl
theorem q1134 : (Jvm.Cond.methodLink "Bogsign" (377 : Nat) ({ cls := "Bogsign", name := "notesOf", desc := "(II)LBogsign$Notes;" } : Jvm.MethodName)) ∈ lw_all := lw_g (lw_at lw_m5 103 rfl) rfl
theorem q1135 : (Jvm.Cond.privateMethod ({ cls := "Bogsign", name := "notesOf", desc := "(II)LBogsign$Notes;" } : Jvm.MethodName)) ∈ lw_tbl := lw_at lw_m5 104 rfl
theorem q1136 : (Jvm.Cond.instanceMethod ({ cls := "Bogsign", name := "notesOf", desc := "(II)LBogsign$Notes;" } : Jvm.MethodName)) ∈ lw_all := lw_g (lw_at lw_m5 105 rfl) rfl
theorem q1137 : (Jvm.Cond.code ({ cls := "Bogsign", name := "notesOf", desc := "(II)LBogsign$Notes;" } : Jvm.MethodName) prog_1_method_35_code (3 : Nat) (Option.some (Jvm.ClassFile.FieldType.object "Bogsign$Notes"))) ∈ lw_all := lw_g (lw_at lw_m5 106 rfl) rfl
theorem q1138 : (Jvm.Cond.methodLink "Bogsign" (381 : Nat) ({ cls := "Bogsign$Words", name := "text", desc := "(I)Ljava/lang/String;" } : Jvm.MethodName)) ∈ lw_all := lw_g (lw_at lw_m5 107 rfl) rfl
theorem q1170 : (Jvm.Cond.methodLink "Bogsign" (384 : Nat) ({ cls := "Bogsign$Words", name := "plain", desc := "(Ljava/lang/String;)I" } : Jvm.MethodName)) ∈ lw_all := lw_g (lw_at lw_m5 139 rfl) rfl
theorem q1241 : (Jvm.Cond.methodLink "Bogsign" (387 : Nat) ({ cls := "Bogsign$Notes", name := "mean", desc := "(I)I" } : Jvm.MethodName)) ∈ lw_all := lw_g (lw_at lw_m5 210 rfl) rfl
theorem q1245 : (Jvm.Cond.constantFloat "Bogsign" (455 : Nat) (1086324736 : UInt32)) ∈ lw_all := lw_g (lw_at lw_m5 214 rfl) rfl
theorem q1252 : (Jvm.Cond.instanceMethod ({ cls := "Bogsign", name := "pass", desc := "(I)I" } : Jvm.MethodName)) ∈ lw_all := lw_g (lw_at lw_m5 221 rfl) rfl
theorem q1253 : (Jvm.Cond.selects "Bogsign" ({ cls := "Bogsign", name := "pass", desc := "(I)I" } : Jvm.MethodName) ({ cls := "Bogsign", name := "pass", desc := "(I)I" } : Jvm.MethodName)) ∈ lw_all := lw_g (lw_at lw_m5 222 rfl) rfl
theorem q1254 : (Jvm.Cond.code ({ cls := "Bogsign", name := "pass", desc := "(I)I" } : Jvm.MethodName) prog_1_method_19_code (3 : Nat) (Option.some Jvm.ClassFile.FieldType.int)) ∈ lw_all := lw_g (lw_at lw_m5 223 rfl) rfl
theorem q1255 : (Jvm.Cond.methodLink "Bogsign" (73 : Nat) ({ cls := "Bogsign", name := "isIn", desc := "(III)Z" } : Jvm.MethodName)) ∈ lw_all := lw_g (lw_at lw_m5 224 rfl) rfl
theorem q1256 : (Jvm.Cond.static ({ cls := "Bogsign", name := "isIn", desc := "(III)Z" } : Jvm.MethodName)) ∈ lw_all := lw_g (lw_at lw_m5 225 rfl) rfl
theorem q1257 : (Jvm.Cond.code ({ cls := "Bogsign", name := "isIn", desc := "(III)Z" } : Jvm.MethodName) prog_1_method_1_code (3 : Nat) (Option.some Jvm.ClassFile.FieldType.boolean)) ∈ lw_all := lw_g (lw_at lw_m5 226 rfl) rfl
theorem q1258 : (Jvm.Cond.methodLink "Bogsign" (81 : Nat) ({ cls := "Bogsign", name := "requireArgument", desc := "(Z)V" } : Jvm.MethodName)) ∈ lw_all := lw_g (lw_at lw_m5 227 rfl) rfl
theorem q1259 : (Jvm.Cond.static ({ cls := "Bogsign", name := "requireArgument", desc := "(Z)V" } : Jvm.MethodName)) ∈ lw_all := lw_g (lw_at lw_m5 228 rfl) rfl
theorem q1260 : (Jvm.Cond.code ({ cls := "Bogsign", name := "requireArgument", desc := "(Z)V" } : Jvm.MethodName) prog_1_method_3_code (1 : Nat) (Option.none : Option Jvm.ClassFile.FieldType)) ∈ lw_all := lw_g (lw_at lw_m5 229 rfl) rfl
theorem q1261 : (Jvm.Cond.classLink "Bogsign" (7 : Nat) "java/lang/IllegalArgumentException") ∈ lw_all := lw_g (lw_at lw_m5 230 rfl) rfl
theorem q1262 : (Jvm.Cond.methodLink "Bogsign" (9 : Nat) ({ cls := "java/lang/IllegalArgumentException", name := "<init>", desc := "()V" } : Jvm.MethodName)) ∈ lw_all := lw_g (lw_at lw_m5 231 rfl) rfl
theorem q1266 : (Jvm.Cond.methodLink "Bogsign" (310 : Nat) ({ cls := "Bogsign", name := "requireState", desc := "(Z)V" } : Jvm.MethodName)) ∈ lw_all := lw_g (lw_at lw_m5 235 rfl) rfl
theorem q1267 : (Jvm.Cond.static ({ cls := "Bogsign", name := "requireState", desc := "(Z)V" } : Jvm.MethodName)) ∈ lw_all := lw_g (lw_at lw_m5 236 rfl) rfl
theorem q1268 : (Jvm.Cond.code ({ cls := "Bogsign", name := "requireState", desc := "(Z)V" } : Jvm.MethodName) prog_1_method_4_code (1 : Nat) (Option.none : Option Jvm.ClassFile.FieldType)) ∈ lw_all := lw_g (lw_at lw_m5 237 rfl) rfl
theorem q1269 : (Jvm.Cond.classLink "Bogsign" (10 : Nat) "java/lang/IllegalStateException") ∈ lw_all := lw_g (lw_at lw_m5 238 rfl) rfl
theorem q1278 : (Jvm.Cond.methodLink "Bogsign" (12 : Nat) ({ cls := "java/lang/IllegalStateException", name := "<init>", desc := "()V" } : Jvm.MethodName)) ∈ lw_all := lw_g (lw_at lw_m6 7 rfl) rfl
theorem q1284 : (Jvm.Cond.methodLink "Bogsign" (313 : Nat) ({ cls := "Bogsign", name := "goesDay", desc := "()V" } : Jvm.MethodName)) ∈ lw_all := lw_g (lw_at lw_m6 13 rfl) rfl
theorem q1285 : (Jvm.Cond.privateMethod ({ cls := "Bogsign", name := "goesDay", desc := "()V" } : Jvm.MethodName)) ∈ lw_tbl := lw_at lw_m6 14 rfl
theorem q1286 : (Jvm.Cond.instanceMethod ({ cls := "Bogsign", name := "goesDay", desc := "()V" } : Jvm.MethodName)) ∈ lw_all := lw_g (lw_at lw_m6 15 rfl) rfl
theorem q1287 : (Jvm.Cond.code ({ cls := "Bogsign", name := "goesDay", desc := "()V" } : Jvm.MethodName) prog_1_method_18_code (2 : Nat) (Option.none : Option Jvm.ClassFile.FieldType)) ∈ lw_all := lw_g (lw_at lw_m6 16 rfl) rfl
theorem q1288 : (Jvm.Cond.methodLink "Bogsign" (84 : Nat) ({ cls := "java/lang/Integer", name := "valueOf", desc := "(I)Ljava/lang/Integer;" } : Jvm.MethodName)) ∈ lw_all := lw_g (lw_at lw_m6 17 rfl) rfl
theorem q1308 : (Jvm.Cond.methodLink "Bogsign" (296 : Nat) ({ cls := "java/util/TreeMap", name := "remove", desc := "(Ljava/lang/Object;)Ljava/lang/Object;" } : Jvm.MethodName)) ∈ lw_all := lw_g (lw_at lw_m6 37 rfl) rfl
theorem q1557 : (Jvm.Cond.classLink "Bogsign" (94 : Nat) "java/util/LinkedList") ∈ lw_all := lw_g (lw_at lw_m7 46 rfl) rfl
theorem q1558 : (Jvm.Cond.methodLink "Bogsign" (299 : Nat) ({ cls := "java/util/LinkedList", name := "isEmpty", desc := "()Z" } : Jvm.MethodName)) ∈ lw_all := lw_g (lw_at lw_m7 47 rfl) rfl
theorem q1570 : (Jvm.Cond.methodLink "Bogsign" (300 : Nat) ({ cls := "java/util/LinkedList", name := "pollFirst", desc := "()Ljava/lang/Object;" } : Jvm.MethodName)) ∈ lw_all := lw_g (lw_at lw_m7 59 rfl) rfl
theorem q1578 : (Jvm.Cond.classLink "Bogsign" (301 : Nat) "Bogsign$Coming") ∈ lw_all := lw_g (lw_at lw_m7 67 rfl) rfl
theorem q1579 : (Jvm.Cond.methodLink "Bogsign" (303 : Nat) ({ cls := "Bogsign", name := "comes", desc := "(LBogsign$Coming;)V" } : Jvm.MethodName)) ∈ lw_all := lw_g (lw_at lw_m7 68 rfl) rfl
theorem q1580 : (Jvm.Cond.privateMethod ({ cls := "Bogsign", name := "comes", desc := "(LBogsign$Coming;)V" } : Jvm.MethodName)) ∈ lw_tbl := lw_at lw_m7 69 rfl
theorem q1581 : (Jvm.Cond.instanceMethod ({ cls := "Bogsign", name := "comes", desc := "(LBogsign$Coming;)V" } : Jvm.MethodName)) ∈ lw_all := lw_g (lw_at lw_m7 70 rfl) rfl
theorem q1582 : (Jvm.Cond.code ({ cls := "Bogsign", name := "comes", desc := "(LBogsign$Coming;)V" } : Jvm.MethodName) prog_1_method_15_code (5 : Nat) (Option.none : Option Jvm.ClassFile.FieldType)) ∈ lw_all := lw_g (lw_at lw_m7 71 rfl) rfl
theorem q1583 : (Jvm.Cond.classLink "Bogsign" (251 : Nat) "Bogsign$CutBoards") ∈ lw_all := lw_g (lw_at lw_m7 72 rfl) rfl
theorem q1584 : (Jvm.Cond.methodLink "Bogsign" (254 : Nat) ({ cls := "Bogsign", name := "cutCome", desc := "(I)V" } : Jvm.MethodName)) ∈ lw_all := lw_g (lw_at lw_m7 73 rfl) rfl
theorem q1585 : (Jvm.Cond.privateMethod ({ cls := "Bogsign", name := "cutCome", desc := "(I)V" } : Jvm.MethodName)) ∈ lw_tbl := lw_at lw_m7 74 rfl
theorem q1586 : (Jvm.Cond.instanceMethod ({ cls := "Bogsign", name := "cutCome", desc := "(I)V" } : Jvm.MethodName)) ∈ lw_all := lw_g (lw_at lw_m7 75 rfl) rfl
theorem q1587 : (Jvm.Cond.code ({ cls := "Bogsign", name := "cutCome", desc := "(I)V" } : Jvm.MethodName) prog_1_method_12_code (3 : Nat) (Option.none : Option Jvm.ClassFile.FieldType)) ∈ lw_all := lw_g (lw_at lw_m7 76 rfl) rfl
theorem q1588 : (Jvm.Cond.methodLink "Bogsign" (183 : Nat) ({ cls := "java/util/BitSet", name := "set", desc := "(I)V" } : Jvm.MethodName)) ∈ lw_all := lw_g (lw_at lw_m7 77 rfl) rfl
theorem q1624 : (Jvm.Cond.methodLink "Bogsign" (186 : Nat) ({ cls := "Bogsign$Board", name := "<init>", desc := "(II)V" } : Jvm.MethodName)) ∈ lw_all := lw_g (lw_at lw_m7 113 rfl) rfl
theorem q1630 : (Jvm.Cond.fieldLinkNest "Bogsign" (294 : Nat) "Bogsign$Board" "number" "I" "Bogsign") ∈ lw_tbl := lw_at lw_m7 119 rfl
theorem q1632 : (Jvm.Cond.fieldLinkNest "Bogsign" (283 : Nat) "Bogsign$Board" "season" "I" "Bogsign") ∈ lw_tbl := lw_at lw_m7 121 rfl
theorem q1634 : (Jvm.Cond.fieldLinkNest "Bogsign" (280 : Nat) "Bogsign$Board" "came" "I" "Bogsign") ∈ lw_tbl := lw_at lw_m7 123 rfl
theorem q1637 : (Jvm.Cond.fieldLinkNest "Bogsign" (128 : Nat) "Bogsign$Board" "where" "I" "Bogsign") ∈ lw_tbl := lw_at lw_m7 126 rfl
theorem q1639 : (Jvm.Cond.fieldLinkNest "Bogsign" (134 : Nat) "Bogsign$Board" "stretch" "I" "Bogsign") ∈ lw_tbl := lw_at lw_m7 128 rfl
theorem q1641 : (Jvm.Cond.fieldLinkNest "Bogsign" (336 : Nat) "Bogsign$Board" "depth" "I" "Bogsign") ∈ lw_tbl := lw_at lw_m7 130 rfl
theorem q1645 : (Jvm.Cond.fieldLinkNest "Bogsign" (444 : Nat) "Bogsign$Board" "to" "I" "Bogsign") ∈ lw_tbl := lw_at lw_m7 134 rfl
theorem q1663 : (Jvm.Cond.interfaceEntry "Bogsign" (138 : Nat)) ∈ lw_tbl := lw_at lw_m7 152 rfl
theorem q1664 : (Jvm.Cond.methodLink "Bogsign" (138 : Nat) ({ cls := "java/util/List", name := "add", desc := "(Ljava/lang/Object;)Z" } : Jvm.MethodName)) ∈ lw_all := lw_g (lw_at lw_m7 153 rfl) rfl
theorem q1726 : (Jvm.Cond.methodLink "Bogsign" (189 : Nat) ({ cls := "Bogsign", name := "serves", desc := "()V" } : Jvm.MethodName)) ∈ lw_all := lw_g (lw_at lw_m7 215 rfl) rfl
theorem q1727 : (Jvm.Cond.privateMethod ({ cls := "Bogsign", name := "serves", desc := "()V" } : Jvm.MethodName)) ∈ lw_tbl := lw_at lw_m7 216 rfl
theorem q1728 : (Jvm.Cond.instanceMethod ({ cls := "Bogsign", name := "serves", desc := "()V" } : Jvm.MethodName)) ∈ lw_all := lw_g (lw_at lw_m7 217 rfl) rfl
theorem q1729 : (Jvm.Cond.code ({ cls := "Bogsign", name := "serves", desc := "()V" } : Jvm.MethodName) prog_1_method_11_code (4 : Nat) (Option.none : Option Jvm.ClassFile.FieldType)) ∈ lw_all := lw_g (lw_at lw_m7 218 rfl) rfl
theorem q1730 : (Jvm.Cond.methodLink "Bogsign" (148 : Nat) ({ cls := "java/util/ArrayDeque", name := "isEmpty", desc := "()Z" } : Jvm.MethodName)) ∈ lw_all := lw_g (lw_at lw_m7 219 rfl) rfl
theorem q1734 : (Jvm.Cond.methodLink "Bogsign" (152 : Nat) ({ cls := "java/util/BitSet", name := "isEmpty", desc := "()Z" } : Jvm.MethodName)) ∈ lw_all := lw_g (lw_at lw_m7 223 rfl) rfl
theorem q1738 : (Jvm.Cond.methodLink "Bogsign" (153 : Nat) ({ cls := "java/util/ArrayDeque", name := "peekFirst", desc := "()Ljava/lang/Object;" } : Jvm.MethodName)) ∈ lw_all := lw_g (lw_at lw_m7 227 rfl) rfl
theorem q1745 : (Jvm.Cond.classLink "Bogsign" (157 : Nat) "Bogsign$Debt") ∈ lw_all := lw_g (lw_at lw_m7 234 rfl) rfl
theorem q1746 : (Jvm.Cond.methodLink "Bogsign" (166 : Nat) ({ cls := "java/lang/Math", name := "min", desc := "(II)I" } : Jvm.MethodName)) ∈ lw_all := lw_g (lw_at lw_m7 235 rfl) rfl
theorem q1747 : (Jvm.Cond.methodLink "Bogsign" (173 : Nat) ({ cls := "Bogsign", name := "sends", desc := "(LBogsign$Stretch;I)I" } : Jvm.MethodName)) ∈ lw_all := lw_g (lw_at lw_m7 236 rfl) rfl
theorem q1748 : (Jvm.Cond.privateMethod ({ cls := "Bogsign", name := "sends", desc := "(LBogsign$Stretch;I)I" } : Jvm.MethodName)) ∈ lw_tbl := lw_at lw_m7 237 rfl
theorem q1749 : (Jvm.Cond.instanceMethod ({ cls := "Bogsign", name := "sends", desc := "(LBogsign$Stretch;I)I" } : Jvm.MethodName)) ∈ lw_all := lw_g (lw_at lw_m7 238 rfl) rfl
theorem q1750 : (Jvm.Cond.code ({ cls := "Bogsign", name := "sends", desc := "(LBogsign$Stretch;I)I" } : Jvm.MethodName) prog_1_method_10_code (7 : Nat) (Option.some Jvm.ClassFile.FieldType.int)) ∈ lw_all := lw_g (lw_at lw_m7 239 rfl) rfl
theorem q1751 : (Jvm.Cond.classLink "Bogsign" (109 : Nat) "Bogsign$SentBoards") ∈ lw_all := lw_g (lw_at lw_m8 0 rfl) rfl
theorem q1753 : (Jvm.Cond.methodLink "Bogsign" (111 : Nat) ({ cls := "Bogsign$SentBoards", name := "<init>", desc := "(LBogsign$Stretch;)V" } : Jvm.MethodName)) ∈ lw_all := lw_g (lw_at lw_m8 2 rfl) rfl
theorem q1760 : (Jvm.Cond.fieldLinkNest "Bogsign" (137 : Nat) "Bogsign$SentBoards" "boards" "Ljava/util/List;" "Bogsign") ∈ lw_tbl := lw_at lw_m8 9 rfl
theorem q1762 : (Jvm.Cond.fieldLinkNest "Bogsign" (204 : Nat) "Bogsign$SentBoards" "to" "LBogsign$Stretch;" "Bogsign") ∈ lw_tbl := lw_at lw_m8 11 rfl
theorem q1768 : (Jvm.Cond.methodLink "Bogsign" (114 : Nat) ({ cls := "java/util/BitSet", name := "nextSetBit", desc := "(I)I" } : Jvm.MethodName)) ∈ lw_all := lw_g (lw_at lw_m8 17 rfl) rfl
theorem q1775 : (Jvm.Cond.methodLink "Bogsign" (118 : Nat) ({ cls := "java/util/BitSet", name := "clear", desc := "(I)V" } : Jvm.MethodName)) ∈ lw_all := lw_g (lw_at lw_m8 24 rfl) rfl
theorem q1783 : (Jvm.Cond.interfaceEntry "Bogsign" (121 : Nat)) ∈ lw_tbl := lw_at lw_m8 32 rfl
theorem q1784 : (Jvm.Cond.methodLink "Bogsign" (121 : Nat) ({ cls := "java/util/List", name := "get", desc := "(I)Ljava/lang/Object;" } : Jvm.MethodName)) ∈ lw_all := lw_g (lw_at lw_m8 33 rfl) rfl
theorem q1785 : (Jvm.Cond.methodLink "Bogsign" (144 : Nat) ({ cls := "Bogsign", name := "willCome", desc := "(ILBogsign$Coming;)V" } : Jvm.MethodName)) ∈ lw_all := lw_g (lw_at lw_m8 34 rfl) rfl
theorem q1786 : (Jvm.Cond.privateMethod ({ cls := "Bogsign", name := "willCome", desc := "(ILBogsign$Coming;)V" } : Jvm.MethodName)) ∈ lw_tbl := lw_at lw_m8 35 rfl
theorem q1787 : (Jvm.Cond.instanceMethod ({ cls := "Bogsign", name := "willCome", desc := "(ILBogsign$Coming;)V" } : Jvm.MethodName)) ∈ lw_all := lw_g (lw_at lw_m8 36 rfl) rfl
theorem q1788 : (Jvm.Cond.code ({ cls := "Bogsign", name := "willCome", desc := "(ILBogsign$Coming;)V" } : Jvm.MethodName) prog_1_method_9_code (3 : Nat) (Option.none : Option Jvm.ClassFile.FieldType)) ∈ lw_all := lw_g (lw_at lw_m8 37 rfl) rfl
theorem q1789 : (Jvm.Cond.methodLink "Bogsign" (90 : Nat) ({ cls := "java/util/TreeMap", name := "containsKey", desc := "(Ljava/lang/Object;)Z" } : Jvm.MethodName)) ∈ lw_all := lw_g (lw_at lw_m8 38 rfl) rfl
theorem q1793 : (Jvm.Cond.methodLink "Bogsign" (96 : Nat) ({ cls := "java/util/LinkedList", name := "<init>", desc := "()V" } : Jvm.MethodName)) ∈ lw_all := lw_g (lw_at lw_m8 42 rfl) rfl
theorem q1794 : (Jvm.Cond.methodLink "Bogsign" (97 : Nat) ({ cls := "java/util/TreeMap", name := "put", desc := "(Ljava/lang/Object;Ljava/lang/Object;)Ljava/lang/Object;" } : Jvm.MethodName)) ∈ lw_all := lw_g (lw_at lw_m8 43 rfl) rfl
theorem q1847 : (Jvm.Cond.methodLink "Bogsign" (101 : Nat) ({ cls := "java/util/TreeMap", name := "get", desc := "(Ljava/lang/Object;)Ljava/lang/Object;" } : Jvm.MethodName)) ∈ lw_all := lw_g (lw_at lw_m8 96 rfl) rfl
theorem q1851 : (Jvm.Cond.methodLink "Bogsign" (105 : Nat) ({ cls := "java/util/LinkedList", name := "addLast", desc := "(Ljava/lang/Object;)V" } : Jvm.MethodName)) ∈ lw_all := lw_g (lw_at lw_m8 100 rfl) rfl
theorem q1855 : (Jvm.Cond.methodLink "Bogsign" (177 : Nat) ({ cls := "java/util/ArrayDeque", name := "pollFirst", desc := "()Ljava/lang/Object;" } : Jvm.MethodName)) ∈ lw_all := lw_g (lw_at lw_m8 104 rfl) rfl
theorem q1860 : (Jvm.Cond.methodLink "Bogsign" (257 : Nat) ({ cls := "Bogsign", name := "laysAll", desc := "(LBogsign$SentBoards;)V" } : Jvm.MethodName)) ∈ lw_all := lw_g (lw_at lw_m8 109 rfl) rfl
theorem q1861 : (Jvm.Cond.static ({ cls := "Bogsign", name := "laysAll", desc := "(LBogsign$SentBoards;)V" } : Jvm.MethodName)) ∈ lw_all := lw_g (lw_at lw_m8 110 rfl) rfl
theorem q1862 : (Jvm.Cond.code ({ cls := "Bogsign", name := "laysAll", desc := "(LBogsign$SentBoards;)V" } : Jvm.MethodName) prog_1_method_13_code (3 : Nat) (Option.none : Option Jvm.ClassFile.FieldType)) ∈ lw_all := lw_g (lw_at lw_m8 111 rfl) rfl
theorem q1863 : (Jvm.Cond.methodLink "Bogsign" (208 : Nat) ({ cls := "Bogsign$Stretch", name := "lays", desc := "(LBogsign$Board;)V" } : Jvm.MethodName)) ∈ lw_all := lw_g (lw_at lw_m8 112 rfl) rfl
theorem q1868 : (Jvm.Cond.classLink "Bogsign" (261 : Nat) "Bogsign$Carried") ∈ lw_all := lw_g (lw_at lw_m8 117 rfl) rfl
theorem q1869 : (Jvm.Cond.methodLink "Bogsign" (267 : Nat) ({ cls := "Bogsign", name := "arrives", desc := "(LBogsign$Message;)V" } : Jvm.MethodName)) ∈ lw_all := lw_g (lw_at lw_m8 118 rfl) rfl
theorem q1870 : (Jvm.Cond.privateMethod ({ cls := "Bogsign", name := "arrives", desc := "(LBogsign$Message;)V" } : Jvm.MethodName)) ∈ lw_tbl := lw_at lw_m8 119 rfl
theorem q1871 : (Jvm.Cond.instanceMethod ({ cls := "Bogsign", name := "arrives", desc := "(LBogsign$Message;)V" } : Jvm.MethodName)) ∈ lw_all := lw_g (lw_at lw_m8 120 rfl) rfl
theorem q1872 : (Jvm.Cond.code ({ cls := "Bogsign", name := "arrives", desc := "(LBogsign$Message;)V" } : Jvm.MethodName) prog_1_method_14_code (5 : Nat) (Option.none : Option Jvm.ClassFile.FieldType)) ∈ lw_all := lw_g (lw_at lw_m8 121 rfl) rfl
theorem q1873 : (Jvm.Cond.methodLink "Bogsign" (218 : Nat) ({ cls := "Bogsign$Message", name := "toString", desc := "()Ljava/lang/String;" } : Jvm.MethodName)) ∈ lw_all := lw_g (lw_at lw_m8 122 rfl) rfl
theorem q1908 : (Jvm.Cond.methodLink "Bogsign" (227 : Nat) ({ cls := "java/util/Optional", name := "of", desc := "(Ljava/lang/Object;)Ljava/util/Optional;" } : Jvm.MethodName)) ∈ lw_all := lw_g (lw_at lw_m8 157 rfl) rfl
theorem q1922 : (Jvm.Cond.methodLink "Bogsign" (240 : Nat) ({ cls := "Bogsign$Message", name := "text", desc := "()Ljava/lang/String;" } : Jvm.MethodName)) ∈ lw_all := lw_g (lw_at lw_m8 171 rfl) rfl
theorem q1923 : (Jvm.Cond.methodLink "Bogsign" (243 : Nat) ({ cls := "Bogsign$Words", name := "asked", desc := "(Ljava/lang/String;)I" } : Jvm.MethodName)) ∈ lw_all := lw_g (lw_at lw_m8 172 rfl) rfl
theorem q1927 : (Jvm.Cond.methodLink "Bogsign" (249 : Nat) ({ cls := "Bogsign$Debt", name := "<init>", desc := "(II)V" } : Jvm.MethodName)) ∈ lw_all := lw_g (lw_at lw_m8 176 rfl) rfl
theorem q1932 : (Jvm.Cond.fieldLinkNest "Bogsign" (172 : Nat) "Bogsign$Debt" "stretch" "I" "Bogsign") ∈ lw_tbl := lw_at lw_m8 181 rfl
theorem q1934 : (Jvm.Cond.fieldLinkNest "Bogsign" (159 : Nat) "Bogsign$Debt" "many" "I" "Bogsign") ∈ lw_tbl := lw_at lw_m8 183 rfl
theorem q1940 : (Jvm.Cond.methodLink "Bogsign" (250 : Nat) ({ cls := "java/util/ArrayDeque", name := "addLast", desc := "(Ljava/lang/Object;)V" } : Jvm.MethodName)) ∈ lw_all := lw_g (lw_at lw_m8 189 rfl) rfl
theorem q1962 : (Jvm.Cond.methodLink "Bogsign" (307 : Nat) ({ cls := "Bogsign", name := "endsWeek", desc := "()V" } : Jvm.MethodName)) ∈ lw_all := lw_g (lw_at lw_m8 211 rfl) rfl
theorem q1963 : (Jvm.Cond.privateMethod ({ cls := "Bogsign", name := "endsWeek", desc := "()V" } : Jvm.MethodName)) ∈ lw_tbl := lw_at lw_m8 212 rfl
theorem q1964 : (Jvm.Cond.instanceMethod ({ cls := "Bogsign", name := "endsWeek", desc := "()V" } : Jvm.MethodName)) ∈ lw_all := lw_g (lw_at lw_m8 213 rfl) rfl
theorem q1965 : (Jvm.Cond.code ({ cls := "Bogsign", name := "endsWeek", desc := "()V" } : Jvm.MethodName) prog_1_method_16_code (5 : Nat) (Option.none : Option Jvm.ClassFile.FieldType)) ∈ lw_all := lw_g (lw_at lw_m8 214 rfl) rfl
theorem q1966 : (Jvm.Cond.methodLink "Bogsign" (274 : Nat) ({ cls := "Bogsign$Stretch", name := "presses", desc := "(I)V" } : Jvm.MethodName)) ∈ lw_all := lw_g (lw_at lw_m8 215 rfl) rfl
theorem q1990 : (Jvm.Cond.methodLink "Bogsign" (277 : Nat) ({ cls := "Bogsign$Board", name := "canRot", desc := "()Z" } : Jvm.MethodName)) ∈ lw_all := lw_g (lw_at lw_m8 239 rfl) rfl
theorem q1994 : (Jvm.Cond.methodLink "Bogsign" (286 : Nat) ({ cls := "Bogsign$Seasons", name := "goodFor", desc := "(I)I" } : Jvm.MethodName)) ∈ lw_all := lw_g (lw_at lw_m9 3 rfl) rfl
theorem q1997 : (Jvm.Cond.methodLink "Bogsign" (291 : Nat) ({ cls := "Bogsign", name := "rots", desc := "(LBogsign$Board;)V" } : Jvm.MethodName)) ∈ lw_all := lw_g (lw_at lw_m9 6 rfl) rfl
theorem q1998 : (Jvm.Cond.privateMethod ({ cls := "Bogsign", name := "rots", desc := "(LBogsign$Board;)V" } : Jvm.MethodName)) ∈ lw_tbl := lw_at lw_m9 7 rfl
theorem q1999 : (Jvm.Cond.instanceMethod ({ cls := "Bogsign", name := "rots", desc := "(LBogsign$Board;)V" } : Jvm.MethodName)) ∈ lw_all := lw_g (lw_at lw_m9 8 rfl) rfl
theorem q2000 : (Jvm.Cond.code ({ cls := "Bogsign", name := "rots", desc := "(LBogsign$Board;)V" } : Jvm.MethodName) prog_1_method_17_code (2 : Nat) (Option.none : Option Jvm.ClassFile.FieldType)) ∈ lw_all := lw_g (lw_at lw_m9 9 rfl) rfl
theorem q2001 : (Jvm.Cond.methodLink "Bogsign" (295 : Nat) ({ cls := "Bogsign$Stretch", name := "rots", desc := "(LBogsign$Board;)V" } : Jvm.MethodName)) ∈ lw_all := lw_g (lw_at lw_m9 10 rfl) rfl
theorem q2017 : (Jvm.Cond.selects "Bogsign" ({ cls := "java/lang/Object", name := "equals", desc := "(Ljava/lang/Object;)Z" } : Jvm.MethodName) ({ cls := "java/lang/Object", name := "equals", desc := "(Ljava/lang/Object;)Z" } : Jvm.MethodName)) ∈ lw_all := lw_g (lw_at lw_m9 26 rfl) rfl
theorem q2060 : (Jvm.Cond.instanceMethod ({ cls := "Bogsign", name := "setSoftness", desc := "(II)I" } : Jvm.MethodName)) ∈ lw_all := lw_g (lw_at lw_m9 69 rfl) rfl
theorem q2061 : (Jvm.Cond.selects "Bogsign" ({ cls := "Bogsign", name := "setSoftness", desc := "(II)I" } : Jvm.MethodName) ({ cls := "Bogsign", name := "setSoftness", desc := "(II)I" } : Jvm.MethodName)) ∈ lw_all := lw_g (lw_at lw_m9 70 rfl) rfl
theorem q2062 : (Jvm.Cond.code ({ cls := "Bogsign", name := "setSoftness", desc := "(II)I" } : Jvm.MethodName) prog_1_method_21_code (5 : Nat) (Option.some Jvm.ClassFile.FieldType.int)) ∈ lw_all := lw_g (lw_at lw_m9 71 rfl) rfl
theorem q2063 : (Jvm.Cond.methodLink "Bogsign" (318 : Nat) ({ cls := "Bogsign", name := "stretchAt", desc := "(I)LBogsign$Stretch;" } : Jvm.MethodName)) ∈ lw_all := lw_g (lw_at lw_m9 72 rfl) rfl
theorem q2064 : (Jvm.Cond.privateMethod ({ cls := "Bogsign", name := "stretchAt", desc := "(I)LBogsign$Stretch;" } : Jvm.MethodName)) ∈ lw_tbl := lw_at lw_m9 73 rfl
theorem q2065 : (Jvm.Cond.instanceMethod ({ cls := "Bogsign", name := "stretchAt", desc := "(I)LBogsign$Stretch;" } : Jvm.MethodName)) ∈ lw_all := lw_g (lw_at lw_m9 74 rfl) rfl
theorem q2066 : (Jvm.Cond.code ({ cls := "Bogsign", name := "stretchAt", desc := "(I)LBogsign$Stretch;" } : Jvm.MethodName) prog_1_method_6_code (2 : Nat) (Option.some (Jvm.ClassFile.FieldType.object "Bogsign$Stretch"))) ∈ lw_all := lw_g (lw_at lw_m9 75 rfl) rfl
theorem q2067 : (Jvm.Cond.methodLink "Bogsign" (77 : Nat) ({ cls := "Bogsign", name := "requireIndex", desc := "(Z)V" } : Jvm.MethodName)) ∈ lw_all := lw_g (lw_at lw_m9 76 rfl) rfl
theorem q2068 : (Jvm.Cond.static ({ cls := "Bogsign", name := "requireIndex", desc := "(Z)V" } : Jvm.MethodName)) ∈ lw_all := lw_g (lw_at lw_m9 77 rfl) rfl
theorem q2069 : (Jvm.Cond.code ({ cls := "Bogsign", name := "requireIndex", desc := "(Z)V" } : Jvm.MethodName) prog_1_method_2_code (1 : Nat) (Option.none : Option Jvm.ClassFile.FieldType)) ∈ lw_all := lw_g (lw_at lw_m9 78 rfl) rfl
theorem q2070 : (Jvm.Cond.classLink "Bogsign" (1 : Nat) "java/lang/IndexOutOfBoundsException") ∈ lw_all := lw_g (lw_at lw_m9 79 rfl) rfl
theorem q2071 : (Jvm.Cond.methodLink "Bogsign" (3 : Nat) ({ cls := "java/lang/IndexOutOfBoundsException", name := "<init>", desc := "()V" } : Jvm.MethodName)) ∈ lw_all := lw_g (lw_at lw_m9 80 rfl) rfl
theorem q2079 : (Jvm.Cond.instanceMethod ({ cls := "Bogsign", name := "setDays", desc := "(II)I" } : Jvm.MethodName)) ∈ lw_all := lw_g (lw_at lw_m9 88 rfl) rfl
theorem q2080 : (Jvm.Cond.selects "Bogsign" ({ cls := "Bogsign", name := "setDays", desc := "(II)I" } : Jvm.MethodName) ({ cls := "Bogsign", name := "setDays", desc := "(II)I" } : Jvm.MethodName)) ∈ lw_all := lw_g (lw_at lw_m9 89 rfl) rfl
theorem q2081 : (Jvm.Cond.code ({ cls := "Bogsign", name := "setDays", desc := "(II)I" } : Jvm.MethodName) prog_1_method_22_code (4 : Nat) (Option.some Jvm.ClassFile.FieldType.int)) ∈ lw_all := lw_g (lw_at lw_m9 90 rfl) rfl
theorem q2082 : (Jvm.Cond.methodLink "Bogsign" (322 : Nat) ({ cls := "Bogsign", name := "requireRider", desc := "(I)V" } : Jvm.MethodName)) ∈ lw_all := lw_g (lw_at lw_m9 91 rfl) rfl
theorem q2083 : (Jvm.Cond.static ({ cls := "Bogsign", name := "requireRider", desc := "(I)V" } : Jvm.MethodName)) ∈ lw_all := lw_g (lw_at lw_m9 92 rfl) rfl
theorem q2084 : (Jvm.Cond.code ({ cls := "Bogsign", name := "requireRider", desc := "(I)V" } : Jvm.MethodName) prog_1_method_7_code (1 : Nat) (Option.none : Option Jvm.ClassFile.FieldType)) ∈ lw_all := lw_g (lw_at lw_m9 93 rfl) rfl
theorem q2089 : (Jvm.Cond.instanceMethod ({ cls := "Bogsign", name := "setLimit", desc := "(I)I" } : Jvm.MethodName)) ∈ lw_all := lw_g (lw_at lw_m9 98 rfl) rfl
theorem q2090 : (Jvm.Cond.selects "Bogsign" ({ cls := "Bogsign", name := "setLimit", desc := "(I)I" } : Jvm.MethodName) ({ cls := "Bogsign", name := "setLimit", desc := "(I)I" } : Jvm.MethodName)) ∈ lw_all := lw_g (lw_at lw_m9 99 rfl) rfl
theorem q2091 : (Jvm.Cond.code ({ cls := "Bogsign", name := "setLimit", desc := "(I)I" } : Jvm.MethodName) prog_1_method_23_code (3 : Nat) (Option.some Jvm.ClassFile.FieldType.int)) ∈ lw_all := lw_g (lw_at lw_m9 100 rfl) rfl
theorem q2096 : (Jvm.Cond.instanceMethod ({ cls := "Bogsign", name := "cut", desc := "(I)I" } : Jvm.MethodName)) ∈ lw_all := lw_g (lw_at lw_m9 105 rfl) rfl
theorem q2097 : (Jvm.Cond.selects "Bogsign" ({ cls := "Bogsign", name := "cut", desc := "(I)I" } : Jvm.MethodName) ({ cls := "Bogsign", name := "cut", desc := "(I)I" } : Jvm.MethodName)) ∈ lw_all := lw_g (lw_at lw_m9 106 rfl) rfl
theorem q2098 : (Jvm.Cond.code ({ cls := "Bogsign", name := "cut", desc := "(I)I" } : Jvm.MethodName) prog_1_method_24_code (2 : Nat) (Option.some Jvm.ClassFile.FieldType.int)) ∈ lw_all := lw_g (lw_at lw_m9 107 rfl) rfl
theorem q2100 : (Jvm.Cond.methodLink "Bogsign" (328 : Nat) ({ cls := "Bogsign$CutBoards", name := "<init>", desc := "(I)V" } : Jvm.MethodName)) ∈ lw_all := lw_g (lw_at lw_m9 109 rfl) rfl
theorem q2105 : (Jvm.Cond.fieldLinkNest "Bogsign" (253 : Nat) "Bogsign$CutBoards" "many" "I" "Bogsign") ∈ lw_tbl := lw_at lw_m9 114 rfl
theorem q2113 : (Jvm.Cond.instanceMethod ({ cls := "Bogsign", name := "lay", desc := "(II)I" } : Jvm.MethodName)) ∈ lw_all := lw_g (lw_at lw_m9 122 rfl) rfl
theorem q2114 : (Jvm.Cond.selects "Bogsign" ({ cls := "Bogsign", name := "lay", desc := "(II)I" } : Jvm.MethodName) ({ cls := "Bogsign", name := "lay", desc := "(II)I" } : Jvm.MethodName)) ∈ lw_all := lw_g (lw_at lw_m9 123 rfl) rfl
theorem q2115 : (Jvm.Cond.code ({ cls := "Bogsign", name := "lay", desc := "(II)I" } : Jvm.MethodName) prog_1_method_25_code (4 : Nat) (Option.some Jvm.ClassFile.FieldType.int)) ∈ lw_all := lw_g (lw_at lw_m9 124 rfl) rfl
theorem q2120 : (Jvm.Cond.instanceMethod ({ cls := "Bogsign", name := "stock", desc := "(I)I" } : Jvm.MethodName)) ∈ lw_all := lw_g (lw_at lw_m9 129 rfl) rfl
theorem q2121 : (Jvm.Cond.selects "Bogsign" ({ cls := "Bogsign", name := "stock", desc := "(I)I" } : Jvm.MethodName) ({ cls := "Bogsign", name := "stock", desc := "(I)I" } : Jvm.MethodName)) ∈ lw_all := lw_g (lw_at lw_m9 130 rfl) rfl
theorem q2122 : (Jvm.Cond.code ({ cls := "Bogsign", name := "stock", desc := "(I)I" } : Jvm.MethodName) prog_1_method_28_code (2 : Nat) (Option.some Jvm.ClassFile.FieldType.int)) ∈ lw_all := lw_g (lw_at lw_m9 131 rfl) rfl
theorem q2123 : (Jvm.Cond.methodLink "Bogsign" (330 : Nat) ({ cls := "Bogsign", name := "owedAll", desc := "()I" } : Jvm.MethodName)) ∈ lw_all := lw_g (lw_at lw_m9 132 rfl) rfl
theorem q2124 : (Jvm.Cond.privateMethod ({ cls := "Bogsign", name := "owedAll", desc := "()I" } : Jvm.MethodName)) ∈ lw_tbl := lw_at lw_m9 133 rfl
theorem q2125 : (Jvm.Cond.instanceMethod ({ cls := "Bogsign", name := "owedAll", desc := "()I" } : Jvm.MethodName)) ∈ lw_all := lw_g (lw_at lw_m9 134 rfl) rfl
theorem q2126 : (Jvm.Cond.code ({ cls := "Bogsign", name := "owedAll", desc := "()I" } : Jvm.MethodName) prog_1_method_27_code (4 : Nat) (Option.some Jvm.ClassFile.FieldType.int)) ∈ lw_all := lw_g (lw_at lw_m9 135 rfl) rfl
theorem q2127 : (Jvm.Cond.methodLink "Bogsign" (329 : Nat) ({ cls := "java/util/ArrayDeque", name := "iterator", desc := "()Ljava/util/Iterator;" } : Jvm.MethodName)) ∈ lw_all := lw_g (lw_at lw_m9 136 rfl) rfl
theorem q2155 : (Jvm.Cond.instanceMethod ({ cls := "Bogsign", name := "board", desc := "(II)I" } : Jvm.MethodName)) ∈ lw_all := lw_g (lw_at lw_m9 164 rfl) rfl
theorem q2156 : (Jvm.Cond.selects "Bogsign" ({ cls := "Bogsign", name := "board", desc := "(II)I" } : Jvm.MethodName) ({ cls := "Bogsign", name := "board", desc := "(II)I" } : Jvm.MethodName)) ∈ lw_all := lw_g (lw_at lw_m9 165 rfl) rfl
theorem q2157 : (Jvm.Cond.code ({ cls := "Bogsign", name := "board", desc := "(II)I" } : Jvm.MethodName) prog_1_method_29_code (4 : Nat) (Option.some Jvm.ClassFile.FieldType.int)) ∈ lw_all := lw_g (lw_at lw_m9 166 rfl) rfl
theorem q2163 : (Jvm.Cond.instanceMethod ({ cls := "Bogsign", name := "owed", desc := "(I)I" } : Jvm.MethodName)) ∈ lw_all := lw_g (lw_at lw_m9 172 rfl) rfl
theorem q2164 : (Jvm.Cond.selects "Bogsign" ({ cls := "Bogsign", name := "owed", desc := "(I)I" } : Jvm.MethodName) ({ cls := "Bogsign", name := "owed", desc := "(I)I" } : Jvm.MethodName)) ∈ lw_all := lw_g (lw_at lw_m9 173 rfl) rfl
theorem q2165 : (Jvm.Cond.code ({ cls := "Bogsign", name := "owed", desc := "(I)I" } : Jvm.MethodName) prog_1_method_30_code (5 : Nat) (Option.some Jvm.ClassFile.FieldType.int)) ∈ lw_all := lw_g (lw_at lw_m9 174 rfl) rfl
theorem q2166 : (Jvm.Cond.classLink "Bogsign" (339 : Nat) "java/util/NoSuchElementException") ∈ lw_all := lw_g (lw_at lw_m9 175 rfl) rfl
theorem q2167 : (Jvm.Cond.methodLink "Bogsign" (341 : Nat) ({ cls := "java/util/NoSuchElementException", name := "<init>", desc := "()V" } : Jvm.MethodName)) ∈ lw_all := lw_g (lw_at lw_m9 176 rfl) rfl
theorem q2172 : (Jvm.Cond.instanceMethod ({ cls := "Bogsign", name := "send", desc := "(III)I" } : Jvm.MethodName)) ∈ lw_all := lw_g (lw_at lw_m9 181 rfl) rfl
theorem q2173 : (Jvm.Cond.selects "Bogsign" ({ cls := "Bogsign", name := "send", desc := "(III)I" } : Jvm.MethodName) ({ cls := "Bogsign", name := "send", desc := "(III)I" } : Jvm.MethodName)) ∈ lw_all := lw_g (lw_at lw_m9 182 rfl) rfl
theorem q2174 : (Jvm.Cond.code ({ cls := "Bogsign", name := "send", desc := "(III)I" } : Jvm.MethodName) prog_1_method_31_code (6 : Nat) (Option.some Jvm.ClassFile.FieldType.int)) ∈ lw_all := lw_g (lw_at lw_m9 183 rfl) rfl
theorem q2175 : (Jvm.Cond.methodLink "Bogsign" (342 : Nat) ({ cls := "Bogsign", name := "requireWord", desc := "(I)V" } : Jvm.MethodName)) ∈ lw_all := lw_g (lw_at lw_m9 184 rfl) rfl
theorem q2176 : (Jvm.Cond.static ({ cls := "Bogsign", name := "requireWord", desc := "(I)V" } : Jvm.MethodName)) ∈ lw_all := lw_g (lw_at lw_m9 185 rfl) rfl
theorem q2177 : (Jvm.Cond.code ({ cls := "Bogsign", name := "requireWord", desc := "(I)V" } : Jvm.MethodName) prog_1_method_8_code (1 : Nat) (Option.none : Option Jvm.ClassFile.FieldType)) ∈ lw_all := lw_g (lw_at lw_m9 186 rfl) rfl
theorem q2179 : (Jvm.Cond.methodLink "Bogsign" (345 : Nat) ({ cls := "Bogsign$Message", name := "<init>", desc := "(IIIII)V" } : Jvm.MethodName)) ∈ lw_all := lw_g (lw_at lw_m9 188 rfl) rfl
theorem q2185 : (Jvm.Cond.fieldLinkNest "Bogsign" (356 : Nat) "Bogsign$Message" "rider" "I" "Bogsign") ∈ lw_tbl := lw_at lw_m9 194 rfl
theorem q2187 : (Jvm.Cond.fieldLinkNest "Bogsign" (226 : Nat) "Bogsign$Message" "stretch" "I" "Bogsign") ∈ lw_tbl := lw_at lw_m9 196 rfl
theorem q2189 : (Jvm.Cond.fieldLinkNest "Bogsign" (359 : Nat) "Bogsign$Message" "word" "I" "Bogsign") ∈ lw_tbl := lw_at lw_m9 198 rfl
theorem q2191 : (Jvm.Cond.fieldLinkNest "Bogsign" (362 : Nat) "Bogsign$Message" "sent" "I" "Bogsign") ∈ lw_tbl := lw_at lw_m9 200 rfl
theorem q2193 : (Jvm.Cond.fieldLinkNest "Bogsign" (348 : Nat) "Bogsign$Message" "arrives" "I" "Bogsign") ∈ lw_tbl := lw_at lw_m9 202 rfl
theorem q2194 : (Jvm.Cond.fieldLinkNest "Bogsign" (212 : Nat) "Bogsign$Message" "hasArrived" "Z" "Bogsign") ∈ lw_tbl := lw_at lw_m9 203 rfl
theorem q2195 : (Jvm.Cond.fieldLinkNest "Bogsign" (365 : Nat) "Bogsign$Message" "isWeighed" "Z" "Bogsign") ∈ lw_tbl := lw_at lw_m9 204 rfl
theorem q2197 : (Jvm.Cond.fieldLinkNest "Bogsign" (222 : Nat) "Bogsign$Message" "line" "Ljava/lang/String;" "Bogsign") ∈ lw_tbl := lw_at lw_m9 206 rfl
theorem q2216 : (Jvm.Cond.methodLink "Bogsign" (350 : Nat) ({ cls := "Bogsign$Carried", name := "<init>", desc := "(LBogsign$Message;)V" } : Jvm.MethodName)) ∈ lw_all := lw_g (lw_at lw_m9 225 rfl) rfl
theorem q2221 : (Jvm.Cond.fieldLinkNest "Bogsign" (263 : Nat) "Bogsign$Carried" "message" "LBogsign$Message;" "Bogsign") ∈ lw_tbl := lw_at lw_m9 230 rfl
theorem q2229 : (Jvm.Cond.instanceMethod ({ cls := "Bogsign", name := "message", desc := "(II)I" } : Jvm.MethodName)) ∈ lw_all := lw_g (lw_at lw_m9 238 rfl) rfl
theorem q2230 : (Jvm.Cond.selects "Bogsign" ({ cls := "Bogsign", name := "message", desc := "(II)I" } : Jvm.MethodName) ({ cls := "Bogsign", name := "message", desc := "(II)I" } : Jvm.MethodName)) ∈ lw_all := lw_g (lw_at lw_m9 239 rfl) rfl
theorem q2231 : (Jvm.Cond.code ({ cls := "Bogsign", name := "message", desc := "(II)I" } : Jvm.MethodName) prog_1_method_33_code (4 : Nat) (Option.some Jvm.ClassFile.FieldType.int)) ∈ lw_all := lw_g (lw_at lw_m10 0 rfl) rfl
theorem q2232 : (Jvm.Cond.methodLink "Bogsign" (352 : Nat) ({ cls := "Bogsign", name := "messageAt", desc := "(I)LBogsign$Message;" } : Jvm.MethodName)) ∈ lw_all := lw_g (lw_at lw_m10 1 rfl) rfl
theorem q2233 : (Jvm.Cond.privateMethod ({ cls := "Bogsign", name := "messageAt", desc := "(I)LBogsign$Message;" } : Jvm.MethodName)) ∈ lw_tbl := lw_at lw_m10 2 rfl
theorem q2234 : (Jvm.Cond.instanceMethod ({ cls := "Bogsign", name := "messageAt", desc := "(I)LBogsign$Message;" } : Jvm.MethodName)) ∈ lw_all := lw_g (lw_at lw_m10 3 rfl) rfl
theorem q2235 : (Jvm.Cond.code ({ cls := "Bogsign", name := "messageAt", desc := "(I)LBogsign$Message;" } : Jvm.MethodName) prog_1_method_32_code (2 : Nat) (Option.some (Jvm.ClassFile.FieldType.object "Bogsign$Message"))) ∈ lw_all := lw_g (lw_at lw_m10 4 rfl) rfl
theorem q2240 : (Jvm.Cond.instanceMethod ({ cls := "Bogsign", name := "sign", desc := "(II)I" } : Jvm.MethodName)) ∈ lw_all := lw_g (lw_at lw_m10 9 rfl) rfl
theorem q2241 : (Jvm.Cond.selects "Bogsign" ({ cls := "Bogsign", name := "sign", desc := "(II)I" } : Jvm.MethodName) ({ cls := "Bogsign", name := "sign", desc := "(II)I" } : Jvm.MethodName)) ∈ lw_all := lw_g (lw_at lw_m10 10 rfl) rfl
theorem q2242 : (Jvm.Cond.code ({ cls := "Bogsign", name := "sign", desc := "(II)I" } : Jvm.MethodName) prog_1_method_34_code (4 : Nat) (Option.some Jvm.ClassFile.FieldType.int)) ∈ lw_all := lw_g (lw_at lw_m10 11 rfl) rfl
theorem q2243 : (Jvm.Cond.methodLink "Bogsign" (368 : Nat) ({ cls := "java/lang/String", name := "length", desc := "()I" } : Jvm.MethodName)) ∈ lw_all := lw_g (lw_at lw_m10 12 rfl) rfl
theorem q2244 : (Jvm.Cond.methodLink "Bogsign" (373 : Nat) ({ cls := "java/lang/String", name := "charAt", desc := "(I)C" } : Jvm.MethodName)) ∈ lw_all := lw_g (lw_at lw_m10 13 rfl) rfl
theorem q2259 : (Jvm.Cond.instanceMethod ({ cls := "Bogsign", name := "meaning", desc := "(II)I" } : Jvm.MethodName)) ∈ lw_all := lw_g (lw_at lw_m10 28 rfl) rfl
theorem q2260 : (Jvm.Cond.selects "Bogsign" ({ cls := "Bogsign", name := "meaning", desc := "(II)I" } : Jvm.MethodName) ({ cls := "Bogsign", name := "meaning", desc := "(II)I" } : Jvm.MethodName)) ∈ lw_all := lw_g (lw_at lw_m10 29 rfl) rfl
theorem q2261 : (Jvm.Cond.code ({ cls := "Bogsign", name := "meaning", desc := "(II)I" } : Jvm.MethodName) prog_1_method_37_code (3 : Nat) (Option.some Jvm.ClassFile.FieldType.int)) ∈ lw_all := lw_g (lw_at lw_m10 30 rfl) rfl
theorem q2266 : (Jvm.Cond.instanceMethod ({ cls := "Bogsign", name := "inspect", desc := "(I)I" } : Jvm.MethodName)) ∈ lw_all := lw_g (lw_at lw_m10 35 rfl) rfl
theorem q2267 : (Jvm.Cond.selects "Bogsign" ({ cls := "Bogsign", name := "inspect", desc := "(I)I" } : Jvm.MethodName) ({ cls := "Bogsign", name := "inspect", desc := "(I)I" } : Jvm.MethodName)) ∈ lw_all := lw_g (lw_at lw_m10 36 rfl) rfl
theorem q2268 : (Jvm.Cond.code ({ cls := "Bogsign", name := "inspect", desc := "(I)I" } : Jvm.MethodName) prog_1_method_38_code (6 : Nat) (Option.some Jvm.ClassFile.FieldType.int)) ∈ lw_all := lw_g (lw_at lw_m10 37 rfl) rfl
theorem q2269 : (Jvm.Cond.methodLink "Bogsign" (393 : Nat) ({ cls := "Bogsign$Stretch", name := "depth", desc := "()I" } : Jvm.MethodName)) ∈ lw_all := lw_g (lw_at lw_m10 38 rfl) rfl
theorem q2273 : (Jvm.Cond.methodLink "Bogsign" (395 : Nat) ({ cls := "Bogsign$Notes", name := "takes", desc := "(I)V" } : Jvm.MethodName)) ∈ lw_all := lw_g (lw_at lw_m10 42 rfl) rfl
theorem q2281 : (Jvm.Cond.instanceMethod ({ cls := "Bogsign", name := "stretch", desc := "(II)I" } : Jvm.MethodName)) ∈ lw_all := lw_g (lw_at lw_m10 50 rfl) rfl
theorem q2282 : (Jvm.Cond.selects "Bogsign" ({ cls := "Bogsign", name := "stretch", desc := "(II)I" } : Jvm.MethodName) ({ cls := "Bogsign", name := "stretch", desc := "(II)I" } : Jvm.MethodName)) ∈ lw_all := lw_g (lw_at lw_m10 51 rfl) rfl
theorem q2283 : (Jvm.Cond.code ({ cls := "Bogsign", name := "stretch", desc := "(II)I" } : Jvm.MethodName) prog_1_method_41_code (4 : Nat) (Option.some Jvm.ClassFile.FieldType.int)) ∈ lw_all := lw_g (lw_at lw_m10 52 rfl) rfl
theorem q2284 : (Jvm.Cond.methodLink "Bogsign" (414 : Nat) ({ cls := "Bogsign$Stretch", name := "deepest", desc := "()I" } : Jvm.MethodName)) ∈ lw_all := lw_g (lw_at lw_m10 53 rfl) rfl
theorem q2293 : (Jvm.Cond.instanceMethod ({ cls := "Bogsign", name := "cart", desc := "(III)I" } : Jvm.MethodName)) ∈ lw_all := lw_g (lw_at lw_m10 62 rfl) rfl
theorem q2294 : (Jvm.Cond.selects "Bogsign" ({ cls := "Bogsign", name := "cart", desc := "(III)I" } : Jvm.MethodName) ({ cls := "Bogsign", name := "cart", desc := "(III)I" } : Jvm.MethodName)) ∈ lw_all := lw_g (lw_at lw_m10 63 rfl) rfl
theorem q2295 : (Jvm.Cond.code ({ cls := "Bogsign", name := "cart", desc := "(III)I" } : Jvm.MethodName) prog_1_method_44_code (7 : Nat) (Option.some Jvm.ClassFile.FieldType.int)) ∈ lw_all := lw_g (lw_at lw_m10 64 rfl) rfl
theorem q2296 : (Jvm.Cond.methodLink "Bogsign" (431 : Nat) ({ cls := "Bogsign", name := "requireWay", desc := "(II)V" } : Jvm.MethodName)) ∈ lw_all := lw_g (lw_at lw_m10 65 rfl) rfl
theorem q2297 : (Jvm.Cond.static ({ cls := "Bogsign", name := "requireWay", desc := "(II)V" } : Jvm.MethodName)) ∈ lw_all := lw_g (lw_at lw_m10 66 rfl) rfl
theorem q2298 : (Jvm.Cond.code ({ cls := "Bogsign", name := "requireWay", desc := "(II)V" } : Jvm.MethodName) prog_1_method_42_code (2 : Nat) (Option.none : Option Jvm.ClassFile.FieldType)) ∈ lw_all := lw_g (lw_at lw_m10 67 rfl) rfl
theorem q2299 : (Jvm.Cond.methodLink "Bogsign" (434 : Nat) ({ cls := "Bogsign", name := "taken", desc := "(I)Ljava/util/Optional;" } : Jvm.MethodName)) ∈ lw_all := lw_g (lw_at lw_m10 68 rfl) rfl
theorem q2300 : (Jvm.Cond.privateMethod ({ cls := "Bogsign", name := "taken", desc := "(I)Ljava/util/Optional;" } : Jvm.MethodName)) ∈ lw_tbl := lw_at lw_m10 69 rfl
theorem q2301 : (Jvm.Cond.instanceMethod ({ cls := "Bogsign", name := "taken", desc := "(I)Ljava/util/Optional;" } : Jvm.MethodName)) ∈ lw_all := lw_g (lw_at lw_m10 70 rfl) rfl
theorem q2302 : (Jvm.Cond.code ({ cls := "Bogsign", name := "taken", desc := "(I)Ljava/util/Optional;" } : Jvm.MethodName) prog_1_method_43_code (6 : Nat) (Option.some (Jvm.ClassFile.FieldType.object "java/util/Optional"))) ∈ lw_all := lw_g (lw_at lw_m10 71 rfl) rfl
theorem q2303 : (Jvm.Cond.methodLink "Bogsign" (424 : Nat) ({ cls := "Bogsign$Stretch", name := "isBare", desc := "()Z" } : Jvm.MethodName)) ∈ lw_all := lw_g (lw_at lw_m10 72 rfl) rfl
theorem q2304 : (Jvm.Cond.methodLink "Bogsign" (427 : Nat) ({ cls := "java/util/Optional", name := "empty", desc := "()Ljava/util/Optional;" } : Jvm.MethodName)) ∈ lw_all := lw_g (lw_at lw_m10 73 rfl) rfl
theorem q2305 : (Jvm.Cond.methodLink "Bogsign" (438 : Nat) ({ cls := "Bogsign$Stretch", name := "carries", desc := "(I)V" } : Jvm.MethodName)) ∈ lw_all := lw_g (lw_at lw_m10 74 rfl) rfl
theorem q2314 : (Jvm.Cond.instanceMethod ({ cls := "Bogsign", name := "round", desc := "(II)I" } : Jvm.MethodName)) ∈ lw_all := lw_g (lw_at lw_m10 83 rfl) rfl
theorem q2315 : (Jvm.Cond.selects "Bogsign" ({ cls := "Bogsign", name := "round", desc := "(II)I" } : Jvm.MethodName) ({ cls := "Bogsign", name := "round", desc := "(II)I" } : Jvm.MethodName)) ∈ lw_all := lw_g (lw_at lw_m10 84 rfl) rfl
theorem q2316 : (Jvm.Cond.code ({ cls := "Bogsign", name := "round", desc := "(II)I" } : Jvm.MethodName) prog_1_method_45_code (6 : Nat) (Option.some Jvm.ClassFile.FieldType.int)) ∈ lw_all := lw_g (lw_at lw_m10 85 rfl) rfl
theorem q2317 : (Jvm.Cond.methodLink "Bogsign" (441 : Nat) ({ cls := "java/lang/Math", name := "max", desc := "(II)I" } : Jvm.MethodName)) ∈ lw_all := lw_g (lw_at lw_m10 86 rfl) rfl
theorem q2681 : (Jvm.Cond.castable "Bogsign" "java/lang/Object") ∈ lw_tbl := lw_at lw_m11 210 rfl
theorem in_X1 : ∀ w ∈ wsX10, w ∈ lw_all := lw_in wsX10 [335, 337, 339, 341, 343, 345, 347, 349, 351, 353, 355] (by decide +kernel) (by decide +kernel)

/-! Bogsign$CutBoards -/
set_option maxRecDepth 100000
def RX10 : String := "Bogsign$CutBoards"
def TX10 : u_T := fun k => match k with
  | _ => ("Bogsign$CutBoards", "many", "I", true)
def tyX10 : Nat → FieldType := fun k => match k with
  | _ => .int
abbrev wsX100 : List Cond := u_ws RX10 TX10 1
theorem nmX10 : ∀ a, a < 1 → ∀ b, b < 1 → a ≠ b → (TX10 a).2.1 ≠ (TX10 b).2.1 := by decide +kernel
theorem tyX10_ok : ∀ k, k < 1 → parseFieldDescriptor (TX10 k).2.2.1 = some (tyX10 k) := by decide +kernel
abbrev cX10_init : ByteArray := prog_5_method_1_code
def yX10_init : MethodName := ⟨RX10, "<init>", "(I)V"⟩
def dkwX10_init_0 : List UInt8 := [42, 183, 0, 1, 42, 27, 181, 0, 7, 177]
abbrev dktX10_init_0 : List UInt8 := dkwX10_init_0 ++ []
theorem dksX10_init_0 : cX10_init.data.toList.drop 0 = dktX10_init_0 := by decide +kernel
theorem dX10_init_0 : decode cX10_init 0 = .ok (.aload_n 0, 1) := dk_42 (dk_at dksX10_init_0 0 rfl rfl)
theorem dX10_init_1 : decode cX10_init 1 = .ok (.invokespecial 1, 3) := dk_183 0 1 (dk_at dksX10_init_0 1 rfl rfl)
theorem dX10_init_4 : decode cX10_init 4 = .ok (.aload_n 0, 1) := dk_42 (dk_at dksX10_init_0 4 rfl rfl)
theorem dX10_init_5 : decode cX10_init 5 = .ok (.iload_n 1, 1) := dk_27 (dk_at dksX10_init_0 5 rfl rfl)
theorem dX10_init_6 : decode cX10_init 6 = .ok (.putfield 7, 3) := dk_181 0 7 (dk_at dksX10_init_0 6 rfl rfl)
theorem dX10_init_9 : decode cX10_init 9 = .ok (.return_, 1) := dk_177 (dk_at dksX10_init_0 9 rfl rfl)
theorem q123 : (Jvm.Cond.initialized "Bogsign$CutBoards") ∈ lw_all := lw_g (lw_at lw_m1 52 rfl) rfl
theorem q939 : (Jvm.Cond.selects "Bogsign$CutBoards" ({ cls := "java/lang/Object", name := "getClass", desc := "()Ljava/lang/Class;" } : Jvm.MethodName) ({ cls := "java/lang/Object", name := "getClass", desc := "()Ljava/lang/Class;" } : Jvm.MethodName)) ∈ lw_all := lw_g (lw_at lw_m4 148 rfl) rfl
theorem q2020 : (Jvm.Cond.selects "Bogsign$CutBoards" ({ cls := "java/lang/Object", name := "equals", desc := "(Ljava/lang/Object;)Z" } : Jvm.MethodName) ({ cls := "java/lang/Object", name := "equals", desc := "(Ljava/lang/Object;)Z" } : Jvm.MethodName)) ∈ lw_all := lw_g (lw_at lw_m9 29 rfl) rfl
theorem q2099 : (Jvm.Cond.instantiable "Bogsign$CutBoards" (1 : Nat)) ∈ lw_all := lw_g (lw_at lw_m9 108 rfl) rfl
theorem q2101 : (Jvm.Cond.instanceMethod ({ cls := "Bogsign$CutBoards", name := "<init>", desc := "(I)V" } : Jvm.MethodName)) ∈ lw_all := lw_g (lw_at lw_m9 110 rfl) rfl
theorem q2102 : (Jvm.Cond.code ({ cls := "Bogsign$CutBoards", name := "<init>", desc := "(I)V" } : Jvm.MethodName) prog_5_method_1_code (2 : Nat) (Option.none : Option Jvm.ClassFile.FieldType)) ∈ lw_all := lw_g (lw_at lw_m9 111 rfl) rfl
theorem q2103 : (Jvm.Cond.methodLink "Bogsign$CutBoards" (1 : Nat) ({ cls := "java/lang/Object", name := "<init>", desc := "()V" } : Jvm.MethodName)) ∈ lw_all := lw_g (lw_at lw_m9 112 rfl) rfl
theorem q2104 : (Jvm.Cond.fieldLink "Bogsign$CutBoards" (7 : Nat) "Bogsign$CutBoards" "many" "I") ∈ lw_all := lw_g (lw_at lw_m9 113 rfl) rfl
theorem q2106 : (Jvm.Cond.laysFinal "Bogsign$CutBoards" "Bogsign$CutBoards" "many" "I") ∈ lw_all := lw_g (lw_at lw_m9 115 rfl) rfl
theorem q2107 : (Jvm.Cond.soleField "Bogsign$CutBoards" "many") ∈ lw_all := lw_g (lw_at lw_m9 116 rfl) rfl
theorem q2108 : (Jvm.Cond.superclass "Bogsign$CutBoards" "java/lang/Object") ∈ lw_all := lw_g (lw_at lw_m9 117 rfl) rfl
theorem q2677 : (Jvm.Cond.castable "Bogsign$CutBoards" "Bogsign$Coming") ∈ lw_tbl := lw_at lw_m11 206 rfl
theorem q2708 : (Jvm.Cond.castable "Bogsign$CutBoards" "java/lang/Object") ∈ lw_tbl := lw_at lw_m11 237 rfl
theorem in_X10 : ∀ w ∈ wsX100, w ∈ lw_all := lw_in wsX100 [2106] (by decide +kernel) (by decide +kernel)

/-! Bogsign$Message -/
set_option maxRecDepth 100000
def RX11 : String := "Bogsign$Message"
def TX11 : u_T := fun k => match k with
  | 0 => ("Bogsign$Message", "rider", "I", true)
  | 1 => ("Bogsign$Message", "stretch", "I", true)
  | 2 => ("Bogsign$Message", "word", "I", true)
  | 3 => ("Bogsign$Message", "sent", "I", true)
  | 4 => ("Bogsign$Message", "arrives", "I", true)
  | 5 => ("Bogsign$Message", "hasArrived", "Z", false)
  | 6 => ("Bogsign$Message", "isWeighed", "Z", false)
  | _ => ("Bogsign$Message", "line", "Ljava/lang/String;", false)
def tyX11 : Nat → FieldType := fun k => match k with
  | 0 => .int
  | 1 => .int
  | 2 => .int
  | 3 => .int
  | 4 => .int
  | 5 => .boolean
  | 6 => .boolean
  | _ => .object "java/lang/String"
abbrev wsX110 : List Cond := u_ws RX11 TX11 8
theorem nmX11 : ∀ a, a < 8 → ∀ b, b < 8 → a ≠ b → (TX11 a).2.1 ≠ (TX11 b).2.1 := by decide +kernel
theorem tyX11_ok : ∀ k, k < 8 → parseFieldDescriptor (TX11 k).2.2.1 = some (tyX11 k) := by decide +kernel
abbrev cX11_toString : ByteArray := prog_7_method_3_code
def yX11_toString : MethodName := ⟨RX11, "toString", "()Ljava/lang/String;"⟩
def dkwX11_toString_1 : List UInt8 := [180, 0, 19, 182, 0, 50, 18, 53, 182, 0, 43, 42, 180, 0, 15, 182, 0, 50, 87, 43, 182, 0, 55, 176]
abbrev dktX11_toString_1 : List UInt8 := dkwX11_toString_1 ++ []
def dkwX11_toString_0 : List UInt8 := [187, 0, 37, 89, 183, 0, 39, 76, 43, 42, 182, 0, 40, 182, 0, 43, 16, 32, 182, 0, 47, 42]
abbrev dktX11_toString_0 : List UInt8 := dkwX11_toString_0 ++ dktX11_toString_1
theorem dksX11_toString_0 : cX11_toString.data.toList.drop 0 = dktX11_toString_0 := by decide +kernel
theorem dksX11_toString_1 : cX11_toString.data.toList.drop 22 = dktX11_toString_1 := dk_seg dksX11_toString_0 22 rfl rfl
theorem dX11_toString_0 : decode cX11_toString 0 = .ok (.new 37, 3) := dk_187 0 37 (dk_at dksX11_toString_0 0 rfl rfl)
theorem dX11_toString_3 : decode cX11_toString 3 = .ok (.dup, 1) := dk_89 (dk_at dksX11_toString_0 3 rfl rfl)
theorem dX11_toString_4 : decode cX11_toString 4 = .ok (.invokespecial 39, 3) := dk_183 0 39 (dk_at dksX11_toString_0 4 rfl rfl)
theorem dX11_toString_7 : decode cX11_toString 7 = .ok (.astore_n 1, 1) := dk_76 (dk_at dksX11_toString_0 7 rfl rfl)
theorem dX11_toString_8 : decode cX11_toString 8 = .ok (.aload_n 1, 1) := dk_43 (dk_at dksX11_toString_0 8 rfl rfl)
theorem dX11_toString_9 : decode cX11_toString 9 = .ok (.aload_n 0, 1) := dk_42 (dk_at dksX11_toString_0 9 rfl rfl)
theorem dX11_toString_10 : decode cX11_toString 10 = .ok (.invokevirtual 40, 3) := dk_182 0 40 (dk_at dksX11_toString_0 10 rfl rfl)
theorem dX11_toString_13 : decode cX11_toString 13 = .ok (.invokevirtual 43, 3) := dk_182 0 43 (dk_at dksX11_toString_0 13 rfl rfl)
theorem dX11_toString_16 : decode cX11_toString 16 = .ok (.bipush 32, 2) := dk_16 32 (dk_at dksX11_toString_0 16 rfl rfl)
theorem dX11_toString_18 : decode cX11_toString 18 = .ok (.invokevirtual 47, 3) := dk_182 0 47 (dk_at dksX11_toString_0 18 rfl rfl)
theorem dX11_toString_21 : decode cX11_toString 21 = .ok (.aload_n 0, 1) := dk_42 (dk_at dksX11_toString_0 21 rfl rfl)
theorem dX11_toString_22 : decode cX11_toString 22 = .ok (.getfield 19, 3) := dk_180 0 19 (dk_at dksX11_toString_1 0 rfl rfl)
theorem dX11_toString_25 : decode cX11_toString 25 = .ok (.invokevirtual 50, 3) := dk_182 0 50 (dk_at dksX11_toString_1 3 rfl rfl)
theorem dX11_toString_28 : decode cX11_toString 28 = .ok (.ldc 53, 2) := dk_18 53 (dk_at dksX11_toString_1 6 rfl rfl)
theorem dX11_toString_30 : decode cX11_toString 30 = .ok (.invokevirtual 43, 3) := dk_182 0 43 (dk_at dksX11_toString_1 8 rfl rfl)
theorem dX11_toString_33 : decode cX11_toString 33 = .ok (.aload_n 0, 1) := dk_42 (dk_at dksX11_toString_1 11 rfl rfl)
theorem dX11_toString_34 : decode cX11_toString 34 = .ok (.getfield 15, 3) := dk_180 0 15 (dk_at dksX11_toString_1 12 rfl rfl)
theorem dX11_toString_37 : decode cX11_toString 37 = .ok (.invokevirtual 50, 3) := dk_182 0 50 (dk_at dksX11_toString_1 15 rfl rfl)
theorem dX11_toString_40 : decode cX11_toString 40 = .ok (.pop, 1) := dk_87 (dk_at dksX11_toString_1 18 rfl rfl)
theorem dX11_toString_41 : decode cX11_toString 41 = .ok (.aload_n 1, 1) := dk_43 (dk_at dksX11_toString_1 19 rfl rfl)
theorem dX11_toString_42 : decode cX11_toString 42 = .ok (.invokevirtual 55, 3) := dk_182 0 55 (dk_at dksX11_toString_1 20 rfl rfl)
theorem dX11_toString_45 : decode cX11_toString 45 = .ok (.areturn, 1) := dk_176 (dk_at dksX11_toString_1 23 rfl rfl)
abbrev cX11_text : ByteArray := prog_7_method_2_code
def yX11_text : MethodName := ⟨RX11, "text", "()Ljava/lang/String;"⟩
def dkwX11_text_0 : List UInt8 := [42, 180, 0, 22, 184, 0, 31, 176]
abbrev dktX11_text_0 : List UInt8 := dkwX11_text_0 ++ []
theorem dksX11_text_0 : cX11_text.data.toList.drop 0 = dktX11_text_0 := by decide +kernel
theorem dX11_text_0 : decode cX11_text 0 = .ok (.aload_n 0, 1) := dk_42 (dk_at dksX11_text_0 0 rfl rfl)
theorem dX11_text_1 : decode cX11_text 1 = .ok (.getfield 22, 3) := dk_180 0 22 (dk_at dksX11_text_0 1 rfl rfl)
theorem dX11_text_4 : decode cX11_text 4 = .ok (.invokestatic 31, 3) := dk_184 0 31 (dk_at dksX11_text_0 4 rfl rfl)
theorem dX11_text_7 : decode cX11_text 7 = .ok (.areturn, 1) := dk_176 (dk_at dksX11_text_0 7 rfl rfl)
abbrev cX11_init : ByteArray := prog_7_method_1_code
def yX11_init : MethodName := ⟨RX11, "<init>", "(IIIII)V"⟩
def dkwX11_init_1 : List UInt8 := [181, 0, 22, 42, 21, 4, 181, 0, 25, 42, 21, 5, 181, 0, 28, 177]
abbrev dktX11_init_1 : List UInt8 := dkwX11_init_1 ++ []
def dkwX11_init_0 : List UInt8 := [42, 183, 0, 1, 42, 18, 7, 181, 0, 9, 42, 27, 181, 0, 15, 42, 28, 181, 0, 19, 42, 29]
abbrev dktX11_init_0 : List UInt8 := dkwX11_init_0 ++ dktX11_init_1
theorem dksX11_init_0 : cX11_init.data.toList.drop 0 = dktX11_init_0 := by decide +kernel
theorem dksX11_init_1 : cX11_init.data.toList.drop 22 = dktX11_init_1 := dk_seg dksX11_init_0 22 rfl rfl
theorem dX11_init_0 : decode cX11_init 0 = .ok (.aload_n 0, 1) := dk_42 (dk_at dksX11_init_0 0 rfl rfl)
theorem dX11_init_1 : decode cX11_init 1 = .ok (.invokespecial 1, 3) := dk_183 0 1 (dk_at dksX11_init_0 1 rfl rfl)
theorem dX11_init_4 : decode cX11_init 4 = .ok (.aload_n 0, 1) := dk_42 (dk_at dksX11_init_0 4 rfl rfl)
theorem dX11_init_5 : decode cX11_init 5 = .ok (.ldc 7, 2) := dk_18 7 (dk_at dksX11_init_0 5 rfl rfl)
theorem dX11_init_7 : decode cX11_init 7 = .ok (.putfield 9, 3) := dk_181 0 9 (dk_at dksX11_init_0 7 rfl rfl)
theorem dX11_init_10 : decode cX11_init 10 = .ok (.aload_n 0, 1) := dk_42 (dk_at dksX11_init_0 10 rfl rfl)
theorem dX11_init_11 : decode cX11_init 11 = .ok (.iload_n 1, 1) := dk_27 (dk_at dksX11_init_0 11 rfl rfl)
theorem dX11_init_12 : decode cX11_init 12 = .ok (.putfield 15, 3) := dk_181 0 15 (dk_at dksX11_init_0 12 rfl rfl)
theorem dX11_init_15 : decode cX11_init 15 = .ok (.aload_n 0, 1) := dk_42 (dk_at dksX11_init_0 15 rfl rfl)
theorem dX11_init_16 : decode cX11_init 16 = .ok (.iload_n 2, 1) := dk_28 (dk_at dksX11_init_0 16 rfl rfl)
theorem dX11_init_17 : decode cX11_init 17 = .ok (.putfield 19, 3) := dk_181 0 19 (dk_at dksX11_init_0 17 rfl rfl)
theorem dX11_init_20 : decode cX11_init 20 = .ok (.aload_n 0, 1) := dk_42 (dk_at dksX11_init_0 20 rfl rfl)
theorem dX11_init_21 : decode cX11_init 21 = .ok (.iload_n 3, 1) := dk_29 (dk_at dksX11_init_0 21 rfl rfl)
theorem dX11_init_22 : decode cX11_init 22 = .ok (.putfield 22, 3) := dk_181 0 22 (dk_at dksX11_init_1 0 rfl rfl)
theorem dX11_init_25 : decode cX11_init 25 = .ok (.aload_n 0, 1) := dk_42 (dk_at dksX11_init_1 3 rfl rfl)
theorem dX11_init_26 : decode cX11_init 26 = .ok (.iload 4, 2) := dk_21 4 (dk_at dksX11_init_1 4 rfl rfl)
theorem dX11_init_28 : decode cX11_init 28 = .ok (.putfield 25, 3) := dk_181 0 25 (dk_at dksX11_init_1 6 rfl rfl)
theorem dX11_init_31 : decode cX11_init 31 = .ok (.aload_n 0, 1) := dk_42 (dk_at dksX11_init_1 9 rfl rfl)
theorem dX11_init_32 : decode cX11_init 32 = .ok (.iload 5, 2) := dk_21 5 (dk_at dksX11_init_1 10 rfl rfl)
theorem dX11_init_34 : decode cX11_init 34 = .ok (.putfield 28, 3) := dk_181 0 28 (dk_at dksX11_init_1 12 rfl rfl)
theorem dX11_init_37 : decode cX11_init 37 = .ok (.return_, 1) := dk_177 (dk_at dksX11_init_1 15 rfl rfl)
theorem q125 : (Jvm.Cond.initialized "Bogsign$Message") ∈ lw_all := lw_g (lw_at lw_m1 54 rfl) rfl
theorem q941 : (Jvm.Cond.selects "Bogsign$Message" ({ cls := "java/lang/Object", name := "getClass", desc := "()Ljava/lang/Class;" } : Jvm.MethodName) ({ cls := "java/lang/Object", name := "getClass", desc := "()Ljava/lang/Class;" } : Jvm.MethodName)) ∈ lw_all := lw_g (lw_at lw_m4 150 rfl) rfl
theorem q1874 : (Jvm.Cond.instanceMethod ({ cls := "Bogsign$Message", name := "toString", desc := "()Ljava/lang/String;" } : Jvm.MethodName)) ∈ lw_all := lw_g (lw_at lw_m8 123 rfl) rfl
theorem q1875 : (Jvm.Cond.selects "Bogsign$Message" ({ cls := "Bogsign$Message", name := "toString", desc := "()Ljava/lang/String;" } : Jvm.MethodName) ({ cls := "Bogsign$Message", name := "toString", desc := "()Ljava/lang/String;" } : Jvm.MethodName)) ∈ lw_all := lw_g (lw_at lw_m8 124 rfl) rfl
theorem q1876 : (Jvm.Cond.code ({ cls := "Bogsign$Message", name := "toString", desc := "()Ljava/lang/String;" } : Jvm.MethodName) prog_7_method_3_code (2 : Nat) (Option.some (Jvm.ClassFile.FieldType.object "java/lang/String"))) ∈ lw_all := lw_g (lw_at lw_m8 125 rfl) rfl
theorem q1877 : (Jvm.Cond.classLink "Bogsign$Message" (37 : Nat) "java/lang/StringBuilder") ∈ lw_all := lw_g (lw_at lw_m8 126 rfl) rfl
theorem q1878 : (Jvm.Cond.methodLink "Bogsign$Message" (39 : Nat) ({ cls := "java/lang/StringBuilder", name := "<init>", desc := "()V" } : Jvm.MethodName)) ∈ lw_all := lw_g (lw_at lw_m8 127 rfl) rfl
theorem q1879 : (Jvm.Cond.methodLink "Bogsign$Message" (40 : Nat) ({ cls := "Bogsign$Message", name := "text", desc := "()Ljava/lang/String;" } : Jvm.MethodName)) ∈ lw_all := lw_g (lw_at lw_m8 128 rfl) rfl
theorem q1880 : (Jvm.Cond.instanceMethod ({ cls := "Bogsign$Message", name := "text", desc := "()Ljava/lang/String;" } : Jvm.MethodName)) ∈ lw_all := lw_g (lw_at lw_m8 129 rfl) rfl
theorem q1881 : (Jvm.Cond.selects "Bogsign$Message" ({ cls := "Bogsign$Message", name := "text", desc := "()Ljava/lang/String;" } : Jvm.MethodName) ({ cls := "Bogsign$Message", name := "text", desc := "()Ljava/lang/String;" } : Jvm.MethodName)) ∈ lw_all := lw_g (lw_at lw_m8 130 rfl) rfl
theorem q1882 : (Jvm.Cond.code ({ cls := "Bogsign$Message", name := "text", desc := "()Ljava/lang/String;" } : Jvm.MethodName) prog_7_method_2_code (1 : Nat) (Option.some (Jvm.ClassFile.FieldType.object "java/lang/String"))) ∈ lw_all := lw_g (lw_at lw_m8 131 rfl) rfl
theorem q1883 : (Jvm.Cond.methodLink "Bogsign$Message" (31 : Nat) ({ cls := "Bogsign$Words", name := "text", desc := "(I)Ljava/lang/String;" } : Jvm.MethodName)) ∈ lw_all := lw_g (lw_at lw_m8 132 rfl) rfl
theorem q1884 : (Jvm.Cond.methodLink "Bogsign$Message" (43 : Nat) ({ cls := "java/lang/StringBuilder", name := "append", desc := "(Ljava/lang/String;)Ljava/lang/StringBuilder;" } : Jvm.MethodName)) ∈ lw_all := lw_g (lw_at lw_m8 133 rfl) rfl
theorem q1885 : (Jvm.Cond.methodLink "Bogsign$Message" (47 : Nat) ({ cls := "java/lang/StringBuilder", name := "append", desc := "(C)Ljava/lang/StringBuilder;" } : Jvm.MethodName)) ∈ lw_all := lw_g (lw_at lw_m8 134 rfl) rfl
theorem q1905 : (Jvm.Cond.methodLink "Bogsign$Message" (50 : Nat) ({ cls := "java/lang/StringBuilder", name := "append", desc := "(I)Ljava/lang/StringBuilder;" } : Jvm.MethodName)) ∈ lw_all := lw_g (lw_at lw_m8 154 rfl) rfl
theorem q1906 : (Jvm.Cond.stringRef "Bogsign$Message" (53 : Nat) " by ") ∈ lw_tbl := lw_at lw_m8 155 rfl
theorem q1907 : (Jvm.Cond.methodLink "Bogsign$Message" (55 : Nat) ({ cls := "java/lang/StringBuilder", name := "toString", desc := "()Ljava/lang/String;" } : Jvm.MethodName)) ∈ lw_all := lw_g (lw_at lw_m8 156 rfl) rfl
theorem q2022 : (Jvm.Cond.selects "Bogsign$Message" ({ cls := "java/lang/Object", name := "equals", desc := "(Ljava/lang/Object;)Z" } : Jvm.MethodName) ({ cls := "java/lang/Object", name := "equals", desc := "(Ljava/lang/Object;)Z" } : Jvm.MethodName)) ∈ lw_all := lw_g (lw_at lw_m9 31 rfl) rfl
theorem q2178 : (Jvm.Cond.instantiable "Bogsign$Message" (8 : Nat)) ∈ lw_all := lw_g (lw_at lw_m9 187 rfl) rfl
theorem q2180 : (Jvm.Cond.instanceMethod ({ cls := "Bogsign$Message", name := "<init>", desc := "(IIIII)V" } : Jvm.MethodName)) ∈ lw_all := lw_g (lw_at lw_m9 189 rfl) rfl
theorem q2181 : (Jvm.Cond.code ({ cls := "Bogsign$Message", name := "<init>", desc := "(IIIII)V" } : Jvm.MethodName) prog_7_method_1_code (6 : Nat) (Option.none : Option Jvm.ClassFile.FieldType)) ∈ lw_all := lw_g (lw_at lw_m9 190 rfl) rfl
theorem q2182 : (Jvm.Cond.methodLink "Bogsign$Message" (1 : Nat) ({ cls := "java/lang/Object", name := "<init>", desc := "()V" } : Jvm.MethodName)) ∈ lw_all := lw_g (lw_at lw_m9 191 rfl) rfl
theorem q2183 : (Jvm.Cond.stringRef "Bogsign$Message" (7 : Nat) "") ∈ lw_tbl := lw_at lw_m9 192 rfl
theorem q2184 : (Jvm.Cond.fieldLink "Bogsign$Message" (15 : Nat) "Bogsign$Message" "rider" "I") ∈ lw_all := lw_g (lw_at lw_m9 193 rfl) rfl
theorem q2186 : (Jvm.Cond.fieldLink "Bogsign$Message" (19 : Nat) "Bogsign$Message" "stretch" "I") ∈ lw_all := lw_g (lw_at lw_m9 195 rfl) rfl
theorem q2188 : (Jvm.Cond.fieldLink "Bogsign$Message" (22 : Nat) "Bogsign$Message" "word" "I") ∈ lw_all := lw_g (lw_at lw_m9 197 rfl) rfl
theorem q2190 : (Jvm.Cond.fieldLink "Bogsign$Message" (25 : Nat) "Bogsign$Message" "sent" "I") ∈ lw_all := lw_g (lw_at lw_m9 199 rfl) rfl
theorem q2192 : (Jvm.Cond.fieldLink "Bogsign$Message" (28 : Nat) "Bogsign$Message" "arrives" "I") ∈ lw_all := lw_g (lw_at lw_m9 201 rfl) rfl
theorem q2196 : (Jvm.Cond.fieldLink "Bogsign$Message" (9 : Nat) "Bogsign$Message" "line" "Ljava/lang/String;") ∈ lw_all := lw_g (lw_at lw_m9 205 rfl) rfl
theorem q2198 : (Jvm.Cond.laysFinal "Bogsign$Message" "Bogsign$Message" "rider" "I") ∈ lw_all := lw_g (lw_at lw_m9 207 rfl) rfl
theorem q2199 : (Jvm.Cond.soleField "Bogsign$Message" "rider") ∈ lw_all := lw_g (lw_at lw_m9 208 rfl) rfl
theorem q2200 : (Jvm.Cond.laysFinal "Bogsign$Message" "Bogsign$Message" "stretch" "I") ∈ lw_all := lw_g (lw_at lw_m9 209 rfl) rfl
theorem q2201 : (Jvm.Cond.soleField "Bogsign$Message" "stretch") ∈ lw_all := lw_g (lw_at lw_m9 210 rfl) rfl
theorem q2202 : (Jvm.Cond.laysFinal "Bogsign$Message" "Bogsign$Message" "word" "I") ∈ lw_all := lw_g (lw_at lw_m9 211 rfl) rfl
theorem q2203 : (Jvm.Cond.soleField "Bogsign$Message" "word") ∈ lw_all := lw_g (lw_at lw_m9 212 rfl) rfl
theorem q2204 : (Jvm.Cond.laysFinal "Bogsign$Message" "Bogsign$Message" "sent" "I") ∈ lw_all := lw_g (lw_at lw_m9 213 rfl) rfl
theorem q2205 : (Jvm.Cond.soleField "Bogsign$Message" "sent") ∈ lw_all := lw_g (lw_at lw_m9 214 rfl) rfl
theorem q2206 : (Jvm.Cond.laysFinal "Bogsign$Message" "Bogsign$Message" "arrives" "I") ∈ lw_all := lw_g (lw_at lw_m9 215 rfl) rfl
theorem q2207 : (Jvm.Cond.soleField "Bogsign$Message" "arrives") ∈ lw_all := lw_g (lw_at lw_m9 216 rfl) rfl
theorem q2208 : (Jvm.Cond.lays "Bogsign$Message" "Bogsign$Message" "hasArrived" "Z") ∈ lw_all := lw_g (lw_at lw_m9 217 rfl) rfl
theorem q2209 : (Jvm.Cond.soleField "Bogsign$Message" "hasArrived") ∈ lw_all := lw_g (lw_at lw_m9 218 rfl) rfl
theorem q2210 : (Jvm.Cond.lays "Bogsign$Message" "Bogsign$Message" "isWeighed" "Z") ∈ lw_all := lw_g (lw_at lw_m9 219 rfl) rfl
theorem q2211 : (Jvm.Cond.soleField "Bogsign$Message" "isWeighed") ∈ lw_all := lw_g (lw_at lw_m9 220 rfl) rfl
theorem q2212 : (Jvm.Cond.lays "Bogsign$Message" "Bogsign$Message" "line" "Ljava/lang/String;") ∈ lw_all := lw_g (lw_at lw_m9 221 rfl) rfl
theorem q2213 : (Jvm.Cond.soleField "Bogsign$Message" "line") ∈ lw_all := lw_g (lw_at lw_m9 222 rfl) rfl
theorem q2214 : (Jvm.Cond.superclass "Bogsign$Message" "java/lang/Object") ∈ lw_all := lw_g (lw_at lw_m9 223 rfl) rfl
theorem q2710 : (Jvm.Cond.castable "Bogsign$Message" "java/lang/Object") ∈ lw_tbl := lw_at lw_m11 239 rfl
theorem in_X11 : ∀ w ∈ wsX110, w ∈ lw_all := lw_in wsX110 [2198, 2200, 2202, 2204, 2206, 2208, 2210, 2212] (by decide +kernel) (by decide +kernel)

/-! Bogsign$Carried -/
set_option maxRecDepth 100000
def RX12 : String := "Bogsign$Carried"
def TX12 : u_T := fun k => match k with
  | _ => ("Bogsign$Carried", "message", "LBogsign$Message;", true)
def tyX12 : Nat → FieldType := fun k => match k with
  | _ => .object "Bogsign$Message"
abbrev wsX120 : List Cond := u_ws RX12 TX12 1
theorem nmX12 : ∀ a, a < 1 → ∀ b, b < 1 → a ≠ b → (TX12 a).2.1 ≠ (TX12 b).2.1 := by decide +kernel
theorem tyX12_ok : ∀ k, k < 1 → parseFieldDescriptor (TX12 k).2.2.1 = some (tyX12 k) := by decide +kernel
abbrev cX12_init : ByteArray := prog_3_method_1_code
def yX12_init : MethodName := ⟨RX12, "<init>", "(LBogsign$Message;)V"⟩
def dkwX12_init_0 : List UInt8 := [42, 183, 0, 1, 42, 43, 181, 0, 7, 177]
abbrev dktX12_init_0 : List UInt8 := dkwX12_init_0 ++ []
theorem dksX12_init_0 : cX12_init.data.toList.drop 0 = dktX12_init_0 := by decide +kernel
theorem dX12_init_0 : decode cX12_init 0 = .ok (.aload_n 0, 1) := dk_42 (dk_at dksX12_init_0 0 rfl rfl)
theorem dX12_init_1 : decode cX12_init 1 = .ok (.invokespecial 1, 3) := dk_183 0 1 (dk_at dksX12_init_0 1 rfl rfl)
theorem dX12_init_4 : decode cX12_init 4 = .ok (.aload_n 0, 1) := dk_42 (dk_at dksX12_init_0 4 rfl rfl)
theorem dX12_init_5 : decode cX12_init 5 = .ok (.aload_n 1, 1) := dk_43 (dk_at dksX12_init_0 5 rfl rfl)
theorem dX12_init_6 : decode cX12_init 6 = .ok (.putfield 7, 3) := dk_181 0 7 (dk_at dksX12_init_0 6 rfl rfl)
theorem dX12_init_9 : decode cX12_init 9 = .ok (.return_, 1) := dk_177 (dk_at dksX12_init_0 9 rfl rfl)
theorem q126 : (Jvm.Cond.initialized "Bogsign$Carried") ∈ lw_all := lw_g (lw_at lw_m1 55 rfl) rfl
theorem q938 : (Jvm.Cond.selects "Bogsign$Carried" ({ cls := "java/lang/Object", name := "getClass", desc := "()Ljava/lang/Class;" } : Jvm.MethodName) ({ cls := "java/lang/Object", name := "getClass", desc := "()Ljava/lang/Class;" } : Jvm.MethodName)) ∈ lw_all := lw_g (lw_at lw_m4 147 rfl) rfl
theorem q2019 : (Jvm.Cond.selects "Bogsign$Carried" ({ cls := "java/lang/Object", name := "equals", desc := "(Ljava/lang/Object;)Z" } : Jvm.MethodName) ({ cls := "java/lang/Object", name := "equals", desc := "(Ljava/lang/Object;)Z" } : Jvm.MethodName)) ∈ lw_all := lw_g (lw_at lw_m9 28 rfl) rfl
theorem q2215 : (Jvm.Cond.instantiable "Bogsign$Carried" (1 : Nat)) ∈ lw_all := lw_g (lw_at lw_m9 224 rfl) rfl
theorem q2217 : (Jvm.Cond.instanceMethod ({ cls := "Bogsign$Carried", name := "<init>", desc := "(LBogsign$Message;)V" } : Jvm.MethodName)) ∈ lw_all := lw_g (lw_at lw_m9 226 rfl) rfl
theorem q2218 : (Jvm.Cond.code ({ cls := "Bogsign$Carried", name := "<init>", desc := "(LBogsign$Message;)V" } : Jvm.MethodName) prog_3_method_1_code (2 : Nat) (Option.none : Option Jvm.ClassFile.FieldType)) ∈ lw_all := lw_g (lw_at lw_m9 227 rfl) rfl
theorem q2219 : (Jvm.Cond.methodLink "Bogsign$Carried" (1 : Nat) ({ cls := "java/lang/Object", name := "<init>", desc := "()V" } : Jvm.MethodName)) ∈ lw_all := lw_g (lw_at lw_m9 228 rfl) rfl
theorem q2220 : (Jvm.Cond.fieldLink "Bogsign$Carried" (7 : Nat) "Bogsign$Carried" "message" "LBogsign$Message;") ∈ lw_all := lw_g (lw_at lw_m9 229 rfl) rfl
theorem q2222 : (Jvm.Cond.laysFinal "Bogsign$Carried" "Bogsign$Carried" "message" "LBogsign$Message;") ∈ lw_all := lw_g (lw_at lw_m9 231 rfl) rfl
theorem q2223 : (Jvm.Cond.soleField "Bogsign$Carried" "message") ∈ lw_all := lw_g (lw_at lw_m9 232 rfl) rfl
theorem q2224 : (Jvm.Cond.superclass "Bogsign$Carried" "java/lang/Object") ∈ lw_all := lw_g (lw_at lw_m9 233 rfl) rfl
theorem q2676 : (Jvm.Cond.castable "Bogsign$Carried" "Bogsign$Coming") ∈ lw_tbl := lw_at lw_m11 205 rfl
theorem q2711 : (Jvm.Cond.castable "Bogsign$Carried" "java/lang/Object") ∈ lw_tbl := lw_at lw_m12 0 rfl
theorem in_X12 : ∀ w ∈ wsX120, w ∈ lw_all := lw_in wsX120 [2222] (by decide +kernel) (by decide +kernel)

/-! Bogsign$Stretch -/
set_option maxRecDepth 100000
def RX2 : String := "Bogsign$Stretch"
def TX2 : u_T := fun k => match k with
  | 0 => ("Bogsign$Stretch", "number", "I", true)
  | 1 => ("Bogsign$Stretch", "boards", "Ljava/util/LinkedList;", true)
  | 2 => ("Bogsign$Stretch", "presses", "Ljava/util/List;", true)
  | 3 => ("Bogsign$Stretch", "softness", "I", false)
  | 4 => ("Bogsign$Stretch", "weights", "I", false)
  | 5 => ("Bogsign$Stretch", "found", "I", false)
  | 6 => ("Bogsign$Stretch", "isFound", "Z", false)
  | _ => ("Bogsign$Stretch", "latest", "Ljava/util/Optional;", false)
def tyX2 : Nat → FieldType := fun k => match k with
  | 0 => .int
  | 1 => .object "java/util/LinkedList"
  | 2 => .object "java/util/List"
  | 3 => .int
  | 4 => .int
  | 5 => .int
  | 6 => .boolean
  | _ => .object "java/util/Optional"
abbrev wsX20 : List Cond := u_ws RX2 TX2 8
theorem nmX2 : ∀ a, a < 8 → ∀ b, b < 8 → a ≠ b → (TX2 a).2.1 ≠ (TX2 b).2.1 := by decide +kernel
theorem tyX2_ok : ∀ k, k < 8 → parseFieldDescriptor (TX2 k).2.2.1 = some (tyX2 k) := by decide +kernel
abbrev cX2_init : ByteArray := prog_11_method_1_code
def yX2_init : MethodName := ⟨RX2, "<init>", "(I)V"⟩
def dkwX2_init_1 : List UInt8 := [181, 0, 21, 42, 8, 181, 0, 25, 42, 184, 0, 29, 181, 0, 35, 42, 27, 181, 0, 39, 177]
abbrev dktX2_init_1 : List UInt8 := dkwX2_init_1 ++ []
def dkwX2_init_0 : List UInt8 := [42, 183, 0, 3, 42, 187, 0, 9, 89, 183, 0, 11, 181, 0, 12, 42, 187, 0, 18, 89, 183, 0, 20]
abbrev dktX2_init_0 : List UInt8 := dkwX2_init_0 ++ dktX2_init_1
theorem dksX2_init_0 : cX2_init.data.toList.drop 0 = dktX2_init_0 := by decide +kernel
theorem dksX2_init_1 : cX2_init.data.toList.drop 23 = dktX2_init_1 := dk_seg dksX2_init_0 23 rfl rfl
theorem dX2_init_0 : decode cX2_init 0 = .ok (.aload_n 0, 1) := dk_42 (dk_at dksX2_init_0 0 rfl rfl)
theorem dX2_init_1 : decode cX2_init 1 = .ok (.invokespecial 3, 3) := dk_183 0 3 (dk_at dksX2_init_0 1 rfl rfl)
theorem dX2_init_4 : decode cX2_init 4 = .ok (.aload_n 0, 1) := dk_42 (dk_at dksX2_init_0 4 rfl rfl)
theorem dX2_init_5 : decode cX2_init 5 = .ok (.new 9, 3) := dk_187 0 9 (dk_at dksX2_init_0 5 rfl rfl)
theorem dX2_init_8 : decode cX2_init 8 = .ok (.dup, 1) := dk_89 (dk_at dksX2_init_0 8 rfl rfl)
theorem dX2_init_9 : decode cX2_init 9 = .ok (.invokespecial 11, 3) := dk_183 0 11 (dk_at dksX2_init_0 9 rfl rfl)
theorem dX2_init_12 : decode cX2_init 12 = .ok (.putfield 12, 3) := dk_181 0 12 (dk_at dksX2_init_0 12 rfl rfl)
theorem dX2_init_15 : decode cX2_init 15 = .ok (.aload_n 0, 1) := dk_42 (dk_at dksX2_init_0 15 rfl rfl)
theorem dX2_init_16 : decode cX2_init 16 = .ok (.new 18, 3) := dk_187 0 18 (dk_at dksX2_init_0 16 rfl rfl)
theorem dX2_init_19 : decode cX2_init 19 = .ok (.dup, 1) := dk_89 (dk_at dksX2_init_0 19 rfl rfl)
theorem dX2_init_20 : decode cX2_init 20 = .ok (.invokespecial 20, 3) := dk_183 0 20 (dk_at dksX2_init_0 20 rfl rfl)
theorem dX2_init_23 : decode cX2_init 23 = .ok (.putfield 21, 3) := dk_181 0 21 (dk_at dksX2_init_1 0 rfl rfl)
theorem dX2_init_26 : decode cX2_init 26 = .ok (.aload_n 0, 1) := dk_42 (dk_at dksX2_init_1 3 rfl rfl)
theorem dX2_init_27 : decode cX2_init 27 = .ok (.iconst 5, 1) := dk_8 (dk_at dksX2_init_1 4 rfl rfl)
theorem dX2_init_28 : decode cX2_init 28 = .ok (.putfield 25, 3) := dk_181 0 25 (dk_at dksX2_init_1 5 rfl rfl)
theorem dX2_init_31 : decode cX2_init 31 = .ok (.aload_n 0, 1) := dk_42 (dk_at dksX2_init_1 8 rfl rfl)
theorem dX2_init_32 : decode cX2_init 32 = .ok (.invokestatic 29, 3) := dk_184 0 29 (dk_at dksX2_init_1 9 rfl rfl)
theorem dX2_init_35 : decode cX2_init 35 = .ok (.putfield 35, 3) := dk_181 0 35 (dk_at dksX2_init_1 12 rfl rfl)
theorem dX2_init_38 : decode cX2_init 38 = .ok (.aload_n 0, 1) := dk_42 (dk_at dksX2_init_1 15 rfl rfl)
theorem dX2_init_39 : decode cX2_init 39 = .ok (.iload_n 1, 1) := dk_27 (dk_at dksX2_init_1 16 rfl rfl)
theorem dX2_init_40 : decode cX2_init 40 = .ok (.putfield 39, 3) := dk_181 0 39 (dk_at dksX2_init_1 17 rfl rfl)
theorem dX2_init_43 : decode cX2_init 43 = .ok (.return_, 1) := dk_177 (dk_at dksX2_init_1 20 rfl rfl)
abbrev cX2_depthAgain : ByteArray := prog_11_method_10_code
def yX2_depthAgain : MethodName := ⟨RX2, "depthAgain", "(LBogsign$Board;)I"⟩
def dkwX2_depthAgain_2 : List UInt8 := [185, 0, 119, 2, 0, 192, 0, 68, 182, 0, 123, 96, 61, 132, 4, 1, 167, 255, 227, 28, 172]
abbrev dktX2_depthAgain_2 : List UInt8 := dkwX2_depthAgain_2 ++ []
def dkwX2_depthAgain_1 : List UInt8 := [180, 0, 101, 62, 43, 180, 0, 57, 54, 4, 21, 4, 29, 162, 0, 29, 28, 42, 180, 0, 21, 21, 4]
abbrev dktX2_depthAgain_1 : List UInt8 := dkwX2_depthAgain_1 ++ dktX2_depthAgain_2
def dkwX2_depthAgain_0 : List UInt8 := [3, 61, 43, 180, 0, 101, 2, 160, 0, 15, 42, 180, 0, 21, 185, 0, 51, 1, 0, 167, 0, 7, 43]
abbrev dktX2_depthAgain_0 : List UInt8 := dkwX2_depthAgain_0 ++ dktX2_depthAgain_1
theorem dksX2_depthAgain_0 : cX2_depthAgain.data.toList.drop 0 = dktX2_depthAgain_0 := by decide +kernel
theorem dksX2_depthAgain_1 : cX2_depthAgain.data.toList.drop 23 = dktX2_depthAgain_1 := dk_seg dksX2_depthAgain_0 23 rfl rfl
theorem dksX2_depthAgain_2 : cX2_depthAgain.data.toList.drop 46 = dktX2_depthAgain_2 := dk_seg dksX2_depthAgain_1 23 rfl rfl
theorem dX2_depthAgain_0 : decode cX2_depthAgain 0 = .ok (.iconst 0, 1) := dk_3 (dk_at dksX2_depthAgain_0 0 rfl rfl)
theorem dX2_depthAgain_1 : decode cX2_depthAgain 1 = .ok (.istore_n 2, 1) := dk_61 (dk_at dksX2_depthAgain_0 1 rfl rfl)
theorem dX2_depthAgain_2 : decode cX2_depthAgain 2 = .ok (.aload_n 1, 1) := dk_43 (dk_at dksX2_depthAgain_0 2 rfl rfl)
theorem dX2_depthAgain_3 : decode cX2_depthAgain 3 = .ok (.getfield 101, 3) := dk_180 0 101 (dk_at dksX2_depthAgain_0 3 rfl rfl)
theorem dX2_depthAgain_6 : decode cX2_depthAgain 6 = .ok (.iconst (-1), 1) := dk_2 (dk_at dksX2_depthAgain_0 6 rfl rfl)
theorem dX2_depthAgain_7 : decode cX2_depthAgain 7 = .ok (.if_icmp .ne 15, 3) := dk_160 0 15 (dk_at dksX2_depthAgain_0 7 rfl rfl)
theorem dX2_depthAgain_10 : decode cX2_depthAgain 10 = .ok (.aload_n 0, 1) := dk_42 (dk_at dksX2_depthAgain_0 10 rfl rfl)
theorem dX2_depthAgain_11 : decode cX2_depthAgain 11 = .ok (.getfield 21, 3) := dk_180 0 21 (dk_at dksX2_depthAgain_0 11 rfl rfl)
theorem dX2_depthAgain_14 : decode cX2_depthAgain 14 = .ok (.invokeinterface 51 1, 5) := by decide +kernel
theorem dX2_depthAgain_19 : decode cX2_depthAgain 19 = .ok (.goto 7, 3) := dk_167 0 7 (dk_at dksX2_depthAgain_0 19 rfl rfl)
theorem dX2_depthAgain_22 : decode cX2_depthAgain 22 = .ok (.aload_n 1, 1) := dk_43 (dk_at dksX2_depthAgain_0 22 rfl rfl)
theorem dX2_depthAgain_23 : decode cX2_depthAgain 23 = .ok (.getfield 101, 3) := dk_180 0 101 (dk_at dksX2_depthAgain_1 0 rfl rfl)
theorem dX2_depthAgain_26 : decode cX2_depthAgain 26 = .ok (.istore_n 3, 1) := dk_62 (dk_at dksX2_depthAgain_1 3 rfl rfl)
theorem dX2_depthAgain_27 : decode cX2_depthAgain 27 = .ok (.aload_n 1, 1) := dk_43 (dk_at dksX2_depthAgain_1 4 rfl rfl)
theorem dX2_depthAgain_28 : decode cX2_depthAgain 28 = .ok (.getfield 57, 3) := dk_180 0 57 (dk_at dksX2_depthAgain_1 5 rfl rfl)
theorem dX2_depthAgain_31 : decode cX2_depthAgain 31 = .ok (.istore 4, 2) := dk_54 4 (dk_at dksX2_depthAgain_1 8 rfl rfl)
theorem dX2_depthAgain_33 : decode cX2_depthAgain 33 = .ok (.iload 4, 2) := dk_21 4 (dk_at dksX2_depthAgain_1 10 rfl rfl)
theorem dX2_depthAgain_35 : decode cX2_depthAgain 35 = .ok (.iload_n 3, 1) := dk_29 (dk_at dksX2_depthAgain_1 12 rfl rfl)
theorem dX2_depthAgain_36 : decode cX2_depthAgain 36 = .ok (.if_icmp .ge 29, 3) := dk_162 0 29 (dk_at dksX2_depthAgain_1 13 rfl rfl)
theorem dX2_depthAgain_39 : decode cX2_depthAgain 39 = .ok (.iload_n 2, 1) := dk_28 (dk_at dksX2_depthAgain_1 16 rfl rfl)
theorem dX2_depthAgain_40 : decode cX2_depthAgain 40 = .ok (.aload_n 0, 1) := dk_42 (dk_at dksX2_depthAgain_1 17 rfl rfl)
theorem dX2_depthAgain_41 : decode cX2_depthAgain 41 = .ok (.getfield 21, 3) := dk_180 0 21 (dk_at dksX2_depthAgain_1 18 rfl rfl)
theorem dX2_depthAgain_44 : decode cX2_depthAgain 44 = .ok (.iload 4, 2) := dk_21 4 (dk_at dksX2_depthAgain_1 21 rfl rfl)
theorem dX2_depthAgain_46 : decode cX2_depthAgain 46 = .ok (.invokeinterface 119 2, 5) := by decide +kernel
theorem dX2_depthAgain_51 : decode cX2_depthAgain 51 = .ok (.checkcast 68, 3) := dk_192 0 68 (dk_at dksX2_depthAgain_2 5 rfl rfl)
theorem dX2_depthAgain_54 : decode cX2_depthAgain 54 = .ok (.invokevirtual 123, 3) := dk_182 0 123 (dk_at dksX2_depthAgain_2 8 rfl rfl)
theorem dX2_depthAgain_57 : decode cX2_depthAgain 57 = .ok (.iadd, 1) := dk_96 (dk_at dksX2_depthAgain_2 11 rfl rfl)
theorem dX2_depthAgain_58 : decode cX2_depthAgain 58 = .ok (.istore_n 2, 1) := dk_61 (dk_at dksX2_depthAgain_2 12 rfl rfl)
theorem dX2_depthAgain_59 : decode cX2_depthAgain 59 = .ok (.iinc 4 1, 3) := dk_132 4 1 (dk_at dksX2_depthAgain_2 13 rfl rfl)
theorem dX2_depthAgain_62 : decode cX2_depthAgain 62 = .ok (.goto (-29), 3) := dk_167 255 227 (dk_at dksX2_depthAgain_2 16 rfl rfl)
theorem dX2_depthAgain_65 : decode cX2_depthAgain 65 = .ok (.iload_n 2, 1) := dk_28 (dk_at dksX2_depthAgain_2 19 rfl rfl)
theorem dX2_depthAgain_66 : decode cX2_depthAgain 66 = .ok (.ireturn, 1) := dk_172 (dk_at dksX2_depthAgain_2 20 rfl rfl)
abbrev cX2_lays : ByteArray := prog_11_method_3_code
def yX2_lays : MethodName := ⟨RX2, "lays", "(LBogsign$Board;)V"⟩
def dkwX2_lays_1 : List UInt8 := [182, 0, 60, 177]
abbrev dktX2_lays_1 : List UInt8 := dkwX2_lays_1 ++ []
def dkwX2_lays_0 : List UInt8 := [43, 5, 181, 0, 46, 43, 42, 180, 0, 21, 185, 0, 51, 1, 0, 181, 0, 57, 42, 180, 0, 12, 43]
abbrev dktX2_lays_0 : List UInt8 := dkwX2_lays_0 ++ dktX2_lays_1
theorem dksX2_lays_0 : cX2_lays.data.toList.drop 0 = dktX2_lays_0 := by decide +kernel
theorem dksX2_lays_1 : cX2_lays.data.toList.drop 23 = dktX2_lays_1 := dk_seg dksX2_lays_0 23 rfl rfl
theorem dX2_lays_0 : decode cX2_lays 0 = .ok (.aload_n 1, 1) := dk_43 (dk_at dksX2_lays_0 0 rfl rfl)
theorem dX2_lays_1 : decode cX2_lays 1 = .ok (.iconst 2, 1) := dk_5 (dk_at dksX2_lays_0 1 rfl rfl)
theorem dX2_lays_2 : decode cX2_lays 2 = .ok (.putfield 46, 3) := dk_181 0 46 (dk_at dksX2_lays_0 2 rfl rfl)
theorem dX2_lays_5 : decode cX2_lays 5 = .ok (.aload_n 1, 1) := dk_43 (dk_at dksX2_lays_0 5 rfl rfl)
theorem dX2_lays_6 : decode cX2_lays 6 = .ok (.aload_n 0, 1) := dk_42 (dk_at dksX2_lays_0 6 rfl rfl)
theorem dX2_lays_7 : decode cX2_lays 7 = .ok (.getfield 21, 3) := dk_180 0 21 (dk_at dksX2_lays_0 7 rfl rfl)
theorem dX2_lays_10 : decode cX2_lays 10 = .ok (.invokeinterface 51 1, 5) := by decide +kernel
theorem dX2_lays_15 : decode cX2_lays 15 = .ok (.putfield 57, 3) := dk_181 0 57 (dk_at dksX2_lays_0 15 rfl rfl)
theorem dX2_lays_18 : decode cX2_lays 18 = .ok (.aload_n 0, 1) := dk_42 (dk_at dksX2_lays_0 18 rfl rfl)
theorem dX2_lays_19 : decode cX2_lays 19 = .ok (.getfield 12, 3) := dk_180 0 12 (dk_at dksX2_lays_0 19 rfl rfl)
theorem dX2_lays_22 : decode cX2_lays 22 = .ok (.aload_n 1, 1) := dk_43 (dk_at dksX2_lays_0 22 rfl rfl)
theorem dX2_lays_23 : decode cX2_lays 23 = .ok (.invokevirtual 60, 3) := dk_182 0 60 (dk_at dksX2_lays_1 0 rfl rfl)
theorem dX2_lays_26 : decode cX2_lays 26 = .ok (.return_, 1) := dk_177 (dk_at dksX2_lays_1 3 rfl rfl)
abbrev cX2_presses : ByteArray := prog_11_method_4_code
def yX2_presses : MethodName := ⟨RX2, "presses", "(I)V"⟩
def dkwX2_presses_5 : List UInt8 := [167, 0, 10, 42, 25, 5, 6, 182, 0, 97, 132, 4, 1, 167, 255, 205, 177]
abbrev dktX2_presses_5 : List UInt8 := dkwX2_presses_5 ++ []
def dkwX2_presses_4 : List UInt8 := [58, 5, 25, 5, 180, 0, 90, 17, 3, 232, 162, 0, 15, 42, 180, 0, 12, 25, 5, 182, 0, 60]
abbrev dktX2_presses_4 : List UInt8 := dkwX2_presses_4 ++ dktX2_presses_5
def dkwX2_presses_3 : List UInt8 := [182, 0, 93, 62, 3, 54, 4, 21, 4, 29, 162, 0, 51, 42, 180, 0, 12, 182, 0, 94, 192, 0, 47]
abbrev dktX2_presses_3 : List UInt8 := dkwX2_presses_3 ++ dktX2_presses_4
def dkwX2_presses_2 : List UInt8 := [192, 0, 47, 58, 4, 25, 4, 89, 180, 0, 90, 27, 96, 181, 0, 90, 167, 255, 225, 42, 180, 0, 12]
abbrev dktX2_presses_2 : List UInt8 := dkwX2_presses_2 ++ dktX2_presses_3
def dkwX2_presses_1 : List UInt8 := [180, 0, 12, 182, 0, 77, 78, 45, 185, 0, 81, 1, 0, 153, 0, 28, 45, 185, 0, 86, 1, 0]
abbrev dktX2_presses_1 : List UInt8 := dkwX2_presses_1 ++ dktX2_presses_2
def dkwX2_presses_0 : List UInt8 := [42, 182, 0, 64, 153, 0, 4, 177, 42, 180, 0, 21, 27, 184, 0, 67, 185, 0, 73, 2, 0, 61, 42]
abbrev dktX2_presses_0 : List UInt8 := dkwX2_presses_0 ++ dktX2_presses_1
theorem dksX2_presses_0 : cX2_presses.data.toList.drop 0 = dktX2_presses_0 := by decide +kernel
theorem dksX2_presses_1 : cX2_presses.data.toList.drop 23 = dktX2_presses_1 := dk_seg dksX2_presses_0 23 rfl rfl
theorem dksX2_presses_2 : cX2_presses.data.toList.drop 45 = dktX2_presses_2 := dk_seg dksX2_presses_1 22 rfl rfl
theorem dksX2_presses_3 : cX2_presses.data.toList.drop 68 = dktX2_presses_3 := dk_seg dksX2_presses_2 23 rfl rfl
theorem dksX2_presses_4 : cX2_presses.data.toList.drop 91 = dktX2_presses_4 := dk_seg dksX2_presses_3 23 rfl rfl
theorem dksX2_presses_5 : cX2_presses.data.toList.drop 113 = dktX2_presses_5 := dk_seg dksX2_presses_4 22 rfl rfl
theorem dX2_presses_0 : decode cX2_presses 0 = .ok (.aload_n 0, 1) := dk_42 (dk_at dksX2_presses_0 0 rfl rfl)
theorem dX2_presses_1 : decode cX2_presses 1 = .ok (.invokevirtual 64, 3) := dk_182 0 64 (dk_at dksX2_presses_0 1 rfl rfl)
theorem dX2_presses_4 : decode cX2_presses 4 = .ok (.ifCond .eq 4, 3) := dk_153 0 4 (dk_at dksX2_presses_0 4 rfl rfl)
theorem dX2_presses_7 : decode cX2_presses 7 = .ok (.return_, 1) := dk_177 (dk_at dksX2_presses_0 7 rfl rfl)
theorem dX2_presses_8 : decode cX2_presses 8 = .ok (.aload_n 0, 1) := dk_42 (dk_at dksX2_presses_0 8 rfl rfl)
theorem dX2_presses_9 : decode cX2_presses 9 = .ok (.getfield 21, 3) := dk_180 0 21 (dk_at dksX2_presses_0 9 rfl rfl)
theorem dX2_presses_12 : decode cX2_presses 12 = .ok (.iload_n 1, 1) := dk_27 (dk_at dksX2_presses_0 12 rfl rfl)
theorem dX2_presses_13 : decode cX2_presses 13 = .ok (.invokestatic 67, 3) := dk_184 0 67 (dk_at dksX2_presses_0 13 rfl rfl)
theorem dX2_presses_16 : decode cX2_presses 16 = .ok (.invokeinterface 73 2, 5) := by decide +kernel
theorem dX2_presses_21 : decode cX2_presses 21 = .ok (.istore_n 2, 1) := dk_61 (dk_at dksX2_presses_0 21 rfl rfl)
theorem dX2_presses_22 : decode cX2_presses 22 = .ok (.aload_n 0, 1) := dk_42 (dk_at dksX2_presses_0 22 rfl rfl)
theorem dX2_presses_23 : decode cX2_presses 23 = .ok (.getfield 12, 3) := dk_180 0 12 (dk_at dksX2_presses_1 0 rfl rfl)
theorem dX2_presses_26 : decode cX2_presses 26 = .ok (.invokevirtual 77, 3) := dk_182 0 77 (dk_at dksX2_presses_1 3 rfl rfl)
theorem dX2_presses_29 : decode cX2_presses 29 = .ok (.astore_n 3, 1) := dk_78 (dk_at dksX2_presses_1 6 rfl rfl)
theorem dX2_presses_30 : decode cX2_presses 30 = .ok (.aload_n 3, 1) := dk_45 (dk_at dksX2_presses_1 7 rfl rfl)
theorem dX2_presses_31 : decode cX2_presses 31 = .ok (.invokeinterface 81 1, 5) := by decide +kernel
theorem dX2_presses_36 : decode cX2_presses 36 = .ok (.ifCond .eq 28, 3) := dk_153 0 28 (dk_at dksX2_presses_1 13 rfl rfl)
theorem dX2_presses_39 : decode cX2_presses 39 = .ok (.aload_n 3, 1) := dk_45 (dk_at dksX2_presses_1 16 rfl rfl)
theorem dX2_presses_40 : decode cX2_presses 40 = .ok (.invokeinterface 86 1, 5) := by decide +kernel
theorem dX2_presses_45 : decode cX2_presses 45 = .ok (.checkcast 47, 3) := dk_192 0 47 (dk_at dksX2_presses_2 0 rfl rfl)
theorem dX2_presses_48 : decode cX2_presses 48 = .ok (.astore 4, 2) := dk_58 4 (dk_at dksX2_presses_2 3 rfl rfl)
theorem dX2_presses_50 : decode cX2_presses 50 = .ok (.aload 4, 2) := dk_25 4 (dk_at dksX2_presses_2 5 rfl rfl)
theorem dX2_presses_52 : decode cX2_presses 52 = .ok (.dup, 1) := dk_89 (dk_at dksX2_presses_2 7 rfl rfl)
theorem dX2_presses_53 : decode cX2_presses 53 = .ok (.getfield 90, 3) := dk_180 0 90 (dk_at dksX2_presses_2 8 rfl rfl)
theorem dX2_presses_56 : decode cX2_presses 56 = .ok (.iload_n 1, 1) := dk_27 (dk_at dksX2_presses_2 11 rfl rfl)
theorem dX2_presses_57 : decode cX2_presses 57 = .ok (.iadd, 1) := dk_96 (dk_at dksX2_presses_2 12 rfl rfl)
theorem dX2_presses_58 : decode cX2_presses 58 = .ok (.putfield 90, 3) := dk_181 0 90 (dk_at dksX2_presses_2 13 rfl rfl)
theorem dX2_presses_61 : decode cX2_presses 61 = .ok (.goto (-31), 3) := dk_167 255 225 (dk_at dksX2_presses_2 16 rfl rfl)
theorem dX2_presses_64 : decode cX2_presses 64 = .ok (.aload_n 0, 1) := dk_42 (dk_at dksX2_presses_2 19 rfl rfl)
theorem dX2_presses_65 : decode cX2_presses 65 = .ok (.getfield 12, 3) := dk_180 0 12 (dk_at dksX2_presses_2 20 rfl rfl)
theorem dX2_presses_68 : decode cX2_presses 68 = .ok (.invokevirtual 93, 3) := dk_182 0 93 (dk_at dksX2_presses_3 0 rfl rfl)
theorem dX2_presses_71 : decode cX2_presses 71 = .ok (.istore_n 3, 1) := dk_62 (dk_at dksX2_presses_3 3 rfl rfl)
theorem dX2_presses_72 : decode cX2_presses 72 = .ok (.iconst 0, 1) := dk_3 (dk_at dksX2_presses_3 4 rfl rfl)
theorem dX2_presses_73 : decode cX2_presses 73 = .ok (.istore 4, 2) := dk_54 4 (dk_at dksX2_presses_3 5 rfl rfl)
theorem dX2_presses_75 : decode cX2_presses 75 = .ok (.iload 4, 2) := dk_21 4 (dk_at dksX2_presses_3 7 rfl rfl)
theorem dX2_presses_77 : decode cX2_presses 77 = .ok (.iload_n 3, 1) := dk_29 (dk_at dksX2_presses_3 9 rfl rfl)
theorem dX2_presses_78 : decode cX2_presses 78 = .ok (.if_icmp .ge 51, 3) := dk_162 0 51 (dk_at dksX2_presses_3 10 rfl rfl)
theorem dX2_presses_81 : decode cX2_presses 81 = .ok (.aload_n 0, 1) := dk_42 (dk_at dksX2_presses_3 13 rfl rfl)
theorem dX2_presses_82 : decode cX2_presses 82 = .ok (.getfield 12, 3) := dk_180 0 12 (dk_at dksX2_presses_3 14 rfl rfl)
theorem dX2_presses_85 : decode cX2_presses 85 = .ok (.invokevirtual 94, 3) := dk_182 0 94 (dk_at dksX2_presses_3 17 rfl rfl)
theorem dX2_presses_88 : decode cX2_presses 88 = .ok (.checkcast 47, 3) := dk_192 0 47 (dk_at dksX2_presses_3 20 rfl rfl)
theorem dX2_presses_91 : decode cX2_presses 91 = .ok (.astore 5, 2) := dk_58 5 (dk_at dksX2_presses_4 0 rfl rfl)
theorem dX2_presses_93 : decode cX2_presses 93 = .ok (.aload 5, 2) := dk_25 5 (dk_at dksX2_presses_4 2 rfl rfl)
theorem dX2_presses_95 : decode cX2_presses 95 = .ok (.getfield 90, 3) := dk_180 0 90 (dk_at dksX2_presses_4 4 rfl rfl)
theorem dX2_presses_98 : decode cX2_presses 98 = .ok (.sipush 1000, 3) := dk_17 3 232 (dk_at dksX2_presses_4 7 rfl rfl)
theorem dX2_presses_101 : decode cX2_presses 101 = .ok (.if_icmp .ge 15, 3) := dk_162 0 15 (dk_at dksX2_presses_4 10 rfl rfl)
theorem dX2_presses_104 : decode cX2_presses 104 = .ok (.aload_n 0, 1) := dk_42 (dk_at dksX2_presses_4 13 rfl rfl)
theorem dX2_presses_105 : decode cX2_presses 105 = .ok (.getfield 12, 3) := dk_180 0 12 (dk_at dksX2_presses_4 14 rfl rfl)
theorem dX2_presses_108 : decode cX2_presses 108 = .ok (.aload 5, 2) := dk_25 5 (dk_at dksX2_presses_4 17 rfl rfl)
theorem dX2_presses_110 : decode cX2_presses 110 = .ok (.invokevirtual 60, 3) := dk_182 0 60 (dk_at dksX2_presses_4 19 rfl rfl)
theorem dX2_presses_113 : decode cX2_presses 113 = .ok (.goto 10, 3) := dk_167 0 10 (dk_at dksX2_presses_5 0 rfl rfl)
theorem dX2_presses_116 : decode cX2_presses 116 = .ok (.aload_n 0, 1) := dk_42 (dk_at dksX2_presses_5 3 rfl rfl)
theorem dX2_presses_117 : decode cX2_presses 117 = .ok (.aload 5, 2) := dk_25 5 (dk_at dksX2_presses_5 4 rfl rfl)
theorem dX2_presses_119 : decode cX2_presses 119 = .ok (.iconst 3, 1) := dk_6 (dk_at dksX2_presses_5 6 rfl rfl)
theorem dX2_presses_120 : decode cX2_presses 120 = .ok (.invokevirtual 97, 3) := dk_182 0 97 (dk_at dksX2_presses_5 7 rfl rfl)
theorem dX2_presses_123 : decode cX2_presses 123 = .ok (.iinc 4 1, 3) := dk_132 4 1 (dk_at dksX2_presses_5 10 rfl rfl)
theorem dX2_presses_126 : decode cX2_presses 126 = .ok (.goto (-51), 3) := dk_167 255 205 (dk_at dksX2_presses_5 13 rfl rfl)
theorem dX2_presses_129 : decode cX2_presses 129 = .ok (.return_, 1) := dk_177 (dk_at dksX2_presses_5 16 rfl rfl)
abbrev cX2_isBare : ByteArray := prog_11_method_2_code
def yX2_isBare : MethodName := ⟨RX2, "isBare", "()Z"⟩
def dkwX2_isBare_0 : List UInt8 := [42, 180, 0, 12, 182, 0, 42, 172]
abbrev dktX2_isBare_0 : List UInt8 := dkwX2_isBare_0 ++ []
theorem dksX2_isBare_0 : cX2_isBare.data.toList.drop 0 = dktX2_isBare_0 := by decide +kernel
theorem dX2_isBare_0 : decode cX2_isBare 0 = .ok (.aload_n 0, 1) := dk_42 (dk_at dksX2_isBare_0 0 rfl rfl)
theorem dX2_isBare_1 : decode cX2_isBare 1 = .ok (.getfield 12, 3) := dk_180 0 12 (dk_at dksX2_isBare_0 1 rfl rfl)
theorem dX2_isBare_4 : decode cX2_isBare 4 = .ok (.invokevirtual 42, 3) := dk_182 0 42 (dk_at dksX2_isBare_0 4 rfl rfl)
theorem dX2_isBare_7 : decode cX2_isBare 7 = .ok (.ireturn, 1) := dk_172 (dk_at dksX2_isBare_0 7 rfl rfl)
abbrev cX2_leaves : ByteArray := prog_11_method_5_code
def yX2_leaves : MethodName := ⟨RX2, "leaves", "(LBogsign$Board;I)V"⟩
def dkwX2_leaves_0 : List UInt8 := [43, 28, 181, 0, 46, 43, 42, 180, 0, 21, 185, 0, 51, 1, 0, 181, 0, 101, 177]
abbrev dktX2_leaves_0 : List UInt8 := dkwX2_leaves_0 ++ []
theorem dksX2_leaves_0 : cX2_leaves.data.toList.drop 0 = dktX2_leaves_0 := by decide +kernel
theorem dX2_leaves_0 : decode cX2_leaves 0 = .ok (.aload_n 1, 1) := dk_43 (dk_at dksX2_leaves_0 0 rfl rfl)
theorem dX2_leaves_1 : decode cX2_leaves 1 = .ok (.iload_n 2, 1) := dk_28 (dk_at dksX2_leaves_0 1 rfl rfl)
theorem dX2_leaves_2 : decode cX2_leaves 2 = .ok (.putfield 46, 3) := dk_181 0 46 (dk_at dksX2_leaves_0 2 rfl rfl)
theorem dX2_leaves_5 : decode cX2_leaves 5 = .ok (.aload_n 1, 1) := dk_43 (dk_at dksX2_leaves_0 5 rfl rfl)
theorem dX2_leaves_6 : decode cX2_leaves 6 = .ok (.aload_n 0, 1) := dk_42 (dk_at dksX2_leaves_0 6 rfl rfl)
theorem dX2_leaves_7 : decode cX2_leaves 7 = .ok (.getfield 21, 3) := dk_180 0 21 (dk_at dksX2_leaves_0 7 rfl rfl)
theorem dX2_leaves_10 : decode cX2_leaves 10 = .ok (.invokeinterface 51 1, 5) := by decide +kernel
theorem dX2_leaves_15 : decode cX2_leaves 15 = .ok (.putfield 101, 3) := dk_181 0 101 (dk_at dksX2_leaves_0 15 rfl rfl)
theorem dX2_leaves_18 : decode cX2_leaves 18 = .ok (.return_, 1) := dk_177 (dk_at dksX2_leaves_0 18 rfl rfl)
abbrev cX2_rots : ByteArray := prog_11_method_6_code
def yX2_rots : MethodName := ⟨RX2, "rots", "(LBogsign$Board;)V"⟩
def dkwX2_rots_0 : List UInt8 := [42, 180, 0, 12, 43, 182, 0, 104, 61, 42, 43, 7, 182, 0, 97, 177]
abbrev dktX2_rots_0 : List UInt8 := dkwX2_rots_0 ++ []
theorem dksX2_rots_0 : cX2_rots.data.toList.drop 0 = dktX2_rots_0 := by decide +kernel
theorem dX2_rots_0 : decode cX2_rots 0 = .ok (.aload_n 0, 1) := dk_42 (dk_at dksX2_rots_0 0 rfl rfl)
theorem dX2_rots_1 : decode cX2_rots 1 = .ok (.getfield 12, 3) := dk_180 0 12 (dk_at dksX2_rots_0 1 rfl rfl)
theorem dX2_rots_4 : decode cX2_rots 4 = .ok (.aload_n 1, 1) := dk_43 (dk_at dksX2_rots_0 4 rfl rfl)
theorem dX2_rots_5 : decode cX2_rots 5 = .ok (.invokevirtual 104, 3) := dk_182 0 104 (dk_at dksX2_rots_0 5 rfl rfl)
theorem dX2_rots_8 : decode cX2_rots 8 = .ok (.istore_n 2, 1) := dk_61 (dk_at dksX2_rots_0 8 rfl rfl)
theorem dX2_rots_9 : decode cX2_rots 9 = .ok (.aload_n 0, 1) := dk_42 (dk_at dksX2_rots_0 9 rfl rfl)
theorem dX2_rots_10 : decode cX2_rots 10 = .ok (.aload_n 1, 1) := dk_43 (dk_at dksX2_rots_0 10 rfl rfl)
theorem dX2_rots_11 : decode cX2_rots 11 = .ok (.iconst 4, 1) := dk_7 (dk_at dksX2_rots_0 11 rfl rfl)
theorem dX2_rots_12 : decode cX2_rots 12 = .ok (.invokevirtual 97, 3) := dk_182 0 97 (dk_at dksX2_rots_0 12 rfl rfl)
theorem dX2_rots_15 : decode cX2_rots 15 = .ok (.return_, 1) := dk_177 (dk_at dksX2_rots_0 15 rfl rfl)
abbrev cX2_depth : ByteArray := prog_11_method_8_code
def yX2_depth : MethodName := ⟨RX2, "depth", "()I"⟩
def dkwX2_depth_2 : List UInt8 := [60, 167, 255, 230, 27, 42, 180, 0, 12, 182, 0, 93, 108, 172]
abbrev dktX2_depth_2 : List UInt8 := dkwX2_depth_2 ++ []
def dkwX2_depth_1 : List UInt8 := [185, 0, 81, 1, 0, 153, 0, 23, 44, 185, 0, 86, 1, 0, 192, 0, 47, 78, 27, 45, 180, 0, 90, 96]
abbrev dktX2_depth_1 : List UInt8 := dkwX2_depth_1 ++ dktX2_depth_2
def dkwX2_depth_0 : List UInt8 := [42, 182, 0, 64, 153, 0, 7, 17, 3, 231, 172, 3, 60, 42, 180, 0, 12, 182, 0, 77, 77, 44]
abbrev dktX2_depth_0 : List UInt8 := dkwX2_depth_0 ++ dktX2_depth_1
theorem dksX2_depth_0 : cX2_depth.data.toList.drop 0 = dktX2_depth_0 := by decide +kernel
theorem dksX2_depth_1 : cX2_depth.data.toList.drop 22 = dktX2_depth_1 := dk_seg dksX2_depth_0 22 rfl rfl
theorem dksX2_depth_2 : cX2_depth.data.toList.drop 46 = dktX2_depth_2 := dk_seg dksX2_depth_1 24 rfl rfl
theorem dX2_depth_0 : decode cX2_depth 0 = .ok (.aload_n 0, 1) := dk_42 (dk_at dksX2_depth_0 0 rfl rfl)
theorem dX2_depth_1 : decode cX2_depth 1 = .ok (.invokevirtual 64, 3) := dk_182 0 64 (dk_at dksX2_depth_0 1 rfl rfl)
theorem dX2_depth_4 : decode cX2_depth 4 = .ok (.ifCond .eq 7, 3) := dk_153 0 7 (dk_at dksX2_depth_0 4 rfl rfl)
theorem dX2_depth_7 : decode cX2_depth 7 = .ok (.sipush 999, 3) := dk_17 3 231 (dk_at dksX2_depth_0 7 rfl rfl)
theorem dX2_depth_10 : decode cX2_depth 10 = .ok (.ireturn, 1) := dk_172 (dk_at dksX2_depth_0 10 rfl rfl)
theorem dX2_depth_11 : decode cX2_depth 11 = .ok (.iconst 0, 1) := dk_3 (dk_at dksX2_depth_0 11 rfl rfl)
theorem dX2_depth_12 : decode cX2_depth 12 = .ok (.istore_n 1, 1) := dk_60 (dk_at dksX2_depth_0 12 rfl rfl)
theorem dX2_depth_13 : decode cX2_depth 13 = .ok (.aload_n 0, 1) := dk_42 (dk_at dksX2_depth_0 13 rfl rfl)
theorem dX2_depth_14 : decode cX2_depth 14 = .ok (.getfield 12, 3) := dk_180 0 12 (dk_at dksX2_depth_0 14 rfl rfl)
theorem dX2_depth_17 : decode cX2_depth 17 = .ok (.invokevirtual 77, 3) := dk_182 0 77 (dk_at dksX2_depth_0 17 rfl rfl)
theorem dX2_depth_20 : decode cX2_depth 20 = .ok (.astore_n 2, 1) := dk_77 (dk_at dksX2_depth_0 20 rfl rfl)
theorem dX2_depth_21 : decode cX2_depth 21 = .ok (.aload_n 2, 1) := dk_44 (dk_at dksX2_depth_0 21 rfl rfl)
theorem dX2_depth_22 : decode cX2_depth 22 = .ok (.invokeinterface 81 1, 5) := by decide +kernel
theorem dX2_depth_27 : decode cX2_depth 27 = .ok (.ifCond .eq 23, 3) := dk_153 0 23 (dk_at dksX2_depth_1 5 rfl rfl)
theorem dX2_depth_30 : decode cX2_depth 30 = .ok (.aload_n 2, 1) := dk_44 (dk_at dksX2_depth_1 8 rfl rfl)
theorem dX2_depth_31 : decode cX2_depth 31 = .ok (.invokeinterface 86 1, 5) := by decide +kernel
theorem dX2_depth_36 : decode cX2_depth 36 = .ok (.checkcast 47, 3) := dk_192 0 47 (dk_at dksX2_depth_1 14 rfl rfl)
theorem dX2_depth_39 : decode cX2_depth 39 = .ok (.astore_n 3, 1) := dk_78 (dk_at dksX2_depth_1 17 rfl rfl)
theorem dX2_depth_40 : decode cX2_depth 40 = .ok (.iload_n 1, 1) := dk_27 (dk_at dksX2_depth_1 18 rfl rfl)
theorem dX2_depth_41 : decode cX2_depth 41 = .ok (.aload_n 3, 1) := dk_45 (dk_at dksX2_depth_1 19 rfl rfl)
theorem dX2_depth_42 : decode cX2_depth 42 = .ok (.getfield 90, 3) := dk_180 0 90 (dk_at dksX2_depth_1 20 rfl rfl)
theorem dX2_depth_45 : decode cX2_depth 45 = .ok (.iadd, 1) := dk_96 (dk_at dksX2_depth_1 23 rfl rfl)
theorem dX2_depth_46 : decode cX2_depth 46 = .ok (.istore_n 1, 1) := dk_60 (dk_at dksX2_depth_2 0 rfl rfl)
theorem dX2_depth_47 : decode cX2_depth 47 = .ok (.goto (-26), 3) := dk_167 255 230 (dk_at dksX2_depth_2 1 rfl rfl)
theorem dX2_depth_50 : decode cX2_depth 50 = .ok (.iload_n 1, 1) := dk_27 (dk_at dksX2_depth_2 4 rfl rfl)
theorem dX2_depth_51 : decode cX2_depth 51 = .ok (.aload_n 0, 1) := dk_42 (dk_at dksX2_depth_2 5 rfl rfl)
theorem dX2_depth_52 : decode cX2_depth 52 = .ok (.getfield 12, 3) := dk_180 0 12 (dk_at dksX2_depth_2 6 rfl rfl)
theorem dX2_depth_55 : decode cX2_depth 55 = .ok (.invokevirtual 93, 3) := dk_182 0 93 (dk_at dksX2_depth_2 9 rfl rfl)
theorem dX2_depth_58 : decode cX2_depth 58 = .ok (.idiv, 1) := dk_108 (dk_at dksX2_depth_2 12 rfl rfl)
theorem dX2_depth_59 : decode cX2_depth 59 = .ok (.ireturn, 1) := dk_172 (dk_at dksX2_depth_2 13 rfl rfl)
abbrev cX2_deepest : ByteArray := prog_11_method_9_code
def yX2_deepest : MethodName := ⟨RX2, "deepest", "()I"⟩
def dkwX2_deepest_1 : List UInt8 := [185, 0, 86, 1, 0, 192, 0, 47, 78, 27, 45, 180, 0, 90, 184, 0, 113, 60, 167, 255, 228, 27, 172]
abbrev dktX2_deepest_1 : List UInt8 := dkwX2_deepest_1 ++ []
def dkwX2_deepest_0 : List UInt8 := [3, 60, 42, 180, 0, 12, 182, 0, 77, 77, 44, 185, 0, 81, 1, 0, 153, 0, 25, 44]
abbrev dktX2_deepest_0 : List UInt8 := dkwX2_deepest_0 ++ dktX2_deepest_1
theorem dksX2_deepest_0 : cX2_deepest.data.toList.drop 0 = dktX2_deepest_0 := by decide +kernel
theorem dksX2_deepest_1 : cX2_deepest.data.toList.drop 20 = dktX2_deepest_1 := dk_seg dksX2_deepest_0 20 rfl rfl
theorem dX2_deepest_0 : decode cX2_deepest 0 = .ok (.iconst 0, 1) := dk_3 (dk_at dksX2_deepest_0 0 rfl rfl)
theorem dX2_deepest_1 : decode cX2_deepest 1 = .ok (.istore_n 1, 1) := dk_60 (dk_at dksX2_deepest_0 1 rfl rfl)
theorem dX2_deepest_2 : decode cX2_deepest 2 = .ok (.aload_n 0, 1) := dk_42 (dk_at dksX2_deepest_0 2 rfl rfl)
theorem dX2_deepest_3 : decode cX2_deepest 3 = .ok (.getfield 12, 3) := dk_180 0 12 (dk_at dksX2_deepest_0 3 rfl rfl)
theorem dX2_deepest_6 : decode cX2_deepest 6 = .ok (.invokevirtual 77, 3) := dk_182 0 77 (dk_at dksX2_deepest_0 6 rfl rfl)
theorem dX2_deepest_9 : decode cX2_deepest 9 = .ok (.astore_n 2, 1) := dk_77 (dk_at dksX2_deepest_0 9 rfl rfl)
theorem dX2_deepest_10 : decode cX2_deepest 10 = .ok (.aload_n 2, 1) := dk_44 (dk_at dksX2_deepest_0 10 rfl rfl)
theorem dX2_deepest_11 : decode cX2_deepest 11 = .ok (.invokeinterface 81 1, 5) := by decide +kernel
theorem dX2_deepest_16 : decode cX2_deepest 16 = .ok (.ifCond .eq 25, 3) := dk_153 0 25 (dk_at dksX2_deepest_0 16 rfl rfl)
theorem dX2_deepest_19 : decode cX2_deepest 19 = .ok (.aload_n 2, 1) := dk_44 (dk_at dksX2_deepest_0 19 rfl rfl)
theorem dX2_deepest_20 : decode cX2_deepest 20 = .ok (.invokeinterface 86 1, 5) := by decide +kernel
theorem dX2_deepest_25 : decode cX2_deepest 25 = .ok (.checkcast 47, 3) := dk_192 0 47 (dk_at dksX2_deepest_1 5 rfl rfl)
theorem dX2_deepest_28 : decode cX2_deepest 28 = .ok (.astore_n 3, 1) := dk_78 (dk_at dksX2_deepest_1 8 rfl rfl)
theorem dX2_deepest_29 : decode cX2_deepest 29 = .ok (.iload_n 1, 1) := dk_27 (dk_at dksX2_deepest_1 9 rfl rfl)
theorem dX2_deepest_30 : decode cX2_deepest 30 = .ok (.aload_n 3, 1) := dk_45 (dk_at dksX2_deepest_1 10 rfl rfl)
theorem dX2_deepest_31 : decode cX2_deepest 31 = .ok (.getfield 90, 3) := dk_180 0 90 (dk_at dksX2_deepest_1 11 rfl rfl)
theorem dX2_deepest_34 : decode cX2_deepest 34 = .ok (.invokestatic 113, 3) := dk_184 0 113 (dk_at dksX2_deepest_1 14 rfl rfl)
theorem dX2_deepest_37 : decode cX2_deepest 37 = .ok (.istore_n 1, 1) := dk_60 (dk_at dksX2_deepest_1 17 rfl rfl)
theorem dX2_deepest_38 : decode cX2_deepest 38 = .ok (.goto (-28), 3) := dk_167 255 228 (dk_at dksX2_deepest_1 18 rfl rfl)
theorem dX2_deepest_41 : decode cX2_deepest 41 = .ok (.iload_n 1, 1) := dk_27 (dk_at dksX2_deepest_1 21 rfl rfl)
theorem dX2_deepest_42 : decode cX2_deepest 42 = .ok (.ireturn, 1) := dk_172 (dk_at dksX2_deepest_1 22 rfl rfl)
abbrev cX2_carries : ByteArray := prog_11_method_7_code
def yX2_carries : MethodName := ⟨RX2, "carries", "(I)V"⟩
def dkwX2_carries_1 : List UInt8 := [108, 182, 0, 110, 177]
abbrev dktX2_carries_1 : List UInt8 := dkwX2_carries_1 ++ []
def dkwX2_carries_0 : List UInt8 := [42, 89, 180, 0, 107, 27, 96, 181, 0, 107, 42, 42, 180, 0, 25, 27, 104, 42, 180, 0, 12, 182, 0, 93]
abbrev dktX2_carries_0 : List UInt8 := dkwX2_carries_0 ++ dktX2_carries_1
theorem dksX2_carries_0 : cX2_carries.data.toList.drop 0 = dktX2_carries_0 := by decide +kernel
theorem dksX2_carries_1 : cX2_carries.data.toList.drop 24 = dktX2_carries_1 := dk_seg dksX2_carries_0 24 rfl rfl
theorem dX2_carries_0 : decode cX2_carries 0 = .ok (.aload_n 0, 1) := dk_42 (dk_at dksX2_carries_0 0 rfl rfl)
theorem dX2_carries_1 : decode cX2_carries 1 = .ok (.dup, 1) := dk_89 (dk_at dksX2_carries_0 1 rfl rfl)
theorem dX2_carries_2 : decode cX2_carries 2 = .ok (.getfield 107, 3) := dk_180 0 107 (dk_at dksX2_carries_0 2 rfl rfl)
theorem dX2_carries_5 : decode cX2_carries 5 = .ok (.iload_n 1, 1) := dk_27 (dk_at dksX2_carries_0 5 rfl rfl)
theorem dX2_carries_6 : decode cX2_carries 6 = .ok (.iadd, 1) := dk_96 (dk_at dksX2_carries_0 6 rfl rfl)
theorem dX2_carries_7 : decode cX2_carries 7 = .ok (.putfield 107, 3) := dk_181 0 107 (dk_at dksX2_carries_0 7 rfl rfl)
theorem dX2_carries_10 : decode cX2_carries 10 = .ok (.aload_n 0, 1) := dk_42 (dk_at dksX2_carries_0 10 rfl rfl)
theorem dX2_carries_11 : decode cX2_carries 11 = .ok (.aload_n 0, 1) := dk_42 (dk_at dksX2_carries_0 11 rfl rfl)
theorem dX2_carries_12 : decode cX2_carries 12 = .ok (.getfield 25, 3) := dk_180 0 25 (dk_at dksX2_carries_0 12 rfl rfl)
theorem dX2_carries_15 : decode cX2_carries 15 = .ok (.iload_n 1, 1) := dk_27 (dk_at dksX2_carries_0 15 rfl rfl)
theorem dX2_carries_16 : decode cX2_carries 16 = .ok (.imul, 1) := dk_104 (dk_at dksX2_carries_0 16 rfl rfl)
theorem dX2_carries_17 : decode cX2_carries 17 = .ok (.aload_n 0, 1) := dk_42 (dk_at dksX2_carries_0 17 rfl rfl)
theorem dX2_carries_18 : decode cX2_carries 18 = .ok (.getfield 12, 3) := dk_180 0 12 (dk_at dksX2_carries_0 18 rfl rfl)
theorem dX2_carries_21 : decode cX2_carries 21 = .ok (.invokevirtual 93, 3) := dk_182 0 93 (dk_at dksX2_carries_0 21 rfl rfl)
theorem dX2_carries_24 : decode cX2_carries 24 = .ok (.idiv, 1) := dk_108 (dk_at dksX2_carries_1 0 rfl rfl)
theorem dX2_carries_25 : decode cX2_carries 25 = .ok (.invokevirtual 110, 3) := dk_182 0 110 (dk_at dksX2_carries_1 1 rfl rfl)
theorem dX2_carries_28 : decode cX2_carries 28 = .ok (.return_, 1) := dk_177 (dk_at dksX2_carries_1 4 rfl rfl)
theorem q80 : (Jvm.Cond.initialized "Bogsign$Stretch") ∈ lw_all := lw_g (lw_at lw_m1 9 rfl) rfl
theorem q249 : (Jvm.Cond.instantiable "Bogsign$Stretch" (8 : Nat)) ∈ lw_all := lw_g (lw_at lw_m1 178 rfl) rfl
theorem q251 : (Jvm.Cond.instanceMethod ({ cls := "Bogsign$Stretch", name := "<init>", desc := "(I)V" } : Jvm.MethodName)) ∈ lw_all := lw_g (lw_at lw_m1 180 rfl) rfl
theorem q252 : (Jvm.Cond.code ({ cls := "Bogsign$Stretch", name := "<init>", desc := "(I)V" } : Jvm.MethodName) prog_11_method_1_code (2 : Nat) (Option.none : Option Jvm.ClassFile.FieldType)) ∈ lw_all := lw_g (lw_at lw_m1 181 rfl) rfl
theorem q253 : (Jvm.Cond.methodLink "Bogsign$Stretch" (3 : Nat) ({ cls := "java/lang/Object", name := "<init>", desc := "()V" } : Jvm.MethodName)) ∈ lw_all := lw_g (lw_at lw_m1 182 rfl) rfl
theorem q254 : (Jvm.Cond.classLink "Bogsign$Stretch" (9 : Nat) "java/util/LinkedList") ∈ lw_all := lw_g (lw_at lw_m1 183 rfl) rfl
theorem q256 : (Jvm.Cond.methodLink "Bogsign$Stretch" (11 : Nat) ({ cls := "java/util/LinkedList", name := "<init>", desc := "()V" } : Jvm.MethodName)) ∈ lw_all := lw_g (lw_at lw_m1 185 rfl) rfl
theorem q275 : (Jvm.Cond.classLink "Bogsign$Stretch" (18 : Nat) "java/util/ArrayList") ∈ lw_all := lw_g (lw_at lw_m1 204 rfl) rfl
theorem q276 : (Jvm.Cond.methodLink "Bogsign$Stretch" (20 : Nat) ({ cls := "java/util/ArrayList", name := "<init>", desc := "()V" } : Jvm.MethodName)) ∈ lw_all := lw_g (lw_at lw_m1 205 rfl) rfl
theorem q277 : (Jvm.Cond.methodLink "Bogsign$Stretch" (29 : Nat) ({ cls := "java/util/Optional", name := "empty", desc := "()Ljava/util/Optional;" } : Jvm.MethodName)) ∈ lw_all := lw_g (lw_at lw_m1 206 rfl) rfl
theorem q282 : (Jvm.Cond.fieldLink "Bogsign$Stretch" (39 : Nat) "Bogsign$Stretch" "number" "I") ∈ lw_all := lw_g (lw_at lw_m1 211 rfl) rfl
theorem q284 : (Jvm.Cond.fieldLink "Bogsign$Stretch" (12 : Nat) "Bogsign$Stretch" "boards" "Ljava/util/LinkedList;") ∈ lw_all := lw_g (lw_at lw_m1 213 rfl) rfl
theorem q286 : (Jvm.Cond.fieldLink "Bogsign$Stretch" (21 : Nat) "Bogsign$Stretch" "presses" "Ljava/util/List;") ∈ lw_all := lw_g (lw_at lw_m1 215 rfl) rfl
theorem q287 : (Jvm.Cond.fieldLink "Bogsign$Stretch" (25 : Nat) "Bogsign$Stretch" "softness" "I") ∈ lw_all := lw_g (lw_at lw_m1 216 rfl) rfl
theorem q289 : (Jvm.Cond.fieldLink "Bogsign$Stretch" (107 : Nat) "Bogsign$Stretch" "weights" "I") ∈ lw_all := lw_g (lw_at lw_m1 218 rfl) rfl
theorem q293 : (Jvm.Cond.fieldLink "Bogsign$Stretch" (35 : Nat) "Bogsign$Stretch" "latest" "Ljava/util/Optional;") ∈ lw_all := lw_g (lw_at lw_m1 222 rfl) rfl
theorem q295 : (Jvm.Cond.laysFinal "Bogsign$Stretch" "Bogsign$Stretch" "number" "I") ∈ lw_all := lw_g (lw_at lw_m1 224 rfl) rfl
theorem q296 : (Jvm.Cond.soleField "Bogsign$Stretch" "number") ∈ lw_all := lw_g (lw_at lw_m1 225 rfl) rfl
theorem q297 : (Jvm.Cond.laysFinal "Bogsign$Stretch" "Bogsign$Stretch" "boards" "Ljava/util/LinkedList;") ∈ lw_all := lw_g (lw_at lw_m1 226 rfl) rfl
theorem q298 : (Jvm.Cond.soleField "Bogsign$Stretch" "boards") ∈ lw_all := lw_g (lw_at lw_m1 227 rfl) rfl
theorem q299 : (Jvm.Cond.laysFinal "Bogsign$Stretch" "Bogsign$Stretch" "presses" "Ljava/util/List;") ∈ lw_all := lw_g (lw_at lw_m1 228 rfl) rfl
theorem q300 : (Jvm.Cond.soleField "Bogsign$Stretch" "presses") ∈ lw_all := lw_g (lw_at lw_m1 229 rfl) rfl
theorem q301 : (Jvm.Cond.lays "Bogsign$Stretch" "Bogsign$Stretch" "softness" "I") ∈ lw_all := lw_g (lw_at lw_m1 230 rfl) rfl
theorem q302 : (Jvm.Cond.soleField "Bogsign$Stretch" "softness") ∈ lw_all := lw_g (lw_at lw_m1 231 rfl) rfl
theorem q303 : (Jvm.Cond.lays "Bogsign$Stretch" "Bogsign$Stretch" "weights" "I") ∈ lw_all := lw_g (lw_at lw_m1 232 rfl) rfl
theorem q304 : (Jvm.Cond.soleField "Bogsign$Stretch" "weights") ∈ lw_all := lw_g (lw_at lw_m1 233 rfl) rfl
theorem q305 : (Jvm.Cond.lays "Bogsign$Stretch" "Bogsign$Stretch" "found" "I") ∈ lw_all := lw_g (lw_at lw_m1 234 rfl) rfl
theorem q306 : (Jvm.Cond.soleField "Bogsign$Stretch" "found") ∈ lw_all := lw_g (lw_at lw_m1 235 rfl) rfl
theorem q307 : (Jvm.Cond.lays "Bogsign$Stretch" "Bogsign$Stretch" "isFound" "Z") ∈ lw_all := lw_g (lw_at lw_m1 236 rfl) rfl
theorem q308 : (Jvm.Cond.soleField "Bogsign$Stretch" "isFound") ∈ lw_all := lw_g (lw_at lw_m1 237 rfl) rfl
theorem q309 : (Jvm.Cond.lays "Bogsign$Stretch" "Bogsign$Stretch" "latest" "Ljava/util/Optional;") ∈ lw_all := lw_g (lw_at lw_m1 238 rfl) rfl
theorem q310 : (Jvm.Cond.soleField "Bogsign$Stretch" "latest") ∈ lw_all := lw_g (lw_at lw_m1 239 rfl) rfl
theorem q311 : (Jvm.Cond.superclass "Bogsign$Stretch" "java/lang/Object") ∈ lw_all := lw_g (lw_at lw_m2 0 rfl) rfl
theorem q944 : (Jvm.Cond.selects "Bogsign$Stretch" ({ cls := "java/lang/Object", name := "getClass", desc := "()Ljava/lang/Class;" } : Jvm.MethodName) ({ cls := "java/lang/Object", name := "getClass", desc := "()Ljava/lang/Class;" } : Jvm.MethodName)) ∈ lw_all := lw_g (lw_at lw_m4 153 rfl) rfl
theorem q1050 : (Jvm.Cond.instanceMethod ({ cls := "Bogsign$Stretch", name := "depthAgain", desc := "(LBogsign$Board;)I" } : Jvm.MethodName)) ∈ lw_all := lw_g (lw_at lw_m5 19 rfl) rfl
theorem q1051 : (Jvm.Cond.selects "Bogsign$Stretch" ({ cls := "Bogsign$Stretch", name := "depthAgain", desc := "(LBogsign$Board;)I" } : Jvm.MethodName) ({ cls := "Bogsign$Stretch", name := "depthAgain", desc := "(LBogsign$Board;)I" } : Jvm.MethodName)) ∈ lw_all := lw_g (lw_at lw_m5 20 rfl) rfl
theorem q1052 : (Jvm.Cond.code ({ cls := "Bogsign$Stretch", name := "depthAgain", desc := "(LBogsign$Board;)I" } : Jvm.MethodName) prog_11_method_10_code (5 : Nat) (Option.some Jvm.ClassFile.FieldType.int)) ∈ lw_all := lw_g (lw_at lw_m5 21 rfl) rfl
theorem q1053 : (Jvm.Cond.interfaceEntry "Bogsign$Stretch" (51 : Nat)) ∈ lw_tbl := lw_at lw_m5 22 rfl
theorem q1054 : (Jvm.Cond.methodLink "Bogsign$Stretch" (51 : Nat) ({ cls := "java/util/List", name := "size", desc := "()I" } : Jvm.MethodName)) ∈ lw_all := lw_g (lw_at lw_m5 23 rfl) rfl
theorem q1063 : (Jvm.Cond.interfaceEntry "Bogsign$Stretch" (119 : Nat)) ∈ lw_tbl := lw_at lw_m5 32 rfl
theorem q1064 : (Jvm.Cond.methodLink "Bogsign$Stretch" (119 : Nat) ({ cls := "java/util/List", name := "get", desc := "(I)Ljava/lang/Object;" } : Jvm.MethodName)) ∈ lw_all := lw_g (lw_at lw_m5 33 rfl) rfl
theorem q1073 : (Jvm.Cond.classLink "Bogsign$Stretch" (68 : Nat) "java/lang/Integer") ∈ lw_all := lw_g (lw_at lw_m5 42 rfl) rfl
theorem q1074 : (Jvm.Cond.methodLink "Bogsign$Stretch" (123 : Nat) ({ cls := "java/lang/Integer", name := "intValue", desc := "()I" } : Jvm.MethodName)) ∈ lw_all := lw_g (lw_at lw_m5 43 rfl) rfl
theorem q1636 : (Jvm.Cond.fieldLinkNest "Bogsign$Stretch" (46 : Nat) "Bogsign$Board" "where" "I" "Bogsign") ∈ lw_tbl := lw_at lw_m7 125 rfl
theorem q1640 : (Jvm.Cond.fieldLinkNest "Bogsign$Stretch" (90 : Nat) "Bogsign$Board" "depth" "I" "Bogsign") ∈ lw_tbl := lw_at lw_m7 129 rfl
theorem q1642 : (Jvm.Cond.fieldLinkNest "Bogsign$Stretch" (57 : Nat) "Bogsign$Board" "from" "I" "Bogsign") ∈ lw_tbl := lw_at lw_m7 131 rfl
theorem q1644 : (Jvm.Cond.fieldLinkNest "Bogsign$Stretch" (101 : Nat) "Bogsign$Board" "to" "I" "Bogsign") ∈ lw_tbl := lw_at lw_m7 133 rfl
theorem q1864 : (Jvm.Cond.instanceMethod ({ cls := "Bogsign$Stretch", name := "lays", desc := "(LBogsign$Board;)V" } : Jvm.MethodName)) ∈ lw_all := lw_g (lw_at lw_m8 113 rfl) rfl
theorem q1865 : (Jvm.Cond.selects "Bogsign$Stretch" ({ cls := "Bogsign$Stretch", name := "lays", desc := "(LBogsign$Board;)V" } : Jvm.MethodName) ({ cls := "Bogsign$Stretch", name := "lays", desc := "(LBogsign$Board;)V" } : Jvm.MethodName)) ∈ lw_all := lw_g (lw_at lw_m8 114 rfl) rfl
theorem q1866 : (Jvm.Cond.code ({ cls := "Bogsign$Stretch", name := "lays", desc := "(LBogsign$Board;)V" } : Jvm.MethodName) prog_11_method_3_code (2 : Nat) (Option.none : Option Jvm.ClassFile.FieldType)) ∈ lw_all := lw_g (lw_at lw_m8 115 rfl) rfl
theorem q1867 : (Jvm.Cond.methodLink "Bogsign$Stretch" (60 : Nat) ({ cls := "java/util/LinkedList", name := "addLast", desc := "(Ljava/lang/Object;)V" } : Jvm.MethodName)) ∈ lw_all := lw_g (lw_at lw_m8 116 rfl) rfl
theorem q1967 : (Jvm.Cond.instanceMethod ({ cls := "Bogsign$Stretch", name := "presses", desc := "(I)V" } : Jvm.MethodName)) ∈ lw_all := lw_g (lw_at lw_m8 216 rfl) rfl
theorem q1968 : (Jvm.Cond.selects "Bogsign$Stretch" ({ cls := "Bogsign$Stretch", name := "presses", desc := "(I)V" } : Jvm.MethodName) ({ cls := "Bogsign$Stretch", name := "presses", desc := "(I)V" } : Jvm.MethodName)) ∈ lw_all := lw_g (lw_at lw_m8 217 rfl) rfl
theorem q1969 : (Jvm.Cond.code ({ cls := "Bogsign$Stretch", name := "presses", desc := "(I)V" } : Jvm.MethodName) prog_11_method_4_code (6 : Nat) (Option.none : Option Jvm.ClassFile.FieldType)) ∈ lw_all := lw_g (lw_at lw_m8 218 rfl) rfl
theorem q1970 : (Jvm.Cond.methodLink "Bogsign$Stretch" (64 : Nat) ({ cls := "Bogsign$Stretch", name := "isBare", desc := "()Z" } : Jvm.MethodName)) ∈ lw_all := lw_g (lw_at lw_m8 219 rfl) rfl
theorem q1971 : (Jvm.Cond.instanceMethod ({ cls := "Bogsign$Stretch", name := "isBare", desc := "()Z" } : Jvm.MethodName)) ∈ lw_all := lw_g (lw_at lw_m8 220 rfl) rfl
theorem q1972 : (Jvm.Cond.selects "Bogsign$Stretch" ({ cls := "Bogsign$Stretch", name := "isBare", desc := "()Z" } : Jvm.MethodName) ({ cls := "Bogsign$Stretch", name := "isBare", desc := "()Z" } : Jvm.MethodName)) ∈ lw_all := lw_g (lw_at lw_m8 221 rfl) rfl
theorem q1973 : (Jvm.Cond.code ({ cls := "Bogsign$Stretch", name := "isBare", desc := "()Z" } : Jvm.MethodName) prog_11_method_2_code (1 : Nat) (Option.some Jvm.ClassFile.FieldType.boolean)) ∈ lw_all := lw_g (lw_at lw_m8 222 rfl) rfl
theorem q1974 : (Jvm.Cond.methodLink "Bogsign$Stretch" (42 : Nat) ({ cls := "java/util/LinkedList", name := "isEmpty", desc := "()Z" } : Jvm.MethodName)) ∈ lw_all := lw_g (lw_at lw_m8 223 rfl) rfl
theorem q1975 : (Jvm.Cond.methodLink "Bogsign$Stretch" (67 : Nat) ({ cls := "java/lang/Integer", name := "valueOf", desc := "(I)Ljava/lang/Integer;" } : Jvm.MethodName)) ∈ lw_all := lw_g (lw_at lw_m8 224 rfl) rfl
theorem q1976 : (Jvm.Cond.interfaceEntry "Bogsign$Stretch" (73 : Nat)) ∈ lw_tbl := lw_at lw_m8 225 rfl
theorem q1977 : (Jvm.Cond.methodLink "Bogsign$Stretch" (73 : Nat) ({ cls := "java/util/List", name := "add", desc := "(Ljava/lang/Object;)Z" } : Jvm.MethodName)) ∈ lw_all := lw_g (lw_at lw_m8 226 rfl) rfl
theorem q1978 : (Jvm.Cond.methodLink "Bogsign$Stretch" (77 : Nat) ({ cls := "java/util/LinkedList", name := "iterator", desc := "()Ljava/util/Iterator;" } : Jvm.MethodName)) ∈ lw_all := lw_g (lw_at lw_m8 227 rfl) rfl
theorem q1979 : (Jvm.Cond.interfaceEntry "Bogsign$Stretch" (81 : Nat)) ∈ lw_tbl := lw_at lw_m8 228 rfl
theorem q1980 : (Jvm.Cond.methodLink "Bogsign$Stretch" (81 : Nat) ({ cls := "java/util/Iterator", name := "hasNext", desc := "()Z" } : Jvm.MethodName)) ∈ lw_all := lw_g (lw_at lw_m8 229 rfl) rfl
theorem q1981 : (Jvm.Cond.interfaceEntry "Bogsign$Stretch" (86 : Nat)) ∈ lw_tbl := lw_at lw_m8 230 rfl
theorem q1982 : (Jvm.Cond.methodLink "Bogsign$Stretch" (86 : Nat) ({ cls := "java/util/Iterator", name := "next", desc := "()Ljava/lang/Object;" } : Jvm.MethodName)) ∈ lw_all := lw_g (lw_at lw_m8 231 rfl) rfl
theorem q1983 : (Jvm.Cond.classLink "Bogsign$Stretch" (47 : Nat) "Bogsign$Board") ∈ lw_all := lw_g (lw_at lw_m8 232 rfl) rfl
theorem q1984 : (Jvm.Cond.methodLink "Bogsign$Stretch" (93 : Nat) ({ cls := "java/util/LinkedList", name := "size", desc := "()I" } : Jvm.MethodName)) ∈ lw_all := lw_g (lw_at lw_m8 233 rfl) rfl
theorem q1985 : (Jvm.Cond.methodLink "Bogsign$Stretch" (94 : Nat) ({ cls := "java/util/LinkedList", name := "pollFirst", desc := "()Ljava/lang/Object;" } : Jvm.MethodName)) ∈ lw_all := lw_g (lw_at lw_m8 234 rfl) rfl
theorem q1986 : (Jvm.Cond.methodLink "Bogsign$Stretch" (97 : Nat) ({ cls := "Bogsign$Stretch", name := "leaves", desc := "(LBogsign$Board;I)V" } : Jvm.MethodName)) ∈ lw_all := lw_g (lw_at lw_m8 235 rfl) rfl
theorem q1987 : (Jvm.Cond.privateMethod ({ cls := "Bogsign$Stretch", name := "leaves", desc := "(LBogsign$Board;I)V" } : Jvm.MethodName)) ∈ lw_tbl := lw_at lw_m8 236 rfl
theorem q1988 : (Jvm.Cond.instanceMethod ({ cls := "Bogsign$Stretch", name := "leaves", desc := "(LBogsign$Board;I)V" } : Jvm.MethodName)) ∈ lw_all := lw_g (lw_at lw_m8 237 rfl) rfl
theorem q1989 : (Jvm.Cond.code ({ cls := "Bogsign$Stretch", name := "leaves", desc := "(LBogsign$Board;I)V" } : Jvm.MethodName) prog_11_method_5_code (3 : Nat) (Option.none : Option Jvm.ClassFile.FieldType)) ∈ lw_all := lw_g (lw_at lw_m8 238 rfl) rfl
theorem q2002 : (Jvm.Cond.instanceMethod ({ cls := "Bogsign$Stretch", name := "rots", desc := "(LBogsign$Board;)V" } : Jvm.MethodName)) ∈ lw_all := lw_g (lw_at lw_m9 11 rfl) rfl
theorem q2003 : (Jvm.Cond.selects "Bogsign$Stretch" ({ cls := "Bogsign$Stretch", name := "rots", desc := "(LBogsign$Board;)V" } : Jvm.MethodName) ({ cls := "Bogsign$Stretch", name := "rots", desc := "(LBogsign$Board;)V" } : Jvm.MethodName)) ∈ lw_all := lw_g (lw_at lw_m9 12 rfl) rfl
theorem q2004 : (Jvm.Cond.code ({ cls := "Bogsign$Stretch", name := "rots", desc := "(LBogsign$Board;)V" } : Jvm.MethodName) prog_11_method_6_code (3 : Nat) (Option.none : Option Jvm.ClassFile.FieldType)) ∈ lw_all := lw_g (lw_at lw_m9 13 rfl) rfl
theorem q2005 : (Jvm.Cond.methodLink "Bogsign$Stretch" (104 : Nat) ({ cls := "java/util/LinkedList", name := "remove", desc := "(Ljava/lang/Object;)Z" } : Jvm.MethodName)) ∈ lw_all := lw_g (lw_at lw_m9 14 rfl) rfl
theorem q2025 : (Jvm.Cond.selects "Bogsign$Stretch" ({ cls := "java/lang/Object", name := "equals", desc := "(Ljava/lang/Object;)Z" } : Jvm.MethodName) ({ cls := "java/lang/Object", name := "equals", desc := "(Ljava/lang/Object;)Z" } : Jvm.MethodName)) ∈ lw_all := lw_g (lw_at lw_m9 34 rfl) rfl
theorem q2270 : (Jvm.Cond.instanceMethod ({ cls := "Bogsign$Stretch", name := "depth", desc := "()I" } : Jvm.MethodName)) ∈ lw_all := lw_g (lw_at lw_m10 39 rfl) rfl
theorem q2271 : (Jvm.Cond.selects "Bogsign$Stretch" ({ cls := "Bogsign$Stretch", name := "depth", desc := "()I" } : Jvm.MethodName) ({ cls := "Bogsign$Stretch", name := "depth", desc := "()I" } : Jvm.MethodName)) ∈ lw_all := lw_g (lw_at lw_m10 40 rfl) rfl
theorem q2272 : (Jvm.Cond.code ({ cls := "Bogsign$Stretch", name := "depth", desc := "()I" } : Jvm.MethodName) prog_11_method_8_code (4 : Nat) (Option.some Jvm.ClassFile.FieldType.int)) ∈ lw_all := lw_g (lw_at lw_m10 41 rfl) rfl
theorem q2285 : (Jvm.Cond.instanceMethod ({ cls := "Bogsign$Stretch", name := "deepest", desc := "()I" } : Jvm.MethodName)) ∈ lw_all := lw_g (lw_at lw_m10 54 rfl) rfl
theorem q2286 : (Jvm.Cond.selects "Bogsign$Stretch" ({ cls := "Bogsign$Stretch", name := "deepest", desc := "()I" } : Jvm.MethodName) ({ cls := "Bogsign$Stretch", name := "deepest", desc := "()I" } : Jvm.MethodName)) ∈ lw_all := lw_g (lw_at lw_m10 55 rfl) rfl
theorem q2287 : (Jvm.Cond.code ({ cls := "Bogsign$Stretch", name := "deepest", desc := "()I" } : Jvm.MethodName) prog_11_method_9_code (4 : Nat) (Option.some Jvm.ClassFile.FieldType.int)) ∈ lw_all := lw_g (lw_at lw_m10 56 rfl) rfl
theorem q2288 : (Jvm.Cond.methodLink "Bogsign$Stretch" (113 : Nat) ({ cls := "java/lang/Math", name := "max", desc := "(II)I" } : Jvm.MethodName)) ∈ lw_all := lw_g (lw_at lw_m10 57 rfl) rfl
theorem q2306 : (Jvm.Cond.instanceMethod ({ cls := "Bogsign$Stretch", name := "carries", desc := "(I)V" } : Jvm.MethodName)) ∈ lw_all := lw_g (lw_at lw_m10 75 rfl) rfl
theorem q2307 : (Jvm.Cond.selects "Bogsign$Stretch" ({ cls := "Bogsign$Stretch", name := "carries", desc := "(I)V" } : Jvm.MethodName) ({ cls := "Bogsign$Stretch", name := "carries", desc := "(I)V" } : Jvm.MethodName)) ∈ lw_all := lw_g (lw_at lw_m10 76 rfl) rfl
theorem q2308 : (Jvm.Cond.code ({ cls := "Bogsign$Stretch", name := "carries", desc := "(I)V" } : Jvm.MethodName) prog_11_method_7_code (2 : Nat) (Option.none : Option Jvm.ClassFile.FieldType)) ∈ lw_all := lw_g (lw_at lw_m10 77 rfl) rfl
theorem q2309 : (Jvm.Cond.methodLink "Bogsign$Stretch" (110 : Nat) ({ cls := "Bogsign$Stretch", name := "presses", desc := "(I)V" } : Jvm.MethodName)) ∈ lw_all := lw_g (lw_at lw_m10 78 rfl) rfl
theorem q2679 : (Jvm.Cond.castable "Bogsign$Stretch" "java/lang/Object") ∈ lw_tbl := lw_at lw_m11 208 rfl
theorem in_X2 : ∀ w ∈ wsX20, w ∈ lw_all := lw_in wsX20 [295, 297, 299, 301, 303, 305, 307, 309] (by decide +kernel) (by decide +kernel)

/-! Bogsign$Notes -/
set_option maxRecDepth 100000
def RX3 : String := "Bogsign$Notes"
def TX3 : u_T := fun k => match k with
  | 0 => ("Bogsign$Notes", "sum", "I", false)
  | _ => ("Bogsign$Notes", "many", "I", false)
def tyX3 : Nat → FieldType := fun k => match k with
  | 0 => .int
  | _ => .int
abbrev wsX30 : List Cond := u_ws RX3 TX3 2
theorem nmX3 : ∀ a, a < 2 → ∀ b, b < 2 → a ≠ b → (TX3 a).2.1 ≠ (TX3 b).2.1 := by decide +kernel
theorem tyX3_ok : ∀ k, k < 2 → parseFieldDescriptor (TX3 k).2.2.1 = some (tyX3 k) := by decide +kernel
abbrev cX3_init : ByteArray := prog_8_method_1_code
def yX3_init : MethodName := ⟨RX3, "<init>", "()V"⟩
theorem dX3_init_0 : decode cX3_init 0 = .ok (.aload_n 0, 1) := by decide +kernel
theorem dX3_init_1 : decode cX3_init 1 = .ok (.invokespecial 1, 3) := by decide +kernel
theorem dX3_init_4 : decode cX3_init 4 = .ok (.return_, 1) := by decide +kernel
abbrev cX3_mean : ByteArray := prog_8_method_3_code
def yX3_mean : MethodName := ⟨RX3, "mean", "(I)I"⟩
def dkwX3_mean_0 : List UInt8 := [42, 180, 0, 13, 154, 0, 7, 27, 167, 0, 12, 42, 180, 0, 7, 42, 180, 0, 13, 108, 172]
abbrev dktX3_mean_0 : List UInt8 := dkwX3_mean_0 ++ []
theorem dksX3_mean_0 : cX3_mean.data.toList.drop 0 = dktX3_mean_0 := by decide +kernel
theorem dX3_mean_0 : decode cX3_mean 0 = .ok (.aload_n 0, 1) := dk_42 (dk_at dksX3_mean_0 0 rfl rfl)
theorem dX3_mean_1 : decode cX3_mean 1 = .ok (.getfield 13, 3) := dk_180 0 13 (dk_at dksX3_mean_0 1 rfl rfl)
theorem dX3_mean_4 : decode cX3_mean 4 = .ok (.ifCond .ne 7, 3) := dk_154 0 7 (dk_at dksX3_mean_0 4 rfl rfl)
theorem dX3_mean_7 : decode cX3_mean 7 = .ok (.iload_n 1, 1) := dk_27 (dk_at dksX3_mean_0 7 rfl rfl)
theorem dX3_mean_8 : decode cX3_mean 8 = .ok (.goto 12, 3) := dk_167 0 12 (dk_at dksX3_mean_0 8 rfl rfl)
theorem dX3_mean_11 : decode cX3_mean 11 = .ok (.aload_n 0, 1) := dk_42 (dk_at dksX3_mean_0 11 rfl rfl)
theorem dX3_mean_12 : decode cX3_mean 12 = .ok (.getfield 7, 3) := dk_180 0 7 (dk_at dksX3_mean_0 12 rfl rfl)
theorem dX3_mean_15 : decode cX3_mean 15 = .ok (.aload_n 0, 1) := dk_42 (dk_at dksX3_mean_0 15 rfl rfl)
theorem dX3_mean_16 : decode cX3_mean 16 = .ok (.getfield 13, 3) := dk_180 0 13 (dk_at dksX3_mean_0 16 rfl rfl)
theorem dX3_mean_19 : decode cX3_mean 19 = .ok (.idiv, 1) := dk_108 (dk_at dksX3_mean_0 19 rfl rfl)
theorem dX3_mean_20 : decode cX3_mean 20 = .ok (.ireturn, 1) := dk_172 (dk_at dksX3_mean_0 20 rfl rfl)
abbrev cX3_takes : ByteArray := prog_8_method_2_code
def yX3_takes : MethodName := ⟨RX3, "takes", "(I)V"⟩
def dkwX3_takes_0 : List UInt8 := [42, 89, 180, 0, 7, 27, 96, 181, 0, 7, 42, 89, 180, 0, 13, 4, 96, 181, 0, 13, 177]
abbrev dktX3_takes_0 : List UInt8 := dkwX3_takes_0 ++ []
theorem dksX3_takes_0 : cX3_takes.data.toList.drop 0 = dktX3_takes_0 := by decide +kernel
theorem dX3_takes_0 : decode cX3_takes 0 = .ok (.aload_n 0, 1) := dk_42 (dk_at dksX3_takes_0 0 rfl rfl)
theorem dX3_takes_1 : decode cX3_takes 1 = .ok (.dup, 1) := dk_89 (dk_at dksX3_takes_0 1 rfl rfl)
theorem dX3_takes_2 : decode cX3_takes 2 = .ok (.getfield 7, 3) := dk_180 0 7 (dk_at dksX3_takes_0 2 rfl rfl)
theorem dX3_takes_5 : decode cX3_takes 5 = .ok (.iload_n 1, 1) := dk_27 (dk_at dksX3_takes_0 5 rfl rfl)
theorem dX3_takes_6 : decode cX3_takes 6 = .ok (.iadd, 1) := dk_96 (dk_at dksX3_takes_0 6 rfl rfl)
theorem dX3_takes_7 : decode cX3_takes 7 = .ok (.putfield 7, 3) := dk_181 0 7 (dk_at dksX3_takes_0 7 rfl rfl)
theorem dX3_takes_10 : decode cX3_takes 10 = .ok (.aload_n 0, 1) := dk_42 (dk_at dksX3_takes_0 10 rfl rfl)
theorem dX3_takes_11 : decode cX3_takes 11 = .ok (.dup, 1) := dk_89 (dk_at dksX3_takes_0 11 rfl rfl)
theorem dX3_takes_12 : decode cX3_takes 12 = .ok (.getfield 13, 3) := dk_180 0 13 (dk_at dksX3_takes_0 12 rfl rfl)
theorem dX3_takes_15 : decode cX3_takes 15 = .ok (.iconst 1, 1) := dk_4 (dk_at dksX3_takes_0 15 rfl rfl)
theorem dX3_takes_16 : decode cX3_takes 16 = .ok (.iadd, 1) := dk_96 (dk_at dksX3_takes_0 16 rfl rfl)
theorem dX3_takes_17 : decode cX3_takes 17 = .ok (.putfield 13, 3) := dk_181 0 13 (dk_at dksX3_takes_0 17 rfl rfl)
theorem dX3_takes_20 : decode cX3_takes 20 = .ok (.return_, 1) := dk_177 (dk_at dksX3_takes_0 20 rfl rfl)
theorem q84 : (Jvm.Cond.initialized "Bogsign$Notes") ∈ lw_all := lw_g (lw_at lw_m1 13 rfl) rfl
theorem q312 : (Jvm.Cond.instantiable "Bogsign$Notes" (2 : Nat)) ∈ lw_all := lw_g (lw_at lw_m2 1 rfl) rfl
theorem q314 : (Jvm.Cond.instanceMethod ({ cls := "Bogsign$Notes", name := "<init>", desc := "()V" } : Jvm.MethodName)) ∈ lw_all := lw_g (lw_at lw_m2 3 rfl) rfl
theorem q315 : (Jvm.Cond.code ({ cls := "Bogsign$Notes", name := "<init>", desc := "()V" } : Jvm.MethodName) prog_8_method_1_code (1 : Nat) (Option.none : Option Jvm.ClassFile.FieldType)) ∈ lw_all := lw_g (lw_at lw_m2 4 rfl) rfl
theorem q316 : (Jvm.Cond.methodLink "Bogsign$Notes" (1 : Nat) ({ cls := "java/lang/Object", name := "<init>", desc := "()V" } : Jvm.MethodName)) ∈ lw_all := lw_g (lw_at lw_m2 5 rfl) rfl
theorem q317 : (Jvm.Cond.fieldLink "Bogsign$Notes" (7 : Nat) "Bogsign$Notes" "sum" "I") ∈ lw_all := lw_g (lw_at lw_m2 6 rfl) rfl
theorem q318 : (Jvm.Cond.fieldLink "Bogsign$Notes" (13 : Nat) "Bogsign$Notes" "many" "I") ∈ lw_all := lw_g (lw_at lw_m2 7 rfl) rfl
theorem q319 : (Jvm.Cond.lays "Bogsign$Notes" "Bogsign$Notes" "sum" "I") ∈ lw_all := lw_g (lw_at lw_m2 8 rfl) rfl
theorem q320 : (Jvm.Cond.soleField "Bogsign$Notes" "sum") ∈ lw_all := lw_g (lw_at lw_m2 9 rfl) rfl
theorem q321 : (Jvm.Cond.lays "Bogsign$Notes" "Bogsign$Notes" "many" "I") ∈ lw_all := lw_g (lw_at lw_m2 10 rfl) rfl
theorem q322 : (Jvm.Cond.soleField "Bogsign$Notes" "many") ∈ lw_all := lw_g (lw_at lw_m2 11 rfl) rfl
theorem q323 : (Jvm.Cond.superclass "Bogsign$Notes" "java/lang/Object") ∈ lw_all := lw_g (lw_at lw_m2 12 rfl) rfl
theorem q942 : (Jvm.Cond.selects "Bogsign$Notes" ({ cls := "java/lang/Object", name := "getClass", desc := "()Ljava/lang/Class;" } : Jvm.MethodName) ({ cls := "java/lang/Object", name := "getClass", desc := "()Ljava/lang/Class;" } : Jvm.MethodName)) ∈ lw_all := lw_g (lw_at lw_m4 151 rfl) rfl
theorem q1242 : (Jvm.Cond.instanceMethod ({ cls := "Bogsign$Notes", name := "mean", desc := "(I)I" } : Jvm.MethodName)) ∈ lw_all := lw_g (lw_at lw_m5 211 rfl) rfl
theorem q1243 : (Jvm.Cond.selects "Bogsign$Notes" ({ cls := "Bogsign$Notes", name := "mean", desc := "(I)I" } : Jvm.MethodName) ({ cls := "Bogsign$Notes", name := "mean", desc := "(I)I" } : Jvm.MethodName)) ∈ lw_all := lw_g (lw_at lw_m5 212 rfl) rfl
theorem q1244 : (Jvm.Cond.code ({ cls := "Bogsign$Notes", name := "mean", desc := "(I)I" } : Jvm.MethodName) prog_8_method_3_code (2 : Nat) (Option.some Jvm.ClassFile.FieldType.int)) ∈ lw_all := lw_g (lw_at lw_m5 213 rfl) rfl
theorem q2023 : (Jvm.Cond.selects "Bogsign$Notes" ({ cls := "java/lang/Object", name := "equals", desc := "(Ljava/lang/Object;)Z" } : Jvm.MethodName) ({ cls := "java/lang/Object", name := "equals", desc := "(Ljava/lang/Object;)Z" } : Jvm.MethodName)) ∈ lw_all := lw_g (lw_at lw_m9 32 rfl) rfl
theorem q2274 : (Jvm.Cond.instanceMethod ({ cls := "Bogsign$Notes", name := "takes", desc := "(I)V" } : Jvm.MethodName)) ∈ lw_all := lw_g (lw_at lw_m10 43 rfl) rfl
theorem q2275 : (Jvm.Cond.selects "Bogsign$Notes" ({ cls := "Bogsign$Notes", name := "takes", desc := "(I)V" } : Jvm.MethodName) ({ cls := "Bogsign$Notes", name := "takes", desc := "(I)V" } : Jvm.MethodName)) ∈ lw_all := lw_g (lw_at lw_m10 44 rfl) rfl
theorem q2276 : (Jvm.Cond.code ({ cls := "Bogsign$Notes", name := "takes", desc := "(I)V" } : Jvm.MethodName) prog_8_method_2_code (2 : Nat) (Option.none : Option Jvm.ClassFile.FieldType)) ∈ lw_all := lw_g (lw_at lw_m10 45 rfl) rfl
theorem q2680 : (Jvm.Cond.castable "Bogsign$Notes" "java/lang/Object") ∈ lw_tbl := lw_at lw_m11 209 rfl
theorem in_X3 : ∀ w ∈ wsX30, w ∈ lw_all := lw_in wsX30 [319, 321] (by decide +kernel) (by decide +kernel)

/-! Bogsign$Board -/
set_option maxRecDepth 100000
def RX5 : String := "Bogsign$Board"
def TX5 : u_T := fun k => match k with
  | 0 => ("Bogsign$Board", "number", "I", true)
  | 1 => ("Bogsign$Board", "season", "I", true)
  | 2 => ("Bogsign$Board", "came", "I", true)
  | 3 => ("Bogsign$Board", "where", "I", false)
  | 4 => ("Bogsign$Board", "stretch", "I", false)
  | 5 => ("Bogsign$Board", "depth", "I", false)
  | 6 => ("Bogsign$Board", "from", "I", false)
  | _ => ("Bogsign$Board", "to", "I", false)
def tyX5 : Nat → FieldType := fun k => match k with
  | 0 => .int
  | 1 => .int
  | 2 => .int
  | 3 => .int
  | 4 => .int
  | 5 => .int
  | 6 => .int
  | _ => .int
abbrev wsX50 : List Cond := u_ws RX5 TX5 8
theorem nmX5 : ∀ a, a < 8 → ∀ b, b < 8 → a ≠ b → (TX5 a).2.1 ≠ (TX5 b).2.1 := by decide +kernel
theorem tyX5_ok : ∀ k, k < 8 → parseFieldDescriptor (TX5 k).2.2.1 = some (tyX5 k) := by decide +kernel
abbrev cX5_init : ByteArray := prog_2_method_1_code
def yX5_init : MethodName := ⟨RX5, "<init>", "(II)V"⟩
def dkwX5_init_1 : List UInt8 := [42, 28, 181, 0, 24, 42, 28, 184, 0, 27, 181, 0, 33, 177]
abbrev dktX5_init_1 : List UInt8 := dkwX5_init_1 ++ []
def dkwX5_init_0 : List UInt8 := [42, 183, 0, 3, 42, 3, 181, 0, 9, 42, 2, 181, 0, 15, 42, 2, 181, 0, 18, 42, 27, 181, 0, 21]
abbrev dktX5_init_0 : List UInt8 := dkwX5_init_0 ++ dktX5_init_1
theorem dksX5_init_0 : cX5_init.data.toList.drop 0 = dktX5_init_0 := by decide +kernel
theorem dksX5_init_1 : cX5_init.data.toList.drop 24 = dktX5_init_1 := dk_seg dksX5_init_0 24 rfl rfl
theorem dX5_init_0 : decode cX5_init 0 = .ok (.aload_n 0, 1) := dk_42 (dk_at dksX5_init_0 0 rfl rfl)
theorem dX5_init_1 : decode cX5_init 1 = .ok (.invokespecial 3, 3) := dk_183 0 3 (dk_at dksX5_init_0 1 rfl rfl)
theorem dX5_init_4 : decode cX5_init 4 = .ok (.aload_n 0, 1) := dk_42 (dk_at dksX5_init_0 4 rfl rfl)
theorem dX5_init_5 : decode cX5_init 5 = .ok (.iconst 0, 1) := dk_3 (dk_at dksX5_init_0 5 rfl rfl)
theorem dX5_init_6 : decode cX5_init 6 = .ok (.putfield 9, 3) := dk_181 0 9 (dk_at dksX5_init_0 6 rfl rfl)
theorem dX5_init_9 : decode cX5_init 9 = .ok (.aload_n 0, 1) := dk_42 (dk_at dksX5_init_0 9 rfl rfl)
theorem dX5_init_10 : decode cX5_init 10 = .ok (.iconst (-1), 1) := dk_2 (dk_at dksX5_init_0 10 rfl rfl)
theorem dX5_init_11 : decode cX5_init 11 = .ok (.putfield 15, 3) := dk_181 0 15 (dk_at dksX5_init_0 11 rfl rfl)
theorem dX5_init_14 : decode cX5_init 14 = .ok (.aload_n 0, 1) := dk_42 (dk_at dksX5_init_0 14 rfl rfl)
theorem dX5_init_15 : decode cX5_init 15 = .ok (.iconst (-1), 1) := dk_2 (dk_at dksX5_init_0 15 rfl rfl)
theorem dX5_init_16 : decode cX5_init 16 = .ok (.putfield 18, 3) := dk_181 0 18 (dk_at dksX5_init_0 16 rfl rfl)
theorem dX5_init_19 : decode cX5_init 19 = .ok (.aload_n 0, 1) := dk_42 (dk_at dksX5_init_0 19 rfl rfl)
theorem dX5_init_20 : decode cX5_init 20 = .ok (.iload_n 1, 1) := dk_27 (dk_at dksX5_init_0 20 rfl rfl)
theorem dX5_init_21 : decode cX5_init 21 = .ok (.putfield 21, 3) := dk_181 0 21 (dk_at dksX5_init_0 21 rfl rfl)
theorem dX5_init_24 : decode cX5_init 24 = .ok (.aload_n 0, 1) := dk_42 (dk_at dksX5_init_1 0 rfl rfl)
theorem dX5_init_25 : decode cX5_init 25 = .ok (.iload_n 2, 1) := dk_28 (dk_at dksX5_init_1 1 rfl rfl)
theorem dX5_init_26 : decode cX5_init 26 = .ok (.putfield 24, 3) := dk_181 0 24 (dk_at dksX5_init_1 2 rfl rfl)
theorem dX5_init_29 : decode cX5_init 29 = .ok (.aload_n 0, 1) := dk_42 (dk_at dksX5_init_1 5 rfl rfl)
theorem dX5_init_30 : decode cX5_init 30 = .ok (.iload_n 2, 1) := dk_28 (dk_at dksX5_init_1 6 rfl rfl)
theorem dX5_init_31 : decode cX5_init 31 = .ok (.invokestatic 27, 3) := dk_184 0 27 (dk_at dksX5_init_1 7 rfl rfl)
theorem dX5_init_34 : decode cX5_init 34 = .ok (.putfield 33, 3) := dk_181 0 33 (dk_at dksX5_init_1 10 rfl rfl)
theorem dX5_init_37 : decode cX5_init 37 = .ok (.return_, 1) := dk_177 (dk_at dksX5_init_1 13 rfl rfl)
abbrev cX5_canRot : ByteArray := prog_2_method_2_code
def yX5_canRot : MethodName := ⟨RX5, "canRot", "()Z"⟩
def dkwX5_canRot_1 : List UInt8 := [167, 0, 4, 3, 172]
abbrev dktX5_canRot_1 : List UInt8 := dkwX5_canRot_1 ++ []
def dkwX5_canRot_0 : List UInt8 := [42, 180, 0, 9, 153, 0, 19, 42, 180, 0, 9, 4, 159, 0, 11, 42, 180, 0, 9, 5, 160, 0, 7, 4]
abbrev dktX5_canRot_0 : List UInt8 := dkwX5_canRot_0 ++ dktX5_canRot_1
theorem dksX5_canRot_0 : cX5_canRot.data.toList.drop 0 = dktX5_canRot_0 := by decide +kernel
theorem dksX5_canRot_1 : cX5_canRot.data.toList.drop 24 = dktX5_canRot_1 := dk_seg dksX5_canRot_0 24 rfl rfl
theorem dX5_canRot_0 : decode cX5_canRot 0 = .ok (.aload_n 0, 1) := dk_42 (dk_at dksX5_canRot_0 0 rfl rfl)
theorem dX5_canRot_1 : decode cX5_canRot 1 = .ok (.getfield 9, 3) := dk_180 0 9 (dk_at dksX5_canRot_0 1 rfl rfl)
theorem dX5_canRot_4 : decode cX5_canRot 4 = .ok (.ifCond .eq 19, 3) := dk_153 0 19 (dk_at dksX5_canRot_0 4 rfl rfl)
theorem dX5_canRot_7 : decode cX5_canRot 7 = .ok (.aload_n 0, 1) := dk_42 (dk_at dksX5_canRot_0 7 rfl rfl)
theorem dX5_canRot_8 : decode cX5_canRot 8 = .ok (.getfield 9, 3) := dk_180 0 9 (dk_at dksX5_canRot_0 8 rfl rfl)
theorem dX5_canRot_11 : decode cX5_canRot 11 = .ok (.iconst 1, 1) := dk_4 (dk_at dksX5_canRot_0 11 rfl rfl)
theorem dX5_canRot_12 : decode cX5_canRot 12 = .ok (.if_icmp .eq 11, 3) := dk_159 0 11 (dk_at dksX5_canRot_0 12 rfl rfl)
theorem dX5_canRot_15 : decode cX5_canRot 15 = .ok (.aload_n 0, 1) := dk_42 (dk_at dksX5_canRot_0 15 rfl rfl)
theorem dX5_canRot_16 : decode cX5_canRot 16 = .ok (.getfield 9, 3) := dk_180 0 9 (dk_at dksX5_canRot_0 16 rfl rfl)
theorem dX5_canRot_19 : decode cX5_canRot 19 = .ok (.iconst 2, 1) := dk_5 (dk_at dksX5_canRot_0 19 rfl rfl)
theorem dX5_canRot_20 : decode cX5_canRot 20 = .ok (.if_icmp .ne 7, 3) := dk_160 0 7 (dk_at dksX5_canRot_0 20 rfl rfl)
theorem dX5_canRot_23 : decode cX5_canRot 23 = .ok (.iconst 1, 1) := dk_4 (dk_at dksX5_canRot_0 23 rfl rfl)
theorem dX5_canRot_24 : decode cX5_canRot 24 = .ok (.goto 4, 3) := dk_167 0 4 (dk_at dksX5_canRot_1 0 rfl rfl)
theorem dX5_canRot_27 : decode cX5_canRot 27 = .ok (.iconst 0, 1) := dk_3 (dk_at dksX5_canRot_1 3 rfl rfl)
theorem dX5_canRot_28 : decode cX5_canRot 28 = .ok (.ireturn, 1) := dk_172 (dk_at dksX5_canRot_1 4 rfl rfl)
theorem q109 : (Jvm.Cond.initialized "Bogsign$Board") ∈ lw_all := lw_g (lw_at lw_m1 38 rfl) rfl
theorem q937 : (Jvm.Cond.selects "Bogsign$Board" ({ cls := "java/lang/Object", name := "getClass", desc := "()Ljava/lang/Class;" } : Jvm.MethodName) ({ cls := "java/lang/Object", name := "getClass", desc := "()Ljava/lang/Class;" } : Jvm.MethodName)) ∈ lw_all := lw_g (lw_at lw_m4 146 rfl) rfl
theorem q1623 : (Jvm.Cond.instantiable "Bogsign$Board" (8 : Nat)) ∈ lw_all := lw_g (lw_at lw_m7 112 rfl) rfl
theorem q1625 : (Jvm.Cond.instanceMethod ({ cls := "Bogsign$Board", name := "<init>", desc := "(II)V" } : Jvm.MethodName)) ∈ lw_all := lw_g (lw_at lw_m7 114 rfl) rfl
theorem q1626 : (Jvm.Cond.code ({ cls := "Bogsign$Board", name := "<init>", desc := "(II)V" } : Jvm.MethodName) prog_2_method_1_code (3 : Nat) (Option.none : Option Jvm.ClassFile.FieldType)) ∈ lw_all := lw_g (lw_at lw_m7 115 rfl) rfl
theorem q1627 : (Jvm.Cond.methodLink "Bogsign$Board" (3 : Nat) ({ cls := "java/lang/Object", name := "<init>", desc := "()V" } : Jvm.MethodName)) ∈ lw_all := lw_g (lw_at lw_m7 116 rfl) rfl
theorem q1628 : (Jvm.Cond.methodLink "Bogsign$Board" (27 : Nat) ({ cls := "Bogsign$Seasons", name := "of", desc := "(I)I" } : Jvm.MethodName)) ∈ lw_all := lw_g (lw_at lw_m7 117 rfl) rfl
theorem q1629 : (Jvm.Cond.fieldLink "Bogsign$Board" (21 : Nat) "Bogsign$Board" "number" "I") ∈ lw_all := lw_g (lw_at lw_m7 118 rfl) rfl
theorem q1631 : (Jvm.Cond.fieldLink "Bogsign$Board" (33 : Nat) "Bogsign$Board" "season" "I") ∈ lw_all := lw_g (lw_at lw_m7 120 rfl) rfl
theorem q1633 : (Jvm.Cond.fieldLink "Bogsign$Board" (24 : Nat) "Bogsign$Board" "came" "I") ∈ lw_all := lw_g (lw_at lw_m7 122 rfl) rfl
theorem q1635 : (Jvm.Cond.fieldLink "Bogsign$Board" (9 : Nat) "Bogsign$Board" "where" "I") ∈ lw_all := lw_g (lw_at lw_m7 124 rfl) rfl
theorem q1638 : (Jvm.Cond.fieldLink "Bogsign$Board" (15 : Nat) "Bogsign$Board" "stretch" "I") ∈ lw_all := lw_g (lw_at lw_m7 127 rfl) rfl
theorem q1643 : (Jvm.Cond.fieldLink "Bogsign$Board" (18 : Nat) "Bogsign$Board" "to" "I") ∈ lw_all := lw_g (lw_at lw_m7 132 rfl) rfl
theorem q1646 : (Jvm.Cond.laysFinal "Bogsign$Board" "Bogsign$Board" "number" "I") ∈ lw_all := lw_g (lw_at lw_m7 135 rfl) rfl
theorem q1647 : (Jvm.Cond.soleField "Bogsign$Board" "number") ∈ lw_all := lw_g (lw_at lw_m7 136 rfl) rfl
theorem q1648 : (Jvm.Cond.laysFinal "Bogsign$Board" "Bogsign$Board" "season" "I") ∈ lw_all := lw_g (lw_at lw_m7 137 rfl) rfl
theorem q1649 : (Jvm.Cond.soleField "Bogsign$Board" "season") ∈ lw_all := lw_g (lw_at lw_m7 138 rfl) rfl
theorem q1650 : (Jvm.Cond.laysFinal "Bogsign$Board" "Bogsign$Board" "came" "I") ∈ lw_all := lw_g (lw_at lw_m7 139 rfl) rfl
theorem q1651 : (Jvm.Cond.soleField "Bogsign$Board" "came") ∈ lw_all := lw_g (lw_at lw_m7 140 rfl) rfl
theorem q1652 : (Jvm.Cond.lays "Bogsign$Board" "Bogsign$Board" "where" "I") ∈ lw_all := lw_g (lw_at lw_m7 141 rfl) rfl
theorem q1653 : (Jvm.Cond.soleField "Bogsign$Board" "where") ∈ lw_all := lw_g (lw_at lw_m7 142 rfl) rfl
theorem q1654 : (Jvm.Cond.lays "Bogsign$Board" "Bogsign$Board" "stretch" "I") ∈ lw_all := lw_g (lw_at lw_m7 143 rfl) rfl
theorem q1655 : (Jvm.Cond.soleField "Bogsign$Board" "stretch") ∈ lw_all := lw_g (lw_at lw_m7 144 rfl) rfl
theorem q1656 : (Jvm.Cond.lays "Bogsign$Board" "Bogsign$Board" "depth" "I") ∈ lw_all := lw_g (lw_at lw_m7 145 rfl) rfl
theorem q1657 : (Jvm.Cond.soleField "Bogsign$Board" "depth") ∈ lw_all := lw_g (lw_at lw_m7 146 rfl) rfl
theorem q1658 : (Jvm.Cond.lays "Bogsign$Board" "Bogsign$Board" "from" "I") ∈ lw_all := lw_g (lw_at lw_m7 147 rfl) rfl
theorem q1659 : (Jvm.Cond.soleField "Bogsign$Board" "from") ∈ lw_all := lw_g (lw_at lw_m7 148 rfl) rfl
theorem q1660 : (Jvm.Cond.lays "Bogsign$Board" "Bogsign$Board" "to" "I") ∈ lw_all := lw_g (lw_at lw_m7 149 rfl) rfl
theorem q1661 : (Jvm.Cond.soleField "Bogsign$Board" "to") ∈ lw_all := lw_g (lw_at lw_m7 150 rfl) rfl
theorem q1662 : (Jvm.Cond.superclass "Bogsign$Board" "java/lang/Object") ∈ lw_all := lw_g (lw_at lw_m7 151 rfl) rfl
theorem q1991 : (Jvm.Cond.instanceMethod ({ cls := "Bogsign$Board", name := "canRot", desc := "()Z" } : Jvm.MethodName)) ∈ lw_all := lw_g (lw_at lw_m9 0 rfl) rfl
theorem q1992 : (Jvm.Cond.selects "Bogsign$Board" ({ cls := "Bogsign$Board", name := "canRot", desc := "()Z" } : Jvm.MethodName) ({ cls := "Bogsign$Board", name := "canRot", desc := "()Z" } : Jvm.MethodName)) ∈ lw_all := lw_g (lw_at lw_m9 1 rfl) rfl
theorem q1993 : (Jvm.Cond.code ({ cls := "Bogsign$Board", name := "canRot", desc := "()Z" } : Jvm.MethodName) prog_2_method_2_code (1 : Nat) (Option.some Jvm.ClassFile.FieldType.boolean)) ∈ lw_all := lw_g (lw_at lw_m9 2 rfl) rfl
theorem q2018 : (Jvm.Cond.selects "Bogsign$Board" ({ cls := "java/lang/Object", name := "equals", desc := "(Ljava/lang/Object;)Z" } : Jvm.MethodName) ({ cls := "java/lang/Object", name := "equals", desc := "(Ljava/lang/Object;)Z" } : Jvm.MethodName)) ∈ lw_all := lw_g (lw_at lw_m9 27 rfl) rfl
theorem q2695 : (Jvm.Cond.castable "Bogsign$Board" "java/lang/Object") ∈ lw_tbl := lw_at lw_m11 224 rfl
theorem in_X5 : ∀ w ∈ wsX50, w ∈ lw_all := lw_in wsX50 [1646, 1648, 1650, 1652, 1654, 1656, 1658, 1660] (by decide +kernel) (by decide +kernel)

/-! Bogsign$Seasons -/
set_option maxRecDepth 100000
def RX6 : String := "Bogsign$Seasons"
abbrev cX6_of : ByteArray := prog_9_method_1_code
def yX6_of : MethodName := ⟨RX6, "of", "(I)I"⟩
def dkwX6_of_0 : List UInt8 := [26, 16, 91, 108, 7, 112, 172]
abbrev dktX6_of_0 : List UInt8 := dkwX6_of_0 ++ []
theorem dksX6_of_0 : cX6_of.data.toList.drop 0 = dktX6_of_0 := by decide +kernel
theorem dX6_of_0 : decode cX6_of 0 = .ok (.iload_n 0, 1) := dk_26 (dk_at dksX6_of_0 0 rfl rfl)
theorem dX6_of_1 : decode cX6_of 1 = .ok (.bipush 91, 2) := dk_16 91 (dk_at dksX6_of_0 1 rfl rfl)
theorem dX6_of_3 : decode cX6_of 3 = .ok (.idiv, 1) := dk_108 (dk_at dksX6_of_0 3 rfl rfl)
theorem dX6_of_4 : decode cX6_of 4 = .ok (.iconst 4, 1) := dk_7 (dk_at dksX6_of_0 4 rfl rfl)
theorem dX6_of_5 : decode cX6_of 5 = .ok (.irem, 1) := dk_112 (dk_at dksX6_of_0 5 rfl rfl)
theorem dX6_of_6 : decode cX6_of 6 = .ok (.ireturn, 1) := dk_172 (dk_at dksX6_of_0 6 rfl rfl)
abbrev cX6_goodFor : ByteArray := prog_9_method_2_code
def yX6_goodFor : MethodName := ⟨RX6, "goodFor", "(I)I"⟩
def dkwX6_goodFor_2 : List UInt8 := [17, 1, 24, 167, 0, 18, 17, 0, 210, 167, 0, 12, 17, 1, 164, 167, 0, 6, 17, 2, 48, 172]
abbrev dktX6_goodFor_2 : List UInt8 := dkwX6_goodFor_2 ++ []
def dkwX6_goodFor_1 : List UInt8 := [170, 0, 0, 0, 0, 0, 45, 0, 0, 0, 0, 0, 0, 0, 2, 0, 0, 0, 27, 0, 0, 0, 33, 0, 0, 0, 39]
abbrev dktX6_goodFor_1 : List UInt8 := dkwX6_goodFor_1 ++ dktX6_goodFor_2
def dkwX6_goodFor_0 : List UInt8 := [26]
abbrev dktX6_goodFor_0 : List UInt8 := dkwX6_goodFor_0 ++ dktX6_goodFor_1
theorem dksX6_goodFor_0 : cX6_goodFor.data.toList.drop 0 = dktX6_goodFor_0 := by decide +kernel
theorem dksX6_goodFor_1 : cX6_goodFor.data.toList.drop 1 = dktX6_goodFor_1 := dk_seg dksX6_goodFor_0 1 rfl rfl
theorem dksX6_goodFor_2 : cX6_goodFor.data.toList.drop 28 = dktX6_goodFor_2 := dk_seg dksX6_goodFor_1 27 rfl rfl
theorem dX6_goodFor_0 : decode cX6_goodFor 0 = .ok (.iload_n 0, 1) := dk_26 (dk_at dksX6_goodFor_0 0 rfl rfl)
theorem dX6_goodFor_1 : decode cX6_goodFor 1 = .ok (.tableswitch 45 0 2 #[27, 33, 39], 27) := by decide +kernel
theorem dX6_goodFor_28 : decode cX6_goodFor 28 = .ok (.sipush 280, 3) := dk_17 1 24 (dk_at dksX6_goodFor_2 0 rfl rfl)
theorem dX6_goodFor_31 : decode cX6_goodFor 31 = .ok (.goto 18, 3) := dk_167 0 18 (dk_at dksX6_goodFor_2 3 rfl rfl)
theorem dX6_goodFor_34 : decode cX6_goodFor 34 = .ok (.sipush 210, 3) := dk_17 0 210 (dk_at dksX6_goodFor_2 6 rfl rfl)
theorem dX6_goodFor_37 : decode cX6_goodFor 37 = .ok (.goto 12, 3) := dk_167 0 12 (dk_at dksX6_goodFor_2 9 rfl rfl)
theorem dX6_goodFor_40 : decode cX6_goodFor 40 = .ok (.sipush 420, 3) := dk_17 1 164 (dk_at dksX6_goodFor_2 12 rfl rfl)
theorem dX6_goodFor_43 : decode cX6_goodFor 43 = .ok (.goto 6, 3) := dk_167 0 6 (dk_at dksX6_goodFor_2 15 rfl rfl)
theorem dX6_goodFor_46 : decode cX6_goodFor 46 = .ok (.sipush 560, 3) := dk_17 2 48 (dk_at dksX6_goodFor_2 18 rfl rfl)
theorem dX6_goodFor_49 : decode cX6_goodFor 49 = .ok (.ireturn, 1) := dk_172 (dk_at dksX6_goodFor_2 21 rfl rfl)
theorem q110 : (Jvm.Cond.initialized "Bogsign$Seasons") ∈ lw_all := lw_g (lw_at lw_m1 39 rfl) rfl
theorem q363 : (Jvm.Cond.static ({ cls := "Bogsign$Seasons", name := "of", desc := "(I)I" } : Jvm.MethodName)) ∈ lw_all := lw_g (lw_at lw_m2 52 rfl) rfl
theorem q364 : (Jvm.Cond.code ({ cls := "Bogsign$Seasons", name := "of", desc := "(I)I" } : Jvm.MethodName) prog_9_method_1_code (1 : Nat) (Option.some Jvm.ClassFile.FieldType.int)) ∈ lw_all := lw_g (lw_at lw_m2 53 rfl) rfl
theorem q1995 : (Jvm.Cond.static ({ cls := "Bogsign$Seasons", name := "goodFor", desc := "(I)I" } : Jvm.MethodName)) ∈ lw_all := lw_g (lw_at lw_m9 4 rfl) rfl
theorem q1996 : (Jvm.Cond.code ({ cls := "Bogsign$Seasons", name := "goodFor", desc := "(I)I" } : Jvm.MethodName) prog_9_method_2_code (1 : Nat) (Option.some Jvm.ClassFile.FieldType.int)) ∈ lw_all := lw_g (lw_at lw_m9 5 rfl) rfl

/-! Bogsign$SentBoards -/
set_option maxRecDepth 100000
def RX7 : String := "Bogsign$SentBoards"
def TX7 : u_T := fun k => match k with
  | 0 => ("Bogsign$SentBoards", "boards", "Ljava/util/List;", true)
  | _ => ("Bogsign$SentBoards", "to", "LBogsign$Stretch;", true)
def tyX7 : Nat → FieldType := fun k => match k with
  | 0 => .object "java/util/List"
  | _ => .object "Bogsign$Stretch"
abbrev wsX70 : List Cond := u_ws RX7 TX7 2
theorem nmX7 : ∀ a, a < 2 → ∀ b, b < 2 → a ≠ b → (TX7 a).2.1 ≠ (TX7 b).2.1 := by decide +kernel
theorem tyX7_ok : ∀ k, k < 2 → parseFieldDescriptor (TX7 k).2.2.1 = some (tyX7 k) := by decide +kernel
abbrev cX7_init : ByteArray := prog_10_method_1_code
def yX7_init : MethodName := ⟨RX7, "<init>", "(LBogsign$Stretch;)V"⟩
def dkwX7_init_0 : List UInt8 := [42, 183, 0, 1, 42, 187, 0, 7, 89, 183, 0, 9, 181, 0, 10, 42, 43, 181, 0, 16, 177]
abbrev dktX7_init_0 : List UInt8 := dkwX7_init_0 ++ []
theorem dksX7_init_0 : cX7_init.data.toList.drop 0 = dktX7_init_0 := by decide +kernel
theorem dX7_init_0 : decode cX7_init 0 = .ok (.aload_n 0, 1) := dk_42 (dk_at dksX7_init_0 0 rfl rfl)
theorem dX7_init_1 : decode cX7_init 1 = .ok (.invokespecial 1, 3) := dk_183 0 1 (dk_at dksX7_init_0 1 rfl rfl)
theorem dX7_init_4 : decode cX7_init 4 = .ok (.aload_n 0, 1) := dk_42 (dk_at dksX7_init_0 4 rfl rfl)
theorem dX7_init_5 : decode cX7_init 5 = .ok (.new 7, 3) := dk_187 0 7 (dk_at dksX7_init_0 5 rfl rfl)
theorem dX7_init_8 : decode cX7_init 8 = .ok (.dup, 1) := dk_89 (dk_at dksX7_init_0 8 rfl rfl)
theorem dX7_init_9 : decode cX7_init 9 = .ok (.invokespecial 9, 3) := dk_183 0 9 (dk_at dksX7_init_0 9 rfl rfl)
theorem dX7_init_12 : decode cX7_init 12 = .ok (.putfield 10, 3) := dk_181 0 10 (dk_at dksX7_init_0 12 rfl rfl)
theorem dX7_init_15 : decode cX7_init 15 = .ok (.aload_n 0, 1) := dk_42 (dk_at dksX7_init_0 15 rfl rfl)
theorem dX7_init_16 : decode cX7_init 16 = .ok (.aload_n 1, 1) := dk_43 (dk_at dksX7_init_0 16 rfl rfl)
theorem dX7_init_17 : decode cX7_init 17 = .ok (.putfield 16, 3) := dk_181 0 16 (dk_at dksX7_init_0 17 rfl rfl)
theorem dX7_init_20 : decode cX7_init 20 = .ok (.return_, 1) := dk_177 (dk_at dksX7_init_0 20 rfl rfl)
theorem q112 : (Jvm.Cond.initialized "Bogsign$SentBoards") ∈ lw_all := lw_g (lw_at lw_m1 41 rfl) rfl
theorem q943 : (Jvm.Cond.selects "Bogsign$SentBoards" ({ cls := "java/lang/Object", name := "getClass", desc := "()Ljava/lang/Class;" } : Jvm.MethodName) ({ cls := "java/lang/Object", name := "getClass", desc := "()Ljava/lang/Class;" } : Jvm.MethodName)) ∈ lw_all := lw_g (lw_at lw_m4 152 rfl) rfl
theorem q1752 : (Jvm.Cond.instantiable "Bogsign$SentBoards" (2 : Nat)) ∈ lw_all := lw_g (lw_at lw_m8 1 rfl) rfl
theorem q1754 : (Jvm.Cond.instanceMethod ({ cls := "Bogsign$SentBoards", name := "<init>", desc := "(LBogsign$Stretch;)V" } : Jvm.MethodName)) ∈ lw_all := lw_g (lw_at lw_m8 3 rfl) rfl
theorem q1755 : (Jvm.Cond.code ({ cls := "Bogsign$SentBoards", name := "<init>", desc := "(LBogsign$Stretch;)V" } : Jvm.MethodName) prog_10_method_1_code (2 : Nat) (Option.none : Option Jvm.ClassFile.FieldType)) ∈ lw_all := lw_g (lw_at lw_m8 4 rfl) rfl
theorem q1756 : (Jvm.Cond.methodLink "Bogsign$SentBoards" (1 : Nat) ({ cls := "java/lang/Object", name := "<init>", desc := "()V" } : Jvm.MethodName)) ∈ lw_all := lw_g (lw_at lw_m8 5 rfl) rfl
theorem q1757 : (Jvm.Cond.classLink "Bogsign$SentBoards" (7 : Nat) "java/util/ArrayList") ∈ lw_all := lw_g (lw_at lw_m8 6 rfl) rfl
theorem q1758 : (Jvm.Cond.methodLink "Bogsign$SentBoards" (9 : Nat) ({ cls := "java/util/ArrayList", name := "<init>", desc := "()V" } : Jvm.MethodName)) ∈ lw_all := lw_g (lw_at lw_m8 7 rfl) rfl
theorem q1759 : (Jvm.Cond.fieldLink "Bogsign$SentBoards" (10 : Nat) "Bogsign$SentBoards" "boards" "Ljava/util/List;") ∈ lw_all := lw_g (lw_at lw_m8 8 rfl) rfl
theorem q1761 : (Jvm.Cond.fieldLink "Bogsign$SentBoards" (16 : Nat) "Bogsign$SentBoards" "to" "LBogsign$Stretch;") ∈ lw_all := lw_g (lw_at lw_m8 10 rfl) rfl
theorem q1763 : (Jvm.Cond.laysFinal "Bogsign$SentBoards" "Bogsign$SentBoards" "boards" "Ljava/util/List;") ∈ lw_all := lw_g (lw_at lw_m8 12 rfl) rfl
theorem q1764 : (Jvm.Cond.soleField "Bogsign$SentBoards" "boards") ∈ lw_all := lw_g (lw_at lw_m8 13 rfl) rfl
theorem q1765 : (Jvm.Cond.laysFinal "Bogsign$SentBoards" "Bogsign$SentBoards" "to" "LBogsign$Stretch;") ∈ lw_all := lw_g (lw_at lw_m8 14 rfl) rfl
theorem q1766 : (Jvm.Cond.soleField "Bogsign$SentBoards" "to") ∈ lw_all := lw_g (lw_at lw_m8 15 rfl) rfl
theorem q1767 : (Jvm.Cond.superclass "Bogsign$SentBoards" "java/lang/Object") ∈ lw_all := lw_g (lw_at lw_m8 16 rfl) rfl
theorem q2024 : (Jvm.Cond.selects "Bogsign$SentBoards" ({ cls := "java/lang/Object", name := "equals", desc := "(Ljava/lang/Object;)Z" } : Jvm.MethodName) ({ cls := "java/lang/Object", name := "equals", desc := "(Ljava/lang/Object;)Z" } : Jvm.MethodName)) ∈ lw_all := lw_g (lw_at lw_m9 33 rfl) rfl
theorem q2678 : (Jvm.Cond.castable "Bogsign$SentBoards" "Bogsign$Coming") ∈ lw_tbl := lw_at lw_m11 207 rfl
theorem q2697 : (Jvm.Cond.castable "Bogsign$SentBoards" "java/lang/Object") ∈ lw_tbl := lw_at lw_m11 226 rfl
theorem in_X7 : ∀ w ∈ wsX70, w ∈ lw_all := lw_in wsX70 [1763, 1765] (by decide +kernel) (by decide +kernel)

/-! Bogsign$Words -/
set_option maxRecDepth 100000
def RX8 : String := "Bogsign$Words"
abbrev cX8_text : ByteArray := prog_12_method_1_code
def yX8_text : MethodName := ⟨RX8, "text", "(I)Ljava/lang/String;"⟩
def dkwX8_text_0 : List UInt8 := [18, 3, 8, 26, 104, 8, 26, 104, 7, 96, 182, 0, 5, 176]
abbrev dktX8_text_0 : List UInt8 := dkwX8_text_0 ++ []
theorem dksX8_text_0 : cX8_text.data.toList.drop 0 = dktX8_text_0 := by decide +kernel
theorem dX8_text_0 : decode cX8_text 0 = .ok (.ldc 3, 2) := dk_18 3 (dk_at dksX8_text_0 0 rfl rfl)
theorem dX8_text_2 : decode cX8_text 2 = .ok (.iconst 5, 1) := dk_8 (dk_at dksX8_text_0 2 rfl rfl)
theorem dX8_text_3 : decode cX8_text 3 = .ok (.iload_n 0, 1) := dk_26 (dk_at dksX8_text_0 3 rfl rfl)
theorem dX8_text_4 : decode cX8_text 4 = .ok (.imul, 1) := dk_104 (dk_at dksX8_text_0 4 rfl rfl)
theorem dX8_text_5 : decode cX8_text 5 = .ok (.iconst 5, 1) := dk_8 (dk_at dksX8_text_0 5 rfl rfl)
theorem dX8_text_6 : decode cX8_text 6 = .ok (.iload_n 0, 1) := dk_26 (dk_at dksX8_text_0 6 rfl rfl)
theorem dX8_text_7 : decode cX8_text 7 = .ok (.imul, 1) := dk_104 (dk_at dksX8_text_0 7 rfl rfl)
theorem dX8_text_8 : decode cX8_text 8 = .ok (.iconst 4, 1) := dk_7 (dk_at dksX8_text_0 8 rfl rfl)
theorem dX8_text_9 : decode cX8_text 9 = .ok (.iadd, 1) := dk_96 (dk_at dksX8_text_0 9 rfl rfl)
theorem dX8_text_10 : decode cX8_text 10 = .ok (.invokevirtual 5, 3) := dk_182 0 5 (dk_at dksX8_text_0 10 rfl rfl)
theorem dX8_text_13 : decode cX8_text 13 = .ok (.areturn, 1) := dk_176 (dk_at dksX8_text_0 13 rfl rfl)
abbrev cX8_plain : ByteArray := prog_12_method_3_code
def yX8_plain : MethodName := ⟨RX8, "plain", "(Ljava/lang/String;)I"⟩
def dkwX8_plain_5 : List UInt8 := [16, 100, 167, 0, 16, 17, 1, 44, 167, 0, 10, 17, 2, 188, 167, 0, 4, 3, 172]
abbrev dktX8_plain_5 : List UInt8 := dkwX8_plain_5 ++ []
def dkwX8_plain_4 : List UInt8 := [170, 0, 0, 0, 0, 0, 0, 45, 0, 0, 0, 0, 0, 0, 0, 2, 0, 0, 0, 28, 0, 0, 0, 33, 0, 0, 0, 39]
abbrev dktX8_plain_4 : List UInt8 := dkwX8_plain_4 ++ dktX8_plain_5
def dkwX8_plain_3 : List UInt8 := [61, 167, 0, 14, 43, 18, 23, 182, 0, 17, 153, 0, 5, 5, 61, 28]
abbrev dktX8_plain_3 : List UInt8 := dkwX8_plain_3 ++ dktX8_plain_4
def dkwX8_plain_2 : List UInt8 := [43, 18, 15, 182, 0, 17, 153, 0, 33, 3, 61, 167, 0, 28, 43, 18, 21, 182, 0, 17, 153, 0, 19, 4]
abbrev dktX8_plain_2 : List UInt8 := dkwX8_plain_2 ++ dktX8_plain_3
def dkwX8_plain_1 : List UInt8 := [171, 0, 0, 0, 0, 0, 0, 75, 0, 0, 0, 3, 0, 46, 252, 236, 0, 0, 0, 50, 0, 48, 128, 159, 0, 0, 0, 64, 0, 53, 244, 42, 0, 0, 0, 36]
abbrev dktX8_plain_1 : List UInt8 := dkwX8_plain_1 ++ dktX8_plain_2
def dkwX8_plain_0 : List UInt8 := [42, 76, 2, 61, 43, 182, 0, 11]
abbrev dktX8_plain_0 : List UInt8 := dkwX8_plain_0 ++ dktX8_plain_1
theorem dksX8_plain_0 : cX8_plain.data.toList.drop 0 = dktX8_plain_0 := by decide +kernel
theorem dksX8_plain_1 : cX8_plain.data.toList.drop 8 = dktX8_plain_1 := dk_seg dksX8_plain_0 8 rfl rfl
theorem dksX8_plain_2 : cX8_plain.data.toList.drop 44 = dktX8_plain_2 := dk_seg dksX8_plain_1 36 rfl rfl
theorem dksX8_plain_3 : cX8_plain.data.toList.drop 68 = dktX8_plain_3 := dk_seg dksX8_plain_2 24 rfl rfl
theorem dksX8_plain_4 : cX8_plain.data.toList.drop 84 = dktX8_plain_4 := dk_seg dksX8_plain_3 16 rfl rfl
theorem dksX8_plain_5 : cX8_plain.data.toList.drop 112 = dktX8_plain_5 := dk_seg dksX8_plain_4 28 rfl rfl
theorem dX8_plain_0 : decode cX8_plain 0 = .ok (.aload_n 0, 1) := dk_42 (dk_at dksX8_plain_0 0 rfl rfl)
theorem dX8_plain_1 : decode cX8_plain 1 = .ok (.astore_n 1, 1) := dk_76 (dk_at dksX8_plain_0 1 rfl rfl)
theorem dX8_plain_2 : decode cX8_plain 2 = .ok (.iconst (-1), 1) := dk_2 (dk_at dksX8_plain_0 2 rfl rfl)
theorem dX8_plain_3 : decode cX8_plain 3 = .ok (.istore_n 2, 1) := dk_61 (dk_at dksX8_plain_0 3 rfl rfl)
theorem dX8_plain_4 : decode cX8_plain 4 = .ok (.aload_n 1, 1) := dk_43 (dk_at dksX8_plain_0 4 rfl rfl)
theorem dX8_plain_5 : decode cX8_plain 5 = .ok (.invokevirtual 11, 3) := dk_182 0 11 (dk_at dksX8_plain_0 5 rfl rfl)
theorem dX8_plain_8 : decode cX8_plain 8 = .ok (.lookupswitch 75 #[(3079404, 50), (3178655, 64), (3535914, 36)], 36) := by decide +kernel
theorem dX8_plain_44 : decode cX8_plain 44 = .ok (.aload_n 1, 1) := dk_43 (dk_at dksX8_plain_2 0 rfl rfl)
theorem dX8_plain_45 : decode cX8_plain 45 = .ok (.ldc 15, 2) := dk_18 15 (dk_at dksX8_plain_2 1 rfl rfl)
theorem dX8_plain_47 : decode cX8_plain 47 = .ok (.invokevirtual 17, 3) := dk_182 0 17 (dk_at dksX8_plain_2 3 rfl rfl)
theorem dX8_plain_50 : decode cX8_plain 50 = .ok (.ifCond .eq 33, 3) := dk_153 0 33 (dk_at dksX8_plain_2 6 rfl rfl)
theorem dX8_plain_53 : decode cX8_plain 53 = .ok (.iconst 0, 1) := dk_3 (dk_at dksX8_plain_2 9 rfl rfl)
theorem dX8_plain_54 : decode cX8_plain 54 = .ok (.istore_n 2, 1) := dk_61 (dk_at dksX8_plain_2 10 rfl rfl)
theorem dX8_plain_55 : decode cX8_plain 55 = .ok (.goto 28, 3) := dk_167 0 28 (dk_at dksX8_plain_2 11 rfl rfl)
theorem dX8_plain_58 : decode cX8_plain 58 = .ok (.aload_n 1, 1) := dk_43 (dk_at dksX8_plain_2 14 rfl rfl)
theorem dX8_plain_59 : decode cX8_plain 59 = .ok (.ldc 21, 2) := dk_18 21 (dk_at dksX8_plain_2 15 rfl rfl)
theorem dX8_plain_61 : decode cX8_plain 61 = .ok (.invokevirtual 17, 3) := dk_182 0 17 (dk_at dksX8_plain_2 17 rfl rfl)
theorem dX8_plain_64 : decode cX8_plain 64 = .ok (.ifCond .eq 19, 3) := dk_153 0 19 (dk_at dksX8_plain_2 20 rfl rfl)
theorem dX8_plain_67 : decode cX8_plain 67 = .ok (.iconst 1, 1) := dk_4 (dk_at dksX8_plain_2 23 rfl rfl)
theorem dX8_plain_68 : decode cX8_plain 68 = .ok (.istore_n 2, 1) := dk_61 (dk_at dksX8_plain_3 0 rfl rfl)
theorem dX8_plain_69 : decode cX8_plain 69 = .ok (.goto 14, 3) := dk_167 0 14 (dk_at dksX8_plain_3 1 rfl rfl)
theorem dX8_plain_72 : decode cX8_plain 72 = .ok (.aload_n 1, 1) := dk_43 (dk_at dksX8_plain_3 4 rfl rfl)
theorem dX8_plain_73 : decode cX8_plain 73 = .ok (.ldc 23, 2) := dk_18 23 (dk_at dksX8_plain_3 5 rfl rfl)
theorem dX8_plain_75 : decode cX8_plain 75 = .ok (.invokevirtual 17, 3) := dk_182 0 17 (dk_at dksX8_plain_3 7 rfl rfl)
theorem dX8_plain_78 : decode cX8_plain 78 = .ok (.ifCond .eq 5, 3) := dk_153 0 5 (dk_at dksX8_plain_3 10 rfl rfl)
theorem dX8_plain_81 : decode cX8_plain 81 = .ok (.iconst 2, 1) := dk_5 (dk_at dksX8_plain_3 13 rfl rfl)
theorem dX8_plain_82 : decode cX8_plain 82 = .ok (.istore_n 2, 1) := dk_61 (dk_at dksX8_plain_3 14 rfl rfl)
theorem dX8_plain_83 : decode cX8_plain 83 = .ok (.iload_n 2, 1) := dk_28 (dk_at dksX8_plain_3 15 rfl rfl)
theorem dX8_plain_84 : decode cX8_plain 84 = .ok (.tableswitch 45 0 2 #[28, 33, 39], 28) := by decide +kernel
theorem dX8_plain_112 : decode cX8_plain 112 = .ok (.bipush 100, 2) := dk_16 100 (dk_at dksX8_plain_5 0 rfl rfl)
theorem dX8_plain_114 : decode cX8_plain 114 = .ok (.goto 16, 3) := dk_167 0 16 (dk_at dksX8_plain_5 2 rfl rfl)
theorem dX8_plain_117 : decode cX8_plain 117 = .ok (.sipush 300, 3) := dk_17 1 44 (dk_at dksX8_plain_5 5 rfl rfl)
theorem dX8_plain_120 : decode cX8_plain 120 = .ok (.goto 10, 3) := dk_167 0 10 (dk_at dksX8_plain_5 8 rfl rfl)
theorem dX8_plain_123 : decode cX8_plain 123 = .ok (.sipush 700, 3) := dk_17 2 188 (dk_at dksX8_plain_5 11 rfl rfl)
theorem dX8_plain_126 : decode cX8_plain 126 = .ok (.goto 4, 3) := dk_167 0 4 (dk_at dksX8_plain_5 14 rfl rfl)
theorem dX8_plain_129 : decode cX8_plain 129 = .ok (.iconst 0, 1) := dk_3 (dk_at dksX8_plain_5 17 rfl rfl)
theorem dX8_plain_130 : decode cX8_plain 130 = .ok (.ireturn, 1) := dk_172 (dk_at dksX8_plain_5 18 rfl rfl)
abbrev cX8_asked : ByteArray := prog_12_method_2_code
def yX8_asked : MethodName := ⟨RX8, "asked", "(Ljava/lang/String;)I"⟩
def dkwX8_asked_5 : List UInt8 := [4, 167, 0, 12, 5, 167, 0, 8, 7, 167, 0, 4, 3, 172]
abbrev dktX8_asked_5 : List UInt8 := dkwX8_asked_5 ++ []
def dkwX8_asked_4 : List UInt8 := [170, 0, 0, 0, 0, 0, 0, 40, 0, 0, 0, 0, 0, 0, 0, 2, 0, 0, 0, 28, 0, 0, 0, 32, 0, 0, 0, 36]
abbrev dktX8_asked_4 : List UInt8 := dkwX8_asked_4 ++ dktX8_asked_5
def dkwX8_asked_3 : List UInt8 := [61, 167, 0, 14, 43, 18, 23, 182, 0, 17, 153, 0, 5, 5, 61, 28]
abbrev dktX8_asked_3 : List UInt8 := dkwX8_asked_3 ++ dktX8_asked_4
def dkwX8_asked_2 : List UInt8 := [43, 18, 15, 182, 0, 17, 153, 0, 33, 3, 61, 167, 0, 28, 43, 18, 21, 182, 0, 17, 153, 0, 19, 4]
abbrev dktX8_asked_2 : List UInt8 := dkwX8_asked_2 ++ dktX8_asked_3
def dkwX8_asked_1 : List UInt8 := [171, 0, 0, 0, 0, 0, 0, 75, 0, 0, 0, 3, 0, 46, 252, 236, 0, 0, 0, 50, 0, 48, 128, 159, 0, 0, 0, 64, 0, 53, 244, 42, 0, 0, 0, 36]
abbrev dktX8_asked_1 : List UInt8 := dkwX8_asked_1 ++ dktX8_asked_2
def dkwX8_asked_0 : List UInt8 := [42, 76, 2, 61, 43, 182, 0, 11]
abbrev dktX8_asked_0 : List UInt8 := dkwX8_asked_0 ++ dktX8_asked_1
theorem dksX8_asked_0 : cX8_asked.data.toList.drop 0 = dktX8_asked_0 := by decide +kernel
theorem dksX8_asked_1 : cX8_asked.data.toList.drop 8 = dktX8_asked_1 := dk_seg dksX8_asked_0 8 rfl rfl
theorem dksX8_asked_2 : cX8_asked.data.toList.drop 44 = dktX8_asked_2 := dk_seg dksX8_asked_1 36 rfl rfl
theorem dksX8_asked_3 : cX8_asked.data.toList.drop 68 = dktX8_asked_3 := dk_seg dksX8_asked_2 24 rfl rfl
theorem dksX8_asked_4 : cX8_asked.data.toList.drop 84 = dktX8_asked_4 := dk_seg dksX8_asked_3 16 rfl rfl
theorem dksX8_asked_5 : cX8_asked.data.toList.drop 112 = dktX8_asked_5 := dk_seg dksX8_asked_4 28 rfl rfl
theorem dX8_asked_0 : decode cX8_asked 0 = .ok (.aload_n 0, 1) := dk_42 (dk_at dksX8_asked_0 0 rfl rfl)
theorem dX8_asked_1 : decode cX8_asked 1 = .ok (.astore_n 1, 1) := dk_76 (dk_at dksX8_asked_0 1 rfl rfl)
theorem dX8_asked_2 : decode cX8_asked 2 = .ok (.iconst (-1), 1) := dk_2 (dk_at dksX8_asked_0 2 rfl rfl)
theorem dX8_asked_3 : decode cX8_asked 3 = .ok (.istore_n 2, 1) := dk_61 (dk_at dksX8_asked_0 3 rfl rfl)
theorem dX8_asked_4 : decode cX8_asked 4 = .ok (.aload_n 1, 1) := dk_43 (dk_at dksX8_asked_0 4 rfl rfl)
theorem dX8_asked_5 : decode cX8_asked 5 = .ok (.invokevirtual 11, 3) := dk_182 0 11 (dk_at dksX8_asked_0 5 rfl rfl)
theorem dX8_asked_8 : decode cX8_asked 8 = .ok (.lookupswitch 75 #[(3079404, 50), (3178655, 64), (3535914, 36)], 36) := by decide +kernel
theorem dX8_asked_44 : decode cX8_asked 44 = .ok (.aload_n 1, 1) := dk_43 (dk_at dksX8_asked_2 0 rfl rfl)
theorem dX8_asked_45 : decode cX8_asked 45 = .ok (.ldc 15, 2) := dk_18 15 (dk_at dksX8_asked_2 1 rfl rfl)
theorem dX8_asked_47 : decode cX8_asked 47 = .ok (.invokevirtual 17, 3) := dk_182 0 17 (dk_at dksX8_asked_2 3 rfl rfl)
theorem dX8_asked_50 : decode cX8_asked 50 = .ok (.ifCond .eq 33, 3) := dk_153 0 33 (dk_at dksX8_asked_2 6 rfl rfl)
theorem dX8_asked_53 : decode cX8_asked 53 = .ok (.iconst 0, 1) := dk_3 (dk_at dksX8_asked_2 9 rfl rfl)
theorem dX8_asked_54 : decode cX8_asked 54 = .ok (.istore_n 2, 1) := dk_61 (dk_at dksX8_asked_2 10 rfl rfl)
theorem dX8_asked_55 : decode cX8_asked 55 = .ok (.goto 28, 3) := dk_167 0 28 (dk_at dksX8_asked_2 11 rfl rfl)
theorem dX8_asked_58 : decode cX8_asked 58 = .ok (.aload_n 1, 1) := dk_43 (dk_at dksX8_asked_2 14 rfl rfl)
theorem dX8_asked_59 : decode cX8_asked 59 = .ok (.ldc 21, 2) := dk_18 21 (dk_at dksX8_asked_2 15 rfl rfl)
theorem dX8_asked_61 : decode cX8_asked 61 = .ok (.invokevirtual 17, 3) := dk_182 0 17 (dk_at dksX8_asked_2 17 rfl rfl)
theorem dX8_asked_64 : decode cX8_asked 64 = .ok (.ifCond .eq 19, 3) := dk_153 0 19 (dk_at dksX8_asked_2 20 rfl rfl)
theorem dX8_asked_67 : decode cX8_asked 67 = .ok (.iconst 1, 1) := dk_4 (dk_at dksX8_asked_2 23 rfl rfl)
theorem dX8_asked_68 : decode cX8_asked 68 = .ok (.istore_n 2, 1) := dk_61 (dk_at dksX8_asked_3 0 rfl rfl)
theorem dX8_asked_69 : decode cX8_asked 69 = .ok (.goto 14, 3) := dk_167 0 14 (dk_at dksX8_asked_3 1 rfl rfl)
theorem dX8_asked_72 : decode cX8_asked 72 = .ok (.aload_n 1, 1) := dk_43 (dk_at dksX8_asked_3 4 rfl rfl)
theorem dX8_asked_73 : decode cX8_asked 73 = .ok (.ldc 23, 2) := dk_18 23 (dk_at dksX8_asked_3 5 rfl rfl)
theorem dX8_asked_75 : decode cX8_asked 75 = .ok (.invokevirtual 17, 3) := dk_182 0 17 (dk_at dksX8_asked_3 7 rfl rfl)
theorem dX8_asked_78 : decode cX8_asked 78 = .ok (.ifCond .eq 5, 3) := dk_153 0 5 (dk_at dksX8_asked_3 10 rfl rfl)
theorem dX8_asked_81 : decode cX8_asked 81 = .ok (.iconst 2, 1) := dk_5 (dk_at dksX8_asked_3 13 rfl rfl)
theorem dX8_asked_82 : decode cX8_asked 82 = .ok (.istore_n 2, 1) := dk_61 (dk_at dksX8_asked_3 14 rfl rfl)
theorem dX8_asked_83 : decode cX8_asked 83 = .ok (.iload_n 2, 1) := dk_28 (dk_at dksX8_asked_3 15 rfl rfl)
theorem dX8_asked_84 : decode cX8_asked 84 = .ok (.tableswitch 40 0 2 #[28, 32, 36], 28) := by decide +kernel
theorem dX8_asked_112 : decode cX8_asked 112 = .ok (.iconst 1, 1) := dk_4 (dk_at dksX8_asked_5 0 rfl rfl)
theorem dX8_asked_113 : decode cX8_asked 113 = .ok (.goto 12, 3) := dk_167 0 12 (dk_at dksX8_asked_5 1 rfl rfl)
theorem dX8_asked_116 : decode cX8_asked 116 = .ok (.iconst 2, 1) := dk_5 (dk_at dksX8_asked_5 4 rfl rfl)
theorem dX8_asked_117 : decode cX8_asked 117 = .ok (.goto 8, 3) := dk_167 0 8 (dk_at dksX8_asked_5 5 rfl rfl)
theorem dX8_asked_120 : decode cX8_asked 120 = .ok (.iconst 4, 1) := dk_7 (dk_at dksX8_asked_5 8 rfl rfl)
theorem dX8_asked_121 : decode cX8_asked 121 = .ok (.goto 4, 3) := dk_167 0 4 (dk_at dksX8_asked_5 9 rfl rfl)
theorem dX8_asked_124 : decode cX8_asked 124 = .ok (.iconst 0, 1) := dk_3 (dk_at dksX8_asked_5 12 rfl rfl)
theorem dX8_asked_125 : decode cX8_asked 125 = .ok (.ireturn, 1) := dk_172 (dk_at dksX8_asked_5 13 rfl rfl)
theorem q120 : (Jvm.Cond.initialized "Bogsign$Words") ∈ lw_all := lw_g (lw_at lw_m1 49 rfl) rfl
theorem q1139 : (Jvm.Cond.static ({ cls := "Bogsign$Words", name := "text", desc := "(I)Ljava/lang/String;" } : Jvm.MethodName)) ∈ lw_all := lw_g (lw_at lw_m5 108 rfl) rfl
theorem q1140 : (Jvm.Cond.code ({ cls := "Bogsign$Words", name := "text", desc := "(I)Ljava/lang/String;" } : Jvm.MethodName) prog_12_method_1_code (1 : Nat) (Option.some (Jvm.ClassFile.FieldType.object "java/lang/String"))) ∈ lw_all := lw_g (lw_at lw_m5 109 rfl) rfl
theorem q1141 : (Jvm.Cond.stringRef "Bogsign$Words" (3 : Nat) "firm\nsoft\ndeep\ngone\n") ∈ lw_tbl := lw_at lw_m5 110 rfl
theorem q1142 : (Jvm.Cond.methodLink "Bogsign$Words" (5 : Nat) ({ cls := "java/lang/String", name := "substring", desc := "(II)Ljava/lang/String;" } : Jvm.MethodName)) ∈ lw_all := lw_g (lw_at lw_m5 111 rfl) rfl
theorem q1171 : (Jvm.Cond.static ({ cls := "Bogsign$Words", name := "plain", desc := "(Ljava/lang/String;)I" } : Jvm.MethodName)) ∈ lw_all := lw_g (lw_at lw_m5 140 rfl) rfl
theorem q1172 : (Jvm.Cond.code ({ cls := "Bogsign$Words", name := "plain", desc := "(Ljava/lang/String;)I" } : Jvm.MethodName) prog_12_method_3_code (3 : Nat) (Option.some Jvm.ClassFile.FieldType.int)) ∈ lw_all := lw_g (lw_at lw_m5 141 rfl) rfl
theorem q1173 : (Jvm.Cond.methodLink "Bogsign$Words" (11 : Nat) ({ cls := "java/lang/String", name := "hashCode", desc := "()I" } : Jvm.MethodName)) ∈ lw_all := lw_g (lw_at lw_m5 142 rfl) rfl
theorem q1230 : (Jvm.Cond.stringRef "Bogsign$Words" (15 : Nat) "soft") ∈ lw_tbl := lw_at lw_m5 199 rfl
theorem q1231 : (Jvm.Cond.methodLink "Bogsign$Words" (17 : Nat) ({ cls := "java/lang/String", name := "equals", desc := "(Ljava/lang/Object;)Z" } : Jvm.MethodName)) ∈ lw_all := lw_g (lw_at lw_m5 200 rfl) rfl
theorem q1239 : (Jvm.Cond.stringRef "Bogsign$Words" (21 : Nat) "deep") ∈ lw_tbl := lw_at lw_m5 208 rfl
theorem q1240 : (Jvm.Cond.stringRef "Bogsign$Words" (23 : Nat) "gone") ∈ lw_tbl := lw_at lw_m5 209 rfl
theorem q1924 : (Jvm.Cond.static ({ cls := "Bogsign$Words", name := "asked", desc := "(Ljava/lang/String;)I" } : Jvm.MethodName)) ∈ lw_all := lw_g (lw_at lw_m8 173 rfl) rfl
theorem q1925 : (Jvm.Cond.code ({ cls := "Bogsign$Words", name := "asked", desc := "(Ljava/lang/String;)I" } : Jvm.MethodName) prog_12_method_2_code (3 : Nat) (Option.some Jvm.ClassFile.FieldType.int)) ∈ lw_all := lw_g (lw_at lw_m8 174 rfl) rfl

/-! Bogsign$Debt -/
set_option maxRecDepth 100000
def RX9 : String := "Bogsign$Debt"
def TX9 : u_T := fun k => match k with
  | 0 => ("Bogsign$Debt", "stretch", "I", true)
  | _ => ("Bogsign$Debt", "many", "I", false)
def tyX9 : Nat → FieldType := fun k => match k with
  | 0 => .int
  | _ => .int
abbrev wsX90 : List Cond := u_ws RX9 TX9 2
theorem nmX9 : ∀ a, a < 2 → ∀ b, b < 2 → a ≠ b → (TX9 a).2.1 ≠ (TX9 b).2.1 := by decide +kernel
theorem tyX9_ok : ∀ k, k < 2 → parseFieldDescriptor (TX9 k).2.2.1 = some (tyX9 k) := by decide +kernel
abbrev cX9_init : ByteArray := prog_6_method_1_code
def yX9_init : MethodName := ⟨RX9, "<init>", "(II)V"⟩
def dkwX9_init_0 : List UInt8 := [42, 183, 0, 1, 42, 27, 181, 0, 7, 42, 28, 181, 0, 13, 177]
abbrev dktX9_init_0 : List UInt8 := dkwX9_init_0 ++ []
theorem dksX9_init_0 : cX9_init.data.toList.drop 0 = dktX9_init_0 := by decide +kernel
theorem dX9_init_0 : decode cX9_init 0 = .ok (.aload_n 0, 1) := dk_42 (dk_at dksX9_init_0 0 rfl rfl)
theorem dX9_init_1 : decode cX9_init 1 = .ok (.invokespecial 1, 3) := dk_183 0 1 (dk_at dksX9_init_0 1 rfl rfl)
theorem dX9_init_4 : decode cX9_init 4 = .ok (.aload_n 0, 1) := dk_42 (dk_at dksX9_init_0 4 rfl rfl)
theorem dX9_init_5 : decode cX9_init 5 = .ok (.iload_n 1, 1) := dk_27 (dk_at dksX9_init_0 5 rfl rfl)
theorem dX9_init_6 : decode cX9_init 6 = .ok (.putfield 7, 3) := dk_181 0 7 (dk_at dksX9_init_0 6 rfl rfl)
theorem dX9_init_9 : decode cX9_init 9 = .ok (.aload_n 0, 1) := dk_42 (dk_at dksX9_init_0 9 rfl rfl)
theorem dX9_init_10 : decode cX9_init 10 = .ok (.iload_n 2, 1) := dk_28 (dk_at dksX9_init_0 10 rfl rfl)
theorem dX9_init_11 : decode cX9_init 11 = .ok (.putfield 13, 3) := dk_181 0 13 (dk_at dksX9_init_0 11 rfl rfl)
theorem dX9_init_14 : decode cX9_init 14 = .ok (.return_, 1) := dk_177 (dk_at dksX9_init_0 14 rfl rfl)
theorem q121 : (Jvm.Cond.initialized "Bogsign$Debt") ∈ lw_all := lw_g (lw_at lw_m1 50 rfl) rfl
theorem q940 : (Jvm.Cond.selects "Bogsign$Debt" ({ cls := "java/lang/Object", name := "getClass", desc := "()Ljava/lang/Class;" } : Jvm.MethodName) ({ cls := "java/lang/Object", name := "getClass", desc := "()Ljava/lang/Class;" } : Jvm.MethodName)) ∈ lw_all := lw_g (lw_at lw_m4 149 rfl) rfl
theorem q1926 : (Jvm.Cond.instantiable "Bogsign$Debt" (2 : Nat)) ∈ lw_all := lw_g (lw_at lw_m8 175 rfl) rfl
theorem q1928 : (Jvm.Cond.instanceMethod ({ cls := "Bogsign$Debt", name := "<init>", desc := "(II)V" } : Jvm.MethodName)) ∈ lw_all := lw_g (lw_at lw_m8 177 rfl) rfl
theorem q1929 : (Jvm.Cond.code ({ cls := "Bogsign$Debt", name := "<init>", desc := "(II)V" } : Jvm.MethodName) prog_6_method_1_code (3 : Nat) (Option.none : Option Jvm.ClassFile.FieldType)) ∈ lw_all := lw_g (lw_at lw_m8 178 rfl) rfl
theorem q1930 : (Jvm.Cond.methodLink "Bogsign$Debt" (1 : Nat) ({ cls := "java/lang/Object", name := "<init>", desc := "()V" } : Jvm.MethodName)) ∈ lw_all := lw_g (lw_at lw_m8 179 rfl) rfl
theorem q1931 : (Jvm.Cond.fieldLink "Bogsign$Debt" (7 : Nat) "Bogsign$Debt" "stretch" "I") ∈ lw_all := lw_g (lw_at lw_m8 180 rfl) rfl
theorem q1933 : (Jvm.Cond.fieldLink "Bogsign$Debt" (13 : Nat) "Bogsign$Debt" "many" "I") ∈ lw_all := lw_g (lw_at lw_m8 182 rfl) rfl
theorem q1935 : (Jvm.Cond.laysFinal "Bogsign$Debt" "Bogsign$Debt" "stretch" "I") ∈ lw_all := lw_g (lw_at lw_m8 184 rfl) rfl
theorem q1936 : (Jvm.Cond.soleField "Bogsign$Debt" "stretch") ∈ lw_all := lw_g (lw_at lw_m8 185 rfl) rfl
theorem q1937 : (Jvm.Cond.lays "Bogsign$Debt" "Bogsign$Debt" "many" "I") ∈ lw_all := lw_g (lw_at lw_m8 186 rfl) rfl
theorem q1938 : (Jvm.Cond.soleField "Bogsign$Debt" "many") ∈ lw_all := lw_g (lw_at lw_m8 187 rfl) rfl
theorem q1939 : (Jvm.Cond.superclass "Bogsign$Debt" "java/lang/Object") ∈ lw_all := lw_g (lw_at lw_m8 188 rfl) rfl
theorem q2021 : (Jvm.Cond.selects "Bogsign$Debt" ({ cls := "java/lang/Object", name := "equals", desc := "(Ljava/lang/Object;)Z" } : Jvm.MethodName) ({ cls := "java/lang/Object", name := "equals", desc := "(Ljava/lang/Object;)Z" } : Jvm.MethodName)) ∈ lw_all := lw_g (lw_at lw_m9 30 rfl) rfl
theorem q2706 : (Jvm.Cond.castable "Bogsign$Debt" "java/lang/Object") ∈ lw_tbl := lw_at lw_m11 235 rfl
theorem in_X9 : ∀ w ∈ wsX90, w ∈ lw_all := lw_in wsX90 [1935, 1937] (by decide +kernel) (by decide +kernel)
/-! the law's own entry -/
set_option maxRecDepth 100000
abbrev cL_law : ByteArray := code
def dkwL_law_55 : List UInt8 := [154, 0, 5, 3, 172, 167, 0, 3, 132, 4, 4, 167, 250, 202, 4, 172]
abbrev dktL_law_55 : List UInt8 := dkwL_law_55 ++ []
def dkwL_law_54 : List UInt8 := [57, 7, 24, 5, 24, 7, 151, 153, 0, 21, 24, 5, 24, 5, 151, 153, 0, 11, 24, 7, 24, 7, 151]
abbrev dktL_law_54 : List UInt8 := dkwL_law_54 ++ dktL_law_55
def dkwL_law_53 : List UInt8 := [24, 7, 151, 154, 0, 5, 3, 172, 167, 0, 46, 43, 182, 0, 148, 141, 57, 5, 44, 182, 0, 152, 141]
abbrev dktL_law_53 : List UInt8 := dkwL_law_53 ++ dktL_law_54
def dkwL_law_52 : List UInt8 := [182, 0, 147, 57, 7, 24, 5, 24, 7, 151, 153, 0, 21, 24, 5, 24, 5, 151, 153, 0, 11, 24, 7]
abbrev dktL_law_52 : List UInt8 := dkwL_law_52 ++ dktL_law_53
def dkwL_law_51 : List UInt8 := [167, 0, 100, 43, 182, 0, 139, 44, 182, 0, 142, 159, 0, 89, 3, 172, 43, 182, 0, 143, 57, 5, 44]
abbrev dktL_law_51 : List UInt8 := dkwL_law_51 ++ dktL_law_52
def dkwL_law_50 : List UInt8 := [159, 0, 5, 3, 172, 21, 5, 154, 0, 15, 45, 3, 47, 21, 6, 133, 148, 153, 0, 5, 3, 172]
abbrev dktL_law_50 : List UInt8 := dkwL_law_50 ++ dktL_law_51
def dkwL_law_49 : List UInt8 := [21, 4, 4, 96, 46, 42, 21, 4, 5, 96, 46, 182, 0, 138, 54, 6, 44, 182, 0, 81, 21, 5]
abbrev dktL_law_49 : List UInt8 := dkwL_law_49 ++ dktL_law_50
def dkwL_law_48 : List UInt8 := [167, 0, 168, 43, 42, 21, 4, 4, 96, 46, 42, 21, 4, 5, 96, 46, 45, 184, 0, 136, 54, 5, 44, 42]
abbrev dktL_law_48 : List UInt8 := dkwL_law_48 ++ dktL_law_49
def dkwL_law_47 : List UInt8 := [159, 0, 5, 3, 172, 21, 5, 154, 0, 15, 45, 3, 47, 21, 6, 133, 148, 153, 0, 5, 3, 172]
abbrev dktL_law_47 : List UInt8 := dkwL_law_47 ++ dktL_law_48
def dkwL_law_46 : List UInt8 := [21, 4, 5, 96, 46, 42, 21, 4, 6, 96, 46, 182, 0, 135, 54, 6, 44, 182, 0, 81, 21, 5]
abbrev dktL_law_46 : List UInt8 := dkwL_law_46 ++ dktL_law_47
def dkwL_law_45 : List UInt8 := [5, 96, 46, 42, 21, 4, 6, 96, 46, 45, 184, 0, 133, 54, 5, 44, 42, 21, 4, 4, 96, 46, 42]
abbrev dktL_law_45 : List UInt8 := dkwL_law_45 ++ dktL_law_46
def dkwL_law_44 : List UInt8 := [3, 47, 21, 6, 133, 148, 153, 0, 5, 3, 172, 167, 0, 248, 43, 42, 21, 4, 4, 96, 46, 42, 21, 4]
abbrev dktL_law_44 : List UInt8 := dkwL_law_44 ++ dktL_law_45
def dkwL_law_43 : List UInt8 := [96, 46, 182, 0, 132, 54, 6, 44, 182, 0, 81, 21, 5, 159, 0, 5, 3, 172, 21, 5, 154, 0, 15, 45]
abbrev dktL_law_43 : List UInt8 := dkwL_law_43 ++ dktL_law_44
def dkwL_law_42 : List UInt8 := [46, 42, 21, 4, 5, 96, 46, 45, 184, 0, 130, 54, 5, 44, 42, 21, 4, 4, 96, 46, 42, 21, 4, 5]
abbrev dktL_law_42 : List UInt8 := dkwL_law_42 ++ dktL_law_43
def dkwL_law_41 : List UInt8 := [154, 0, 15, 45, 3, 47, 21, 6, 133, 148, 153, 0, 5, 3, 172, 167, 1, 60, 43, 42, 21, 4, 4, 96]
abbrev dktL_law_41 : List UInt8 := dkwL_law_41 ++ dktL_law_42
def dkwL_law_40 : List UInt8 := [21, 4, 4, 96, 46, 182, 0, 129, 54, 6, 44, 182, 0, 81, 21, 5, 159, 0, 5, 3, 172, 21, 5]
abbrev dktL_law_40 : List UInt8 := dkwL_law_40 ++ dktL_law_41
def dkwL_law_39 : List UInt8 := [153, 0, 5, 3, 172, 167, 1, 116, 43, 42, 21, 4, 4, 96, 46, 45, 184, 0, 127, 54, 5, 44, 42]
abbrev dktL_law_39 : List UInt8 := dkwL_law_39 ++ dktL_law_40
def dkwL_law_38 : List UInt8 := [182, 0, 81, 21, 5, 159, 0, 5, 3, 172, 21, 5, 154, 0, 15, 45, 3, 47, 21, 6, 133, 148]
abbrev dktL_law_38 : List UInt8 := dkwL_law_38 ++ dktL_law_39
def dkwL_law_37 : List UInt8 := [184, 0, 124, 54, 5, 44, 42, 21, 4, 4, 96, 46, 42, 21, 4, 5, 96, 46, 182, 0, 126, 54, 6, 44]
abbrev dktL_law_37 : List UInt8 := dkwL_law_37 ++ dktL_law_38
def dkwL_law_36 : List UInt8 := [153, 0, 5, 3, 172, 167, 1, 184, 43, 42, 21, 4, 4, 96, 46, 42, 21, 4, 5, 96, 46, 45]
abbrev dktL_law_36 : List UInt8 := dkwL_law_36 ++ dktL_law_37
def dkwL_law_35 : List UInt8 := [182, 0, 81, 21, 5, 159, 0, 5, 3, 172, 21, 5, 154, 0, 15, 45, 3, 47, 21, 6, 133, 148]
abbrev dktL_law_35 : List UInt8 := dkwL_law_35 ++ dktL_law_36
def dkwL_law_34 : List UInt8 := [184, 0, 121, 54, 5, 44, 42, 21, 4, 4, 96, 46, 42, 21, 4, 5, 96, 46, 182, 0, 123, 54, 6, 44]
abbrev dktL_law_34 : List UInt8 := dkwL_law_34 ++ dktL_law_35
def dkwL_law_33 : List UInt8 := [148, 153, 0, 5, 3, 172, 167, 1, 252, 43, 42, 21, 4, 4, 96, 46, 42, 21, 4, 5, 96, 46, 45]
abbrev dktL_law_33 : List UInt8 := dkwL_law_33 ++ dktL_law_34
def dkwL_law_32 : List UInt8 := [54, 6, 44, 182, 0, 81, 21, 5, 159, 0, 5, 3, 172, 21, 5, 154, 0, 15, 45, 3, 47, 21, 6, 133]
abbrev dktL_law_32 : List UInt8 := dkwL_law_32 ++ dktL_law_33
def dkwL_law_31 : List UInt8 := [46, 45, 184, 0, 118, 54, 5, 44, 42, 21, 4, 4, 96, 46, 42, 21, 4, 5, 96, 46, 182, 0, 120]
abbrev dktL_law_31 : List UInt8 := dkwL_law_31 ++ dktL_law_32
def dkwL_law_30 : List UInt8 := [21, 6, 133, 148, 153, 0, 5, 3, 172, 167, 2, 64, 43, 42, 21, 4, 4, 96, 46, 42, 21, 4, 5, 96]
abbrev dktL_law_30 : List UInt8 := dkwL_law_30 ++ dktL_law_31
def dkwL_law_29 : List UInt8 := [182, 0, 117, 54, 6, 44, 182, 0, 81, 21, 5, 159, 0, 5, 3, 172, 21, 5, 154, 0, 15, 45, 3, 47]
abbrev dktL_law_29 : List UInt8 := dkwL_law_29 ++ dktL_law_30
def dkwL_law_28 : List UInt8 := [184, 0, 114, 54, 5, 44, 42, 21, 4, 4, 96, 46, 42, 21, 4, 5, 96, 46, 42, 21, 4, 6, 96, 46]
abbrev dktL_law_28 : List UInt8 := dkwL_law_28 ++ dktL_law_29
def dkwL_law_27 : List UInt8 := [167, 2, 144, 43, 42, 21, 4, 4, 96, 46, 42, 21, 4, 5, 96, 46, 42, 21, 4, 6, 96, 46, 45]
abbrev dktL_law_27 : List UInt8 := dkwL_law_27 ++ dktL_law_28
def dkwL_law_26 : List UInt8 := [159, 0, 5, 3, 172, 21, 5, 154, 0, 15, 45, 3, 47, 21, 6, 133, 148, 153, 0, 5, 3, 172]
abbrev dktL_law_26 : List UInt8 := dkwL_law_26 ++ dktL_law_27
def dkwL_law_25 : List UInt8 := [184, 0, 111, 54, 5, 44, 42, 21, 4, 4, 96, 46, 182, 0, 113, 54, 6, 44, 182, 0, 81, 21, 5]
abbrev dktL_law_25 : List UInt8 := dkwL_law_25 ++ dktL_law_26
def dkwL_law_24 : List UInt8 := [3, 47, 21, 6, 133, 148, 153, 0, 5, 3, 172, 167, 2, 200, 43, 42, 21, 4, 4, 96, 46, 45]
abbrev dktL_law_24 : List UInt8 := dkwL_law_24 ++ dktL_law_25
def dkwL_law_23 : List UInt8 := [96, 46, 182, 0, 110, 54, 6, 44, 182, 0, 81, 21, 5, 159, 0, 5, 3, 172, 21, 5, 154, 0, 15, 45]
abbrev dktL_law_23 : List UInt8 := dkwL_law_23 ++ dktL_law_24
def dkwL_law_22 : List UInt8 := [46, 42, 21, 4, 5, 96, 46, 45, 184, 0, 108, 54, 5, 44, 42, 21, 4, 4, 96, 46, 42, 21, 4, 5]
abbrev dktL_law_22 : List UInt8 := dkwL_law_22 ++ dktL_law_23
def dkwL_law_21 : List UInt8 := [154, 0, 15, 45, 3, 47, 21, 6, 133, 148, 153, 0, 5, 3, 172, 167, 3, 12, 43, 42, 21, 4, 4, 96]
abbrev dktL_law_21 : List UInt8 := dkwL_law_21 ++ dktL_law_22
def dkwL_law_20 : List UInt8 := [21, 4, 4, 96, 46, 182, 0, 107, 54, 6, 44, 182, 0, 81, 21, 5, 159, 0, 5, 3, 172, 21, 5]
abbrev dktL_law_20 : List UInt8 := dkwL_law_20 ++ dktL_law_21
def dkwL_law_19 : List UInt8 := [148, 153, 0, 5, 3, 172, 167, 3, 68, 43, 42, 21, 4, 4, 96, 46, 45, 184, 0, 105, 54, 5, 44, 42]
abbrev dktL_law_19 : List UInt8 := dkwL_law_19 ++ dktL_law_20
def dkwL_law_18 : List UInt8 := [54, 6, 44, 182, 0, 81, 21, 5, 159, 0, 5, 3, 172, 21, 5, 154, 0, 15, 45, 3, 47, 21, 6, 133]
abbrev dktL_law_18 : List UInt8 := dkwL_law_18 ++ dktL_law_19
def dkwL_law_17 : List UInt8 := [46, 45, 184, 0, 102, 54, 5, 44, 42, 21, 4, 4, 96, 46, 42, 21, 4, 5, 96, 46, 182, 0, 104]
abbrev dktL_law_17 : List UInt8 := dkwL_law_17 ++ dktL_law_18
def dkwL_law_16 : List UInt8 := [21, 6, 133, 148, 153, 0, 5, 3, 172, 167, 3, 136, 43, 42, 21, 4, 4, 96, 46, 42, 21, 4, 5, 96]
abbrev dktL_law_16 : List UInt8 := dkwL_law_16 ++ dktL_law_17
def dkwL_law_15 : List UInt8 := [182, 0, 101, 54, 6, 44, 182, 0, 81, 21, 5, 159, 0, 5, 3, 172, 21, 5, 154, 0, 15, 45, 3, 47]
abbrev dktL_law_15 : List UInt8 := dkwL_law_15 ++ dktL_law_16
def dkwL_law_14 : List UInt8 := [167, 3, 192, 43, 42, 21, 4, 4, 96, 46, 45, 184, 0, 99, 54, 5, 44, 42, 21, 4, 4, 96, 46]
abbrev dktL_law_14 : List UInt8 := dkwL_law_14 ++ dktL_law_15
def dkwL_law_13 : List UInt8 := [159, 0, 5, 3, 172, 21, 5, 154, 0, 15, 45, 3, 47, 21, 6, 133, 148, 153, 0, 5, 3, 172]
abbrev dktL_law_13 : List UInt8 := dkwL_law_13 ++ dktL_law_14
def dkwL_law_12 : List UInt8 := [184, 0, 96, 54, 5, 44, 42, 21, 4, 4, 96, 46, 182, 0, 98, 54, 6, 44, 182, 0, 81, 21, 5]
abbrev dktL_law_12 : List UInt8 := dkwL_law_12 ++ dktL_law_13
def dkwL_law_11 : List UInt8 := [3, 47, 21, 6, 133, 148, 153, 0, 5, 3, 172, 167, 3, 248, 43, 42, 21, 4, 4, 96, 46, 45]
abbrev dktL_law_11 : List UInt8 := dkwL_law_11 ++ dktL_law_12
def dkwL_law_10 : List UInt8 := [96, 46, 182, 0, 95, 54, 6, 44, 182, 0, 81, 21, 5, 159, 0, 5, 3, 172, 21, 5, 154, 0, 15, 45]
abbrev dktL_law_10 : List UInt8 := dkwL_law_10 ++ dktL_law_11
def dkwL_law_9 : List UInt8 := [46, 42, 21, 4, 5, 96, 46, 45, 184, 0, 93, 54, 5, 44, 42, 21, 4, 4, 96, 46, 42, 21, 4, 5]
abbrev dktL_law_9 : List UInt8 := dkwL_law_9 ++ dktL_law_10
def dkwL_law_8 : List UInt8 := [154, 0, 15, 45, 3, 47, 21, 6, 133, 148, 153, 0, 5, 3, 172, 167, 4, 60, 43, 42, 21, 4, 4, 96]
abbrev dktL_law_8 : List UInt8 := dkwL_law_8 ++ dktL_law_9
def dkwL_law_7 : List UInt8 := [42, 21, 4, 5, 96, 46, 182, 0, 92, 54, 6, 44, 182, 0, 81, 21, 5, 159, 0, 5, 3, 172, 21, 5]
abbrev dktL_law_7 : List UInt8 := dkwL_law_7 ++ dktL_law_8
def dkwL_law_6 : List UInt8 := [21, 4, 4, 96, 46, 42, 21, 4, 5, 96, 46, 45, 184, 0, 89, 54, 5, 44, 42, 21, 4, 4, 96, 46]
abbrev dktL_law_6 : List UInt8 := dkwL_law_6 ++ dktL_law_7
def dkwL_law_5 : List UInt8 := [148, 153, 0, 5, 3, 172, 167, 4, 141, 43, 182, 0, 85, 44, 182, 0, 88, 159, 4, 130, 3, 172, 43, 42]
abbrev dktL_law_5 : List UInt8 := dkwL_law_5 ++ dktL_law_6
def dkwL_law_4 : List UInt8 := [54, 6, 44, 182, 0, 81, 21, 5, 159, 0, 5, 3, 172, 21, 5, 154, 0, 15, 45, 3, 47, 21, 6, 133]
abbrev dktL_law_4 : List UInt8 := dkwL_law_4 ++ dktL_law_5
def dkwL_law_3 : List UInt8 := [43, 42, 21, 4, 4, 96, 46, 45, 184, 0, 75, 54, 5, 44, 42, 21, 4, 4, 96, 46, 182, 0, 80]
abbrev dktL_law_3 : List UInt8 := dkwL_law_3 ++ dktL_law_4
def dkwL_law_2 : List UInt8 := [170, 0, 0, 5, 35, 0, 0, 0, 0, 0, 0, 0, 20, 0, 0, 0, 97, 0, 0, 0, 153, 0, 0, 0, 166, 0, 0, 0, 234, 0, 0, 1, 46, 0, 0, 1, 102, 0, 0, 1, 158, 0, 0, 1, 226, 0, 0, 2, 26, 0, 0, 2, 94, 0, 0, 2, 150, 0, 0, 2, 230, 0, 0, 3, 42, 0, 0, 3, 110, 0, 0, 3, 178, 0, 0, 3, 234, 0, 0, 4, 46, 0, 0, 4, 126, 0, 0, 4, 194, 0, 0, 4, 207, 0, 0, 4, 248]
abbrev dktL_law_2 : List UInt8 := dkwL_law_2 ++ dktL_law_3
def dkwL_law_1 : List UInt8 := [21, 4, 42, 190, 7, 100, 163, 5, 51, 42, 21, 4, 46, 16, 31, 126]
abbrev dktL_law_1 : List UInt8 := dkwL_law_1 ++ dktL_law_2
def dkwL_law_0 : List UInt8 := [187, 0, 8, 89, 183, 0, 71, 76, 187, 0, 72, 89, 183, 0, 74, 77, 4, 188, 11, 78, 3, 54, 4]
abbrev dktL_law_0 : List UInt8 := dkwL_law_0 ++ dktL_law_1
theorem dksL_law_0 : cL_law.data.toList.drop 0 = dktL_law_0 := by decide +kernel
theorem dksL_law_1 : cL_law.data.toList.drop 23 = dktL_law_1 := dk_seg dksL_law_0 23 rfl rfl
theorem dksL_law_2 : cL_law.data.toList.drop 39 = dktL_law_2 := dk_seg dksL_law_1 16 rfl rfl
theorem dksL_law_3 : cL_law.data.toList.drop 136 = dktL_law_3 := dk_seg dksL_law_2 97 rfl rfl
theorem dksL_law_4 : cL_law.data.toList.drop 159 = dktL_law_4 := dk_seg dksL_law_3 23 rfl rfl
theorem dksL_law_5 : cL_law.data.toList.drop 183 = dktL_law_5 := dk_seg dksL_law_4 24 rfl rfl
theorem dksL_law_6 : cL_law.data.toList.drop 207 = dktL_law_6 := dk_seg dksL_law_5 24 rfl rfl
theorem dksL_law_7 : cL_law.data.toList.drop 231 = dktL_law_7 := dk_seg dksL_law_6 24 rfl rfl
theorem dksL_law_8 : cL_law.data.toList.drop 255 = dktL_law_8 := dk_seg dksL_law_7 24 rfl rfl
theorem dksL_law_9 : cL_law.data.toList.drop 279 = dktL_law_9 := dk_seg dksL_law_8 24 rfl rfl
theorem dksL_law_10 : cL_law.data.toList.drop 303 = dktL_law_10 := dk_seg dksL_law_9 24 rfl rfl
theorem dksL_law_11 : cL_law.data.toList.drop 327 = dktL_law_11 := dk_seg dksL_law_10 24 rfl rfl
theorem dksL_law_12 : cL_law.data.toList.drop 349 = dktL_law_12 := dk_seg dksL_law_11 22 rfl rfl
theorem dksL_law_13 : cL_law.data.toList.drop 372 = dktL_law_13 := dk_seg dksL_law_12 23 rfl rfl
theorem dksL_law_14 : cL_law.data.toList.drop 394 = dktL_law_14 := dk_seg dksL_law_13 22 rfl rfl
theorem dksL_law_15 : cL_law.data.toList.drop 417 = dktL_law_15 := dk_seg dksL_law_14 23 rfl rfl
theorem dksL_law_16 : cL_law.data.toList.drop 441 = dktL_law_16 := dk_seg dksL_law_15 24 rfl rfl
theorem dksL_law_17 : cL_law.data.toList.drop 465 = dktL_law_17 := dk_seg dksL_law_16 24 rfl rfl
theorem dksL_law_18 : cL_law.data.toList.drop 488 = dktL_law_18 := dk_seg dksL_law_17 23 rfl rfl
theorem dksL_law_19 : cL_law.data.toList.drop 512 = dktL_law_19 := dk_seg dksL_law_18 24 rfl rfl
theorem dksL_law_20 : cL_law.data.toList.drop 536 = dktL_law_20 := dk_seg dksL_law_19 24 rfl rfl
theorem dksL_law_21 : cL_law.data.toList.drop 559 = dktL_law_21 := dk_seg dksL_law_20 23 rfl rfl
theorem dksL_law_22 : cL_law.data.toList.drop 583 = dktL_law_22 := dk_seg dksL_law_21 24 rfl rfl
theorem dksL_law_23 : cL_law.data.toList.drop 607 = dktL_law_23 := dk_seg dksL_law_22 24 rfl rfl
theorem dksL_law_24 : cL_law.data.toList.drop 631 = dktL_law_24 := dk_seg dksL_law_23 24 rfl rfl
theorem dksL_law_25 : cL_law.data.toList.drop 653 = dktL_law_25 := dk_seg dksL_law_24 22 rfl rfl
theorem dksL_law_26 : cL_law.data.toList.drop 676 = dktL_law_26 := dk_seg dksL_law_25 23 rfl rfl
theorem dksL_law_27 : cL_law.data.toList.drop 698 = dktL_law_27 := dk_seg dksL_law_26 22 rfl rfl
theorem dksL_law_28 : cL_law.data.toList.drop 721 = dktL_law_28 := dk_seg dksL_law_27 23 rfl rfl
theorem dksL_law_29 : cL_law.data.toList.drop 745 = dktL_law_29 := dk_seg dksL_law_28 24 rfl rfl
theorem dksL_law_30 : cL_law.data.toList.drop 769 = dktL_law_30 := dk_seg dksL_law_29 24 rfl rfl
theorem dksL_law_31 : cL_law.data.toList.drop 793 = dktL_law_31 := dk_seg dksL_law_30 24 rfl rfl
theorem dksL_law_32 : cL_law.data.toList.drop 816 = dktL_law_32 := dk_seg dksL_law_31 23 rfl rfl
theorem dksL_law_33 : cL_law.data.toList.drop 840 = dktL_law_33 := dk_seg dksL_law_32 24 rfl rfl
theorem dksL_law_34 : cL_law.data.toList.drop 863 = dktL_law_34 := dk_seg dksL_law_33 23 rfl rfl
theorem dksL_law_35 : cL_law.data.toList.drop 887 = dktL_law_35 := dk_seg dksL_law_34 24 rfl rfl
theorem dksL_law_36 : cL_law.data.toList.drop 909 = dktL_law_36 := dk_seg dksL_law_35 22 rfl rfl
theorem dksL_law_37 : cL_law.data.toList.drop 931 = dktL_law_37 := dk_seg dksL_law_36 22 rfl rfl
theorem dksL_law_38 : cL_law.data.toList.drop 955 = dktL_law_38 := dk_seg dksL_law_37 24 rfl rfl
theorem dksL_law_39 : cL_law.data.toList.drop 977 = dktL_law_39 := dk_seg dksL_law_38 22 rfl rfl
theorem dksL_law_40 : cL_law.data.toList.drop 1000 = dktL_law_40 := dk_seg dksL_law_39 23 rfl rfl
theorem dksL_law_41 : cL_law.data.toList.drop 1023 = dktL_law_41 := dk_seg dksL_law_40 23 rfl rfl
theorem dksL_law_42 : cL_law.data.toList.drop 1047 = dktL_law_42 := dk_seg dksL_law_41 24 rfl rfl
theorem dksL_law_43 : cL_law.data.toList.drop 1071 = dktL_law_43 := dk_seg dksL_law_42 24 rfl rfl
theorem dksL_law_44 : cL_law.data.toList.drop 1095 = dktL_law_44 := dk_seg dksL_law_43 24 rfl rfl
theorem dksL_law_45 : cL_law.data.toList.drop 1119 = dktL_law_45 := dk_seg dksL_law_44 24 rfl rfl
theorem dksL_law_46 : cL_law.data.toList.drop 1142 = dktL_law_46 := dk_seg dksL_law_45 23 rfl rfl
theorem dksL_law_47 : cL_law.data.toList.drop 1164 = dktL_law_47 := dk_seg dksL_law_46 22 rfl rfl
theorem dksL_law_48 : cL_law.data.toList.drop 1186 = dktL_law_48 := dk_seg dksL_law_47 22 rfl rfl
theorem dksL_law_49 : cL_law.data.toList.drop 1210 = dktL_law_49 := dk_seg dksL_law_48 24 rfl rfl
theorem dksL_law_50 : cL_law.data.toList.drop 1232 = dktL_law_50 := dk_seg dksL_law_49 22 rfl rfl
theorem dksL_law_51 : cL_law.data.toList.drop 1254 = dktL_law_51 := dk_seg dksL_law_50 22 rfl rfl
theorem dksL_law_52 : cL_law.data.toList.drop 1277 = dktL_law_52 := dk_seg dksL_law_51 23 rfl rfl
theorem dksL_law_53 : cL_law.data.toList.drop 1300 = dktL_law_53 := dk_seg dksL_law_52 23 rfl rfl
theorem dksL_law_54 : cL_law.data.toList.drop 1323 = dktL_law_54 := dk_seg dksL_law_53 23 rfl rfl
theorem dksL_law_55 : cL_law.data.toList.drop 1346 = dktL_law_55 := dk_seg dksL_law_54 23 rfl rfl
theorem dL_law_0 : decode cL_law 0 = .ok (.new 8, 3) := dk_187 0 8 (dk_at dksL_law_0 0 rfl rfl)
theorem dL_law_3 : decode cL_law 3 = .ok (.dup, 1) := dk_89 (dk_at dksL_law_0 3 rfl rfl)
theorem dL_law_4 : decode cL_law 4 = .ok (.invokespecial 71, 3) := dk_183 0 71 (dk_at dksL_law_0 4 rfl rfl)
theorem dL_law_7 : decode cL_law 7 = .ok (.astore_n 1, 1) := dk_76 (dk_at dksL_law_0 7 rfl rfl)
theorem dL_law_8 : decode cL_law 8 = .ok (.new 72, 3) := dk_187 0 72 (dk_at dksL_law_0 8 rfl rfl)
theorem dL_law_11 : decode cL_law 11 = .ok (.dup, 1) := dk_89 (dk_at dksL_law_0 11 rfl rfl)
theorem dL_law_12 : decode cL_law 12 = .ok (.invokespecial 74, 3) := dk_183 0 74 (dk_at dksL_law_0 12 rfl rfl)
theorem dL_law_15 : decode cL_law 15 = .ok (.astore_n 2, 1) := dk_77 (dk_at dksL_law_0 15 rfl rfl)
theorem dL_law_16 : decode cL_law 16 = .ok (.iconst 1, 1) := dk_4 (dk_at dksL_law_0 16 rfl rfl)
theorem dL_law_17 : decode cL_law 17 = .ok (.newarray .long, 2) := dk_188_11 (dk_at dksL_law_0 17 rfl rfl)
theorem dL_law_19 : decode cL_law 19 = .ok (.astore_n 3, 1) := dk_78 (dk_at dksL_law_0 19 rfl rfl)
theorem dL_law_20 : decode cL_law 20 = .ok (.iconst 0, 1) := dk_3 (dk_at dksL_law_0 20 rfl rfl)
theorem dL_law_21 : decode cL_law 21 = .ok (.istore 4, 2) := dk_54 4 (dk_at dksL_law_0 21 rfl rfl)
theorem dL_law_23 : decode cL_law 23 = .ok (.iload 4, 2) := dk_21 4 (dk_at dksL_law_1 0 rfl rfl)
theorem dL_law_25 : decode cL_law 25 = .ok (.aload_n 0, 1) := dk_42 (dk_at dksL_law_1 2 rfl rfl)
theorem dL_law_26 : decode cL_law 26 = .ok (.arraylength, 1) := dk_190 (dk_at dksL_law_1 3 rfl rfl)
theorem dL_law_27 : decode cL_law 27 = .ok (.iconst 4, 1) := dk_7 (dk_at dksL_law_1 4 rfl rfl)
theorem dL_law_28 : decode cL_law 28 = .ok (.isub, 1) := dk_100 (dk_at dksL_law_1 5 rfl rfl)
theorem dL_law_29 : decode cL_law 29 = .ok (.if_icmp .gt 1331, 3) := dk_163 5 51 (dk_at dksL_law_1 6 rfl rfl)
theorem dL_law_32 : decode cL_law 32 = .ok (.aload_n 0, 1) := dk_42 (dk_at dksL_law_1 9 rfl rfl)
theorem dL_law_33 : decode cL_law 33 = .ok (.iload 4, 2) := dk_21 4 (dk_at dksL_law_1 10 rfl rfl)
theorem dL_law_35 : decode cL_law 35 = .ok (.iaload, 1) := dk_46 (dk_at dksL_law_1 12 rfl rfl)
theorem dL_law_36 : decode cL_law 36 = .ok (.bipush 31, 2) := dk_16 31 (dk_at dksL_law_1 13 rfl rfl)
theorem dL_law_38 : decode cL_law 38 = .ok (.iand, 1) := dk_126 (dk_at dksL_law_1 15 rfl rfl)
theorem dL_law_39 : decode cL_law 39 = .ok (.tableswitch 1315 0 20 #[97, 153, 166, 234, 302, 358, 414, 482, 538, 606, 662, 742, 810, 878, 946, 1002, 1070, 1150, 1218, 1231, 1272], 97) := by decide +kernel
theorem dL_law_136 : decode cL_law 136 = .ok (.aload_n 1, 1) := dk_43 (dk_at dksL_law_3 0 rfl rfl)
theorem dL_law_137 : decode cL_law 137 = .ok (.aload_n 0, 1) := dk_42 (dk_at dksL_law_3 1 rfl rfl)
theorem dL_law_138 : decode cL_law 138 = .ok (.iload 4, 2) := dk_21 4 (dk_at dksL_law_3 2 rfl rfl)
theorem dL_law_140 : decode cL_law 140 = .ok (.iconst 1, 1) := dk_4 (dk_at dksL_law_3 4 rfl rfl)
theorem dL_law_141 : decode cL_law 141 = .ok (.iadd, 1) := dk_96 (dk_at dksL_law_3 5 rfl rfl)
theorem dL_law_142 : decode cL_law 142 = .ok (.iaload, 1) := dk_46 (dk_at dksL_law_3 6 rfl rfl)
theorem dL_law_143 : decode cL_law 143 = .ok (.aload_n 3, 1) := dk_45 (dk_at dksL_law_3 7 rfl rfl)
theorem dL_law_144 : decode cL_law 144 = .ok (.invokestatic 75, 3) := dk_184 0 75 (dk_at dksL_law_3 8 rfl rfl)
theorem dL_law_147 : decode cL_law 147 = .ok (.istore 5, 2) := dk_54 5 (dk_at dksL_law_3 11 rfl rfl)
theorem dL_law_149 : decode cL_law 149 = .ok (.aload_n 2, 1) := dk_44 (dk_at dksL_law_3 13 rfl rfl)
theorem dL_law_150 : decode cL_law 150 = .ok (.aload_n 0, 1) := dk_42 (dk_at dksL_law_3 14 rfl rfl)
theorem dL_law_151 : decode cL_law 151 = .ok (.iload 4, 2) := dk_21 4 (dk_at dksL_law_3 15 rfl rfl)
theorem dL_law_153 : decode cL_law 153 = .ok (.iconst 1, 1) := dk_4 (dk_at dksL_law_3 17 rfl rfl)
theorem dL_law_154 : decode cL_law 154 = .ok (.iadd, 1) := dk_96 (dk_at dksL_law_3 18 rfl rfl)
theorem dL_law_155 : decode cL_law 155 = .ok (.iaload, 1) := dk_46 (dk_at dksL_law_3 19 rfl rfl)
theorem dL_law_156 : decode cL_law 156 = .ok (.invokevirtual 80, 3) := dk_182 0 80 (dk_at dksL_law_3 20 rfl rfl)
theorem dL_law_159 : decode cL_law 159 = .ok (.istore 6, 2) := dk_54 6 (dk_at dksL_law_4 0 rfl rfl)
theorem dL_law_161 : decode cL_law 161 = .ok (.aload_n 2, 1) := dk_44 (dk_at dksL_law_4 2 rfl rfl)
theorem dL_law_162 : decode cL_law 162 = .ok (.invokevirtual 81, 3) := dk_182 0 81 (dk_at dksL_law_4 3 rfl rfl)
theorem dL_law_165 : decode cL_law 165 = .ok (.iload 5, 2) := dk_21 5 (dk_at dksL_law_4 6 rfl rfl)
theorem dL_law_167 : decode cL_law 167 = .ok (.if_icmp .eq 5, 3) := dk_159 0 5 (dk_at dksL_law_4 8 rfl rfl)
theorem dL_law_170 : decode cL_law 170 = .ok (.iconst 0, 1) := dk_3 (dk_at dksL_law_4 11 rfl rfl)
theorem dL_law_171 : decode cL_law 171 = .ok (.ireturn, 1) := dk_172 (dk_at dksL_law_4 12 rfl rfl)
theorem dL_law_172 : decode cL_law 172 = .ok (.iload 5, 2) := dk_21 5 (dk_at dksL_law_4 13 rfl rfl)
theorem dL_law_174 : decode cL_law 174 = .ok (.ifCond .ne 15, 3) := dk_154 0 15 (dk_at dksL_law_4 15 rfl rfl)
theorem dL_law_177 : decode cL_law 177 = .ok (.aload_n 3, 1) := dk_45 (dk_at dksL_law_4 18 rfl rfl)
theorem dL_law_178 : decode cL_law 178 = .ok (.iconst 0, 1) := dk_3 (dk_at dksL_law_4 19 rfl rfl)
theorem dL_law_179 : decode cL_law 179 = .ok (.laload, 1) := dk_47 (dk_at dksL_law_4 20 rfl rfl)
theorem dL_law_180 : decode cL_law 180 = .ok (.iload 6, 2) := dk_21 6 (dk_at dksL_law_4 21 rfl rfl)
theorem dL_law_182 : decode cL_law 182 = .ok (.i2l, 1) := dk_133 (dk_at dksL_law_4 23 rfl rfl)
theorem dL_law_183 : decode cL_law 183 = .ok (.lcmp, 1) := dk_148 (dk_at dksL_law_5 0 rfl rfl)
theorem dL_law_184 : decode cL_law 184 = .ok (.ifCond .eq 5, 3) := dk_153 0 5 (dk_at dksL_law_5 1 rfl rfl)
theorem dL_law_187 : decode cL_law 187 = .ok (.iconst 0, 1) := dk_3 (dk_at dksL_law_5 4 rfl rfl)
theorem dL_law_188 : decode cL_law 188 = .ok (.ireturn, 1) := dk_172 (dk_at dksL_law_5 5 rfl rfl)
theorem dL_law_189 : decode cL_law 189 = .ok (.goto 1165, 3) := dk_167 4 141 (dk_at dksL_law_5 6 rfl rfl)
theorem dL_law_192 : decode cL_law 192 = .ok (.aload_n 1, 1) := dk_43 (dk_at dksL_law_5 9 rfl rfl)
theorem dL_law_193 : decode cL_law 193 = .ok (.invokevirtual 85, 3) := dk_182 0 85 (dk_at dksL_law_5 10 rfl rfl)
theorem dL_law_196 : decode cL_law 196 = .ok (.aload_n 2, 1) := dk_44 (dk_at dksL_law_5 13 rfl rfl)
theorem dL_law_197 : decode cL_law 197 = .ok (.invokevirtual 88, 3) := dk_182 0 88 (dk_at dksL_law_5 14 rfl rfl)
theorem dL_law_200 : decode cL_law 200 = .ok (.if_icmp .eq 1154, 3) := dk_159 4 130 (dk_at dksL_law_5 17 rfl rfl)
theorem dL_law_203 : decode cL_law 203 = .ok (.iconst 0, 1) := dk_3 (dk_at dksL_law_5 20 rfl rfl)
theorem dL_law_204 : decode cL_law 204 = .ok (.ireturn, 1) := dk_172 (dk_at dksL_law_5 21 rfl rfl)
theorem dL_law_205 : decode cL_law 205 = .ok (.aload_n 1, 1) := dk_43 (dk_at dksL_law_5 22 rfl rfl)
theorem dL_law_206 : decode cL_law 206 = .ok (.aload_n 0, 1) := dk_42 (dk_at dksL_law_5 23 rfl rfl)
theorem dL_law_207 : decode cL_law 207 = .ok (.iload 4, 2) := dk_21 4 (dk_at dksL_law_6 0 rfl rfl)
theorem dL_law_209 : decode cL_law 209 = .ok (.iconst 1, 1) := dk_4 (dk_at dksL_law_6 2 rfl rfl)
theorem dL_law_210 : decode cL_law 210 = .ok (.iadd, 1) := dk_96 (dk_at dksL_law_6 3 rfl rfl)
theorem dL_law_211 : decode cL_law 211 = .ok (.iaload, 1) := dk_46 (dk_at dksL_law_6 4 rfl rfl)
theorem dL_law_212 : decode cL_law 212 = .ok (.aload_n 0, 1) := dk_42 (dk_at dksL_law_6 5 rfl rfl)
theorem dL_law_213 : decode cL_law 213 = .ok (.iload 4, 2) := dk_21 4 (dk_at dksL_law_6 6 rfl rfl)
theorem dL_law_215 : decode cL_law 215 = .ok (.iconst 2, 1) := dk_5 (dk_at dksL_law_6 8 rfl rfl)
theorem dL_law_216 : decode cL_law 216 = .ok (.iadd, 1) := dk_96 (dk_at dksL_law_6 9 rfl rfl)
theorem dL_law_217 : decode cL_law 217 = .ok (.iaload, 1) := dk_46 (dk_at dksL_law_6 10 rfl rfl)
theorem dL_law_218 : decode cL_law 218 = .ok (.aload_n 3, 1) := dk_45 (dk_at dksL_law_6 11 rfl rfl)
theorem dL_law_219 : decode cL_law 219 = .ok (.invokestatic 89, 3) := dk_184 0 89 (dk_at dksL_law_6 12 rfl rfl)
theorem dL_law_222 : decode cL_law 222 = .ok (.istore 5, 2) := dk_54 5 (dk_at dksL_law_6 15 rfl rfl)
theorem dL_law_224 : decode cL_law 224 = .ok (.aload_n 2, 1) := dk_44 (dk_at dksL_law_6 17 rfl rfl)
theorem dL_law_225 : decode cL_law 225 = .ok (.aload_n 0, 1) := dk_42 (dk_at dksL_law_6 18 rfl rfl)
theorem dL_law_226 : decode cL_law 226 = .ok (.iload 4, 2) := dk_21 4 (dk_at dksL_law_6 19 rfl rfl)
theorem dL_law_228 : decode cL_law 228 = .ok (.iconst 1, 1) := dk_4 (dk_at dksL_law_6 21 rfl rfl)
theorem dL_law_229 : decode cL_law 229 = .ok (.iadd, 1) := dk_96 (dk_at dksL_law_6 22 rfl rfl)
theorem dL_law_230 : decode cL_law 230 = .ok (.iaload, 1) := dk_46 (dk_at dksL_law_6 23 rfl rfl)
theorem dL_law_231 : decode cL_law 231 = .ok (.aload_n 0, 1) := dk_42 (dk_at dksL_law_7 0 rfl rfl)
theorem dL_law_232 : decode cL_law 232 = .ok (.iload 4, 2) := dk_21 4 (dk_at dksL_law_7 1 rfl rfl)
theorem dL_law_234 : decode cL_law 234 = .ok (.iconst 2, 1) := dk_5 (dk_at dksL_law_7 3 rfl rfl)
theorem dL_law_235 : decode cL_law 235 = .ok (.iadd, 1) := dk_96 (dk_at dksL_law_7 4 rfl rfl)
theorem dL_law_236 : decode cL_law 236 = .ok (.iaload, 1) := dk_46 (dk_at dksL_law_7 5 rfl rfl)
theorem dL_law_237 : decode cL_law 237 = .ok (.invokevirtual 92, 3) := dk_182 0 92 (dk_at dksL_law_7 6 rfl rfl)
theorem dL_law_240 : decode cL_law 240 = .ok (.istore 6, 2) := dk_54 6 (dk_at dksL_law_7 9 rfl rfl)
theorem dL_law_242 : decode cL_law 242 = .ok (.aload_n 2, 1) := dk_44 (dk_at dksL_law_7 11 rfl rfl)
theorem dL_law_243 : decode cL_law 243 = .ok (.invokevirtual 81, 3) := dk_182 0 81 (dk_at dksL_law_7 12 rfl rfl)
theorem dL_law_246 : decode cL_law 246 = .ok (.iload 5, 2) := dk_21 5 (dk_at dksL_law_7 15 rfl rfl)
theorem dL_law_248 : decode cL_law 248 = .ok (.if_icmp .eq 5, 3) := dk_159 0 5 (dk_at dksL_law_7 17 rfl rfl)
theorem dL_law_251 : decode cL_law 251 = .ok (.iconst 0, 1) := dk_3 (dk_at dksL_law_7 20 rfl rfl)
theorem dL_law_252 : decode cL_law 252 = .ok (.ireturn, 1) := dk_172 (dk_at dksL_law_7 21 rfl rfl)
theorem dL_law_253 : decode cL_law 253 = .ok (.iload 5, 2) := dk_21 5 (dk_at dksL_law_7 22 rfl rfl)
theorem dL_law_255 : decode cL_law 255 = .ok (.ifCond .ne 15, 3) := dk_154 0 15 (dk_at dksL_law_8 0 rfl rfl)
theorem dL_law_258 : decode cL_law 258 = .ok (.aload_n 3, 1) := dk_45 (dk_at dksL_law_8 3 rfl rfl)
theorem dL_law_259 : decode cL_law 259 = .ok (.iconst 0, 1) := dk_3 (dk_at dksL_law_8 4 rfl rfl)
theorem dL_law_260 : decode cL_law 260 = .ok (.laload, 1) := dk_47 (dk_at dksL_law_8 5 rfl rfl)
theorem dL_law_261 : decode cL_law 261 = .ok (.iload 6, 2) := dk_21 6 (dk_at dksL_law_8 6 rfl rfl)
theorem dL_law_263 : decode cL_law 263 = .ok (.i2l, 1) := dk_133 (dk_at dksL_law_8 8 rfl rfl)
theorem dL_law_264 : decode cL_law 264 = .ok (.lcmp, 1) := dk_148 (dk_at dksL_law_8 9 rfl rfl)
theorem dL_law_265 : decode cL_law 265 = .ok (.ifCond .eq 5, 3) := dk_153 0 5 (dk_at dksL_law_8 10 rfl rfl)
theorem dL_law_268 : decode cL_law 268 = .ok (.iconst 0, 1) := dk_3 (dk_at dksL_law_8 13 rfl rfl)
theorem dL_law_269 : decode cL_law 269 = .ok (.ireturn, 1) := dk_172 (dk_at dksL_law_8 14 rfl rfl)
theorem dL_law_270 : decode cL_law 270 = .ok (.goto 1084, 3) := dk_167 4 60 (dk_at dksL_law_8 15 rfl rfl)
theorem dL_law_273 : decode cL_law 273 = .ok (.aload_n 1, 1) := dk_43 (dk_at dksL_law_8 18 rfl rfl)
theorem dL_law_274 : decode cL_law 274 = .ok (.aload_n 0, 1) := dk_42 (dk_at dksL_law_8 19 rfl rfl)
theorem dL_law_275 : decode cL_law 275 = .ok (.iload 4, 2) := dk_21 4 (dk_at dksL_law_8 20 rfl rfl)
theorem dL_law_277 : decode cL_law 277 = .ok (.iconst 1, 1) := dk_4 (dk_at dksL_law_8 22 rfl rfl)
theorem dL_law_278 : decode cL_law 278 = .ok (.iadd, 1) := dk_96 (dk_at dksL_law_8 23 rfl rfl)
theorem dL_law_279 : decode cL_law 279 = .ok (.iaload, 1) := dk_46 (dk_at dksL_law_9 0 rfl rfl)
theorem dL_law_280 : decode cL_law 280 = .ok (.aload_n 0, 1) := dk_42 (dk_at dksL_law_9 1 rfl rfl)
theorem dL_law_281 : decode cL_law 281 = .ok (.iload 4, 2) := dk_21 4 (dk_at dksL_law_9 2 rfl rfl)
theorem dL_law_283 : decode cL_law 283 = .ok (.iconst 2, 1) := dk_5 (dk_at dksL_law_9 4 rfl rfl)
theorem dL_law_284 : decode cL_law 284 = .ok (.iadd, 1) := dk_96 (dk_at dksL_law_9 5 rfl rfl)
theorem dL_law_285 : decode cL_law 285 = .ok (.iaload, 1) := dk_46 (dk_at dksL_law_9 6 rfl rfl)
theorem dL_law_286 : decode cL_law 286 = .ok (.aload_n 3, 1) := dk_45 (dk_at dksL_law_9 7 rfl rfl)
theorem dL_law_287 : decode cL_law 287 = .ok (.invokestatic 93, 3) := dk_184 0 93 (dk_at dksL_law_9 8 rfl rfl)
theorem dL_law_290 : decode cL_law 290 = .ok (.istore 5, 2) := dk_54 5 (dk_at dksL_law_9 11 rfl rfl)
theorem dL_law_292 : decode cL_law 292 = .ok (.aload_n 2, 1) := dk_44 (dk_at dksL_law_9 13 rfl rfl)
theorem dL_law_293 : decode cL_law 293 = .ok (.aload_n 0, 1) := dk_42 (dk_at dksL_law_9 14 rfl rfl)
theorem dL_law_294 : decode cL_law 294 = .ok (.iload 4, 2) := dk_21 4 (dk_at dksL_law_9 15 rfl rfl)
theorem dL_law_296 : decode cL_law 296 = .ok (.iconst 1, 1) := dk_4 (dk_at dksL_law_9 17 rfl rfl)
theorem dL_law_297 : decode cL_law 297 = .ok (.iadd, 1) := dk_96 (dk_at dksL_law_9 18 rfl rfl)
theorem dL_law_298 : decode cL_law 298 = .ok (.iaload, 1) := dk_46 (dk_at dksL_law_9 19 rfl rfl)
theorem dL_law_299 : decode cL_law 299 = .ok (.aload_n 0, 1) := dk_42 (dk_at dksL_law_9 20 rfl rfl)
theorem dL_law_300 : decode cL_law 300 = .ok (.iload 4, 2) := dk_21 4 (dk_at dksL_law_9 21 rfl rfl)
theorem dL_law_302 : decode cL_law 302 = .ok (.iconst 2, 1) := dk_5 (dk_at dksL_law_9 23 rfl rfl)
theorem dL_law_303 : decode cL_law 303 = .ok (.iadd, 1) := dk_96 (dk_at dksL_law_10 0 rfl rfl)
theorem dL_law_304 : decode cL_law 304 = .ok (.iaload, 1) := dk_46 (dk_at dksL_law_10 1 rfl rfl)
theorem dL_law_305 : decode cL_law 305 = .ok (.invokevirtual 95, 3) := dk_182 0 95 (dk_at dksL_law_10 2 rfl rfl)
theorem dL_law_308 : decode cL_law 308 = .ok (.istore 6, 2) := dk_54 6 (dk_at dksL_law_10 5 rfl rfl)
theorem dL_law_310 : decode cL_law 310 = .ok (.aload_n 2, 1) := dk_44 (dk_at dksL_law_10 7 rfl rfl)
theorem dL_law_311 : decode cL_law 311 = .ok (.invokevirtual 81, 3) := dk_182 0 81 (dk_at dksL_law_10 8 rfl rfl)
theorem dL_law_314 : decode cL_law 314 = .ok (.iload 5, 2) := dk_21 5 (dk_at dksL_law_10 11 rfl rfl)
theorem dL_law_316 : decode cL_law 316 = .ok (.if_icmp .eq 5, 3) := dk_159 0 5 (dk_at dksL_law_10 13 rfl rfl)
theorem dL_law_319 : decode cL_law 319 = .ok (.iconst 0, 1) := dk_3 (dk_at dksL_law_10 16 rfl rfl)
theorem dL_law_320 : decode cL_law 320 = .ok (.ireturn, 1) := dk_172 (dk_at dksL_law_10 17 rfl rfl)
theorem dL_law_321 : decode cL_law 321 = .ok (.iload 5, 2) := dk_21 5 (dk_at dksL_law_10 18 rfl rfl)
theorem dL_law_323 : decode cL_law 323 = .ok (.ifCond .ne 15, 3) := dk_154 0 15 (dk_at dksL_law_10 20 rfl rfl)
theorem dL_law_326 : decode cL_law 326 = .ok (.aload_n 3, 1) := dk_45 (dk_at dksL_law_10 23 rfl rfl)
theorem dL_law_327 : decode cL_law 327 = .ok (.iconst 0, 1) := dk_3 (dk_at dksL_law_11 0 rfl rfl)
theorem dL_law_328 : decode cL_law 328 = .ok (.laload, 1) := dk_47 (dk_at dksL_law_11 1 rfl rfl)
theorem dL_law_329 : decode cL_law 329 = .ok (.iload 6, 2) := dk_21 6 (dk_at dksL_law_11 2 rfl rfl)
theorem dL_law_331 : decode cL_law 331 = .ok (.i2l, 1) := dk_133 (dk_at dksL_law_11 4 rfl rfl)
theorem dL_law_332 : decode cL_law 332 = .ok (.lcmp, 1) := dk_148 (dk_at dksL_law_11 5 rfl rfl)
theorem dL_law_333 : decode cL_law 333 = .ok (.ifCond .eq 5, 3) := dk_153 0 5 (dk_at dksL_law_11 6 rfl rfl)
theorem dL_law_336 : decode cL_law 336 = .ok (.iconst 0, 1) := dk_3 (dk_at dksL_law_11 9 rfl rfl)
theorem dL_law_337 : decode cL_law 337 = .ok (.ireturn, 1) := dk_172 (dk_at dksL_law_11 10 rfl rfl)
theorem dL_law_338 : decode cL_law 338 = .ok (.goto 1016, 3) := dk_167 3 248 (dk_at dksL_law_11 11 rfl rfl)
theorem dL_law_341 : decode cL_law 341 = .ok (.aload_n 1, 1) := dk_43 (dk_at dksL_law_11 14 rfl rfl)
theorem dL_law_342 : decode cL_law 342 = .ok (.aload_n 0, 1) := dk_42 (dk_at dksL_law_11 15 rfl rfl)
theorem dL_law_343 : decode cL_law 343 = .ok (.iload 4, 2) := dk_21 4 (dk_at dksL_law_11 16 rfl rfl)
theorem dL_law_345 : decode cL_law 345 = .ok (.iconst 1, 1) := dk_4 (dk_at dksL_law_11 18 rfl rfl)
theorem dL_law_346 : decode cL_law 346 = .ok (.iadd, 1) := dk_96 (dk_at dksL_law_11 19 rfl rfl)
theorem dL_law_347 : decode cL_law 347 = .ok (.iaload, 1) := dk_46 (dk_at dksL_law_11 20 rfl rfl)
theorem dL_law_348 : decode cL_law 348 = .ok (.aload_n 3, 1) := dk_45 (dk_at dksL_law_11 21 rfl rfl)
theorem dL_law_349 : decode cL_law 349 = .ok (.invokestatic 96, 3) := dk_184 0 96 (dk_at dksL_law_12 0 rfl rfl)
theorem dL_law_352 : decode cL_law 352 = .ok (.istore 5, 2) := dk_54 5 (dk_at dksL_law_12 3 rfl rfl)
theorem dL_law_354 : decode cL_law 354 = .ok (.aload_n 2, 1) := dk_44 (dk_at dksL_law_12 5 rfl rfl)
theorem dL_law_355 : decode cL_law 355 = .ok (.aload_n 0, 1) := dk_42 (dk_at dksL_law_12 6 rfl rfl)
theorem dL_law_356 : decode cL_law 356 = .ok (.iload 4, 2) := dk_21 4 (dk_at dksL_law_12 7 rfl rfl)
theorem dL_law_358 : decode cL_law 358 = .ok (.iconst 1, 1) := dk_4 (dk_at dksL_law_12 9 rfl rfl)
theorem dL_law_359 : decode cL_law 359 = .ok (.iadd, 1) := dk_96 (dk_at dksL_law_12 10 rfl rfl)
theorem dL_law_360 : decode cL_law 360 = .ok (.iaload, 1) := dk_46 (dk_at dksL_law_12 11 rfl rfl)
theorem dL_law_361 : decode cL_law 361 = .ok (.invokevirtual 98, 3) := dk_182 0 98 (dk_at dksL_law_12 12 rfl rfl)
theorem dL_law_364 : decode cL_law 364 = .ok (.istore 6, 2) := dk_54 6 (dk_at dksL_law_12 15 rfl rfl)
theorem dL_law_366 : decode cL_law 366 = .ok (.aload_n 2, 1) := dk_44 (dk_at dksL_law_12 17 rfl rfl)
theorem dL_law_367 : decode cL_law 367 = .ok (.invokevirtual 81, 3) := dk_182 0 81 (dk_at dksL_law_12 18 rfl rfl)
theorem dL_law_370 : decode cL_law 370 = .ok (.iload 5, 2) := dk_21 5 (dk_at dksL_law_12 21 rfl rfl)
theorem dL_law_372 : decode cL_law 372 = .ok (.if_icmp .eq 5, 3) := dk_159 0 5 (dk_at dksL_law_13 0 rfl rfl)
theorem dL_law_375 : decode cL_law 375 = .ok (.iconst 0, 1) := dk_3 (dk_at dksL_law_13 3 rfl rfl)
theorem dL_law_376 : decode cL_law 376 = .ok (.ireturn, 1) := dk_172 (dk_at dksL_law_13 4 rfl rfl)
theorem dL_law_377 : decode cL_law 377 = .ok (.iload 5, 2) := dk_21 5 (dk_at dksL_law_13 5 rfl rfl)
theorem dL_law_379 : decode cL_law 379 = .ok (.ifCond .ne 15, 3) := dk_154 0 15 (dk_at dksL_law_13 7 rfl rfl)
theorem dL_law_382 : decode cL_law 382 = .ok (.aload_n 3, 1) := dk_45 (dk_at dksL_law_13 10 rfl rfl)
theorem dL_law_383 : decode cL_law 383 = .ok (.iconst 0, 1) := dk_3 (dk_at dksL_law_13 11 rfl rfl)
theorem dL_law_384 : decode cL_law 384 = .ok (.laload, 1) := dk_47 (dk_at dksL_law_13 12 rfl rfl)
theorem dL_law_385 : decode cL_law 385 = .ok (.iload 6, 2) := dk_21 6 (dk_at dksL_law_13 13 rfl rfl)
theorem dL_law_387 : decode cL_law 387 = .ok (.i2l, 1) := dk_133 (dk_at dksL_law_13 15 rfl rfl)
theorem dL_law_388 : decode cL_law 388 = .ok (.lcmp, 1) := dk_148 (dk_at dksL_law_13 16 rfl rfl)
theorem dL_law_389 : decode cL_law 389 = .ok (.ifCond .eq 5, 3) := dk_153 0 5 (dk_at dksL_law_13 17 rfl rfl)
theorem dL_law_392 : decode cL_law 392 = .ok (.iconst 0, 1) := dk_3 (dk_at dksL_law_13 20 rfl rfl)
theorem dL_law_393 : decode cL_law 393 = .ok (.ireturn, 1) := dk_172 (dk_at dksL_law_13 21 rfl rfl)
theorem dL_law_394 : decode cL_law 394 = .ok (.goto 960, 3) := dk_167 3 192 (dk_at dksL_law_14 0 rfl rfl)
theorem dL_law_397 : decode cL_law 397 = .ok (.aload_n 1, 1) := dk_43 (dk_at dksL_law_14 3 rfl rfl)
theorem dL_law_398 : decode cL_law 398 = .ok (.aload_n 0, 1) := dk_42 (dk_at dksL_law_14 4 rfl rfl)
theorem dL_law_399 : decode cL_law 399 = .ok (.iload 4, 2) := dk_21 4 (dk_at dksL_law_14 5 rfl rfl)
theorem dL_law_401 : decode cL_law 401 = .ok (.iconst 1, 1) := dk_4 (dk_at dksL_law_14 7 rfl rfl)
theorem dL_law_402 : decode cL_law 402 = .ok (.iadd, 1) := dk_96 (dk_at dksL_law_14 8 rfl rfl)
theorem dL_law_403 : decode cL_law 403 = .ok (.iaload, 1) := dk_46 (dk_at dksL_law_14 9 rfl rfl)
theorem dL_law_404 : decode cL_law 404 = .ok (.aload_n 3, 1) := dk_45 (dk_at dksL_law_14 10 rfl rfl)
theorem dL_law_405 : decode cL_law 405 = .ok (.invokestatic 99, 3) := dk_184 0 99 (dk_at dksL_law_14 11 rfl rfl)
theorem dL_law_408 : decode cL_law 408 = .ok (.istore 5, 2) := dk_54 5 (dk_at dksL_law_14 14 rfl rfl)
theorem dL_law_410 : decode cL_law 410 = .ok (.aload_n 2, 1) := dk_44 (dk_at dksL_law_14 16 rfl rfl)
theorem dL_law_411 : decode cL_law 411 = .ok (.aload_n 0, 1) := dk_42 (dk_at dksL_law_14 17 rfl rfl)
theorem dL_law_412 : decode cL_law 412 = .ok (.iload 4, 2) := dk_21 4 (dk_at dksL_law_14 18 rfl rfl)
theorem dL_law_414 : decode cL_law 414 = .ok (.iconst 1, 1) := dk_4 (dk_at dksL_law_14 20 rfl rfl)
theorem dL_law_415 : decode cL_law 415 = .ok (.iadd, 1) := dk_96 (dk_at dksL_law_14 21 rfl rfl)
theorem dL_law_416 : decode cL_law 416 = .ok (.iaload, 1) := dk_46 (dk_at dksL_law_14 22 rfl rfl)
theorem dL_law_417 : decode cL_law 417 = .ok (.invokevirtual 101, 3) := dk_182 0 101 (dk_at dksL_law_15 0 rfl rfl)
theorem dL_law_420 : decode cL_law 420 = .ok (.istore 6, 2) := dk_54 6 (dk_at dksL_law_15 3 rfl rfl)
theorem dL_law_422 : decode cL_law 422 = .ok (.aload_n 2, 1) := dk_44 (dk_at dksL_law_15 5 rfl rfl)
theorem dL_law_423 : decode cL_law 423 = .ok (.invokevirtual 81, 3) := dk_182 0 81 (dk_at dksL_law_15 6 rfl rfl)
theorem dL_law_426 : decode cL_law 426 = .ok (.iload 5, 2) := dk_21 5 (dk_at dksL_law_15 9 rfl rfl)
theorem dL_law_428 : decode cL_law 428 = .ok (.if_icmp .eq 5, 3) := dk_159 0 5 (dk_at dksL_law_15 11 rfl rfl)
theorem dL_law_431 : decode cL_law 431 = .ok (.iconst 0, 1) := dk_3 (dk_at dksL_law_15 14 rfl rfl)
theorem dL_law_432 : decode cL_law 432 = .ok (.ireturn, 1) := dk_172 (dk_at dksL_law_15 15 rfl rfl)
theorem dL_law_433 : decode cL_law 433 = .ok (.iload 5, 2) := dk_21 5 (dk_at dksL_law_15 16 rfl rfl)
theorem dL_law_435 : decode cL_law 435 = .ok (.ifCond .ne 15, 3) := dk_154 0 15 (dk_at dksL_law_15 18 rfl rfl)
theorem dL_law_438 : decode cL_law 438 = .ok (.aload_n 3, 1) := dk_45 (dk_at dksL_law_15 21 rfl rfl)
theorem dL_law_439 : decode cL_law 439 = .ok (.iconst 0, 1) := dk_3 (dk_at dksL_law_15 22 rfl rfl)
theorem dL_law_440 : decode cL_law 440 = .ok (.laload, 1) := dk_47 (dk_at dksL_law_15 23 rfl rfl)
theorem dL_law_441 : decode cL_law 441 = .ok (.iload 6, 2) := dk_21 6 (dk_at dksL_law_16 0 rfl rfl)
theorem dL_law_443 : decode cL_law 443 = .ok (.i2l, 1) := dk_133 (dk_at dksL_law_16 2 rfl rfl)
theorem dL_law_444 : decode cL_law 444 = .ok (.lcmp, 1) := dk_148 (dk_at dksL_law_16 3 rfl rfl)
theorem dL_law_445 : decode cL_law 445 = .ok (.ifCond .eq 5, 3) := dk_153 0 5 (dk_at dksL_law_16 4 rfl rfl)
theorem dL_law_448 : decode cL_law 448 = .ok (.iconst 0, 1) := dk_3 (dk_at dksL_law_16 7 rfl rfl)
theorem dL_law_449 : decode cL_law 449 = .ok (.ireturn, 1) := dk_172 (dk_at dksL_law_16 8 rfl rfl)
theorem dL_law_450 : decode cL_law 450 = .ok (.goto 904, 3) := dk_167 3 136 (dk_at dksL_law_16 9 rfl rfl)
theorem dL_law_453 : decode cL_law 453 = .ok (.aload_n 1, 1) := dk_43 (dk_at dksL_law_16 12 rfl rfl)
theorem dL_law_454 : decode cL_law 454 = .ok (.aload_n 0, 1) := dk_42 (dk_at dksL_law_16 13 rfl rfl)
theorem dL_law_455 : decode cL_law 455 = .ok (.iload 4, 2) := dk_21 4 (dk_at dksL_law_16 14 rfl rfl)
theorem dL_law_457 : decode cL_law 457 = .ok (.iconst 1, 1) := dk_4 (dk_at dksL_law_16 16 rfl rfl)
theorem dL_law_458 : decode cL_law 458 = .ok (.iadd, 1) := dk_96 (dk_at dksL_law_16 17 rfl rfl)
theorem dL_law_459 : decode cL_law 459 = .ok (.iaload, 1) := dk_46 (dk_at dksL_law_16 18 rfl rfl)
theorem dL_law_460 : decode cL_law 460 = .ok (.aload_n 0, 1) := dk_42 (dk_at dksL_law_16 19 rfl rfl)
theorem dL_law_461 : decode cL_law 461 = .ok (.iload 4, 2) := dk_21 4 (dk_at dksL_law_16 20 rfl rfl)
theorem dL_law_463 : decode cL_law 463 = .ok (.iconst 2, 1) := dk_5 (dk_at dksL_law_16 22 rfl rfl)
theorem dL_law_464 : decode cL_law 464 = .ok (.iadd, 1) := dk_96 (dk_at dksL_law_16 23 rfl rfl)
theorem dL_law_465 : decode cL_law 465 = .ok (.iaload, 1) := dk_46 (dk_at dksL_law_17 0 rfl rfl)
theorem dL_law_466 : decode cL_law 466 = .ok (.aload_n 3, 1) := dk_45 (dk_at dksL_law_17 1 rfl rfl)
theorem dL_law_467 : decode cL_law 467 = .ok (.invokestatic 102, 3) := dk_184 0 102 (dk_at dksL_law_17 2 rfl rfl)
theorem dL_law_470 : decode cL_law 470 = .ok (.istore 5, 2) := dk_54 5 (dk_at dksL_law_17 5 rfl rfl)
theorem dL_law_472 : decode cL_law 472 = .ok (.aload_n 2, 1) := dk_44 (dk_at dksL_law_17 7 rfl rfl)
theorem dL_law_473 : decode cL_law 473 = .ok (.aload_n 0, 1) := dk_42 (dk_at dksL_law_17 8 rfl rfl)
theorem dL_law_474 : decode cL_law 474 = .ok (.iload 4, 2) := dk_21 4 (dk_at dksL_law_17 9 rfl rfl)
theorem dL_law_476 : decode cL_law 476 = .ok (.iconst 1, 1) := dk_4 (dk_at dksL_law_17 11 rfl rfl)
theorem dL_law_477 : decode cL_law 477 = .ok (.iadd, 1) := dk_96 (dk_at dksL_law_17 12 rfl rfl)
theorem dL_law_478 : decode cL_law 478 = .ok (.iaload, 1) := dk_46 (dk_at dksL_law_17 13 rfl rfl)
theorem dL_law_479 : decode cL_law 479 = .ok (.aload_n 0, 1) := dk_42 (dk_at dksL_law_17 14 rfl rfl)
theorem dL_law_480 : decode cL_law 480 = .ok (.iload 4, 2) := dk_21 4 (dk_at dksL_law_17 15 rfl rfl)
theorem dL_law_482 : decode cL_law 482 = .ok (.iconst 2, 1) := dk_5 (dk_at dksL_law_17 17 rfl rfl)
theorem dL_law_483 : decode cL_law 483 = .ok (.iadd, 1) := dk_96 (dk_at dksL_law_17 18 rfl rfl)
theorem dL_law_484 : decode cL_law 484 = .ok (.iaload, 1) := dk_46 (dk_at dksL_law_17 19 rfl rfl)
theorem dL_law_485 : decode cL_law 485 = .ok (.invokevirtual 104, 3) := dk_182 0 104 (dk_at dksL_law_17 20 rfl rfl)
theorem dL_law_488 : decode cL_law 488 = .ok (.istore 6, 2) := dk_54 6 (dk_at dksL_law_18 0 rfl rfl)
theorem dL_law_490 : decode cL_law 490 = .ok (.aload_n 2, 1) := dk_44 (dk_at dksL_law_18 2 rfl rfl)
theorem dL_law_491 : decode cL_law 491 = .ok (.invokevirtual 81, 3) := dk_182 0 81 (dk_at dksL_law_18 3 rfl rfl)
theorem dL_law_494 : decode cL_law 494 = .ok (.iload 5, 2) := dk_21 5 (dk_at dksL_law_18 6 rfl rfl)
theorem dL_law_496 : decode cL_law 496 = .ok (.if_icmp .eq 5, 3) := dk_159 0 5 (dk_at dksL_law_18 8 rfl rfl)
theorem dL_law_499 : decode cL_law 499 = .ok (.iconst 0, 1) := dk_3 (dk_at dksL_law_18 11 rfl rfl)
theorem dL_law_500 : decode cL_law 500 = .ok (.ireturn, 1) := dk_172 (dk_at dksL_law_18 12 rfl rfl)
theorem dL_law_501 : decode cL_law 501 = .ok (.iload 5, 2) := dk_21 5 (dk_at dksL_law_18 13 rfl rfl)
theorem dL_law_503 : decode cL_law 503 = .ok (.ifCond .ne 15, 3) := dk_154 0 15 (dk_at dksL_law_18 15 rfl rfl)
theorem dL_law_506 : decode cL_law 506 = .ok (.aload_n 3, 1) := dk_45 (dk_at dksL_law_18 18 rfl rfl)
theorem dL_law_507 : decode cL_law 507 = .ok (.iconst 0, 1) := dk_3 (dk_at dksL_law_18 19 rfl rfl)
theorem dL_law_508 : decode cL_law 508 = .ok (.laload, 1) := dk_47 (dk_at dksL_law_18 20 rfl rfl)
theorem dL_law_509 : decode cL_law 509 = .ok (.iload 6, 2) := dk_21 6 (dk_at dksL_law_18 21 rfl rfl)
theorem dL_law_511 : decode cL_law 511 = .ok (.i2l, 1) := dk_133 (dk_at dksL_law_18 23 rfl rfl)
theorem dL_law_512 : decode cL_law 512 = .ok (.lcmp, 1) := dk_148 (dk_at dksL_law_19 0 rfl rfl)
theorem dL_law_513 : decode cL_law 513 = .ok (.ifCond .eq 5, 3) := dk_153 0 5 (dk_at dksL_law_19 1 rfl rfl)
theorem dL_law_516 : decode cL_law 516 = .ok (.iconst 0, 1) := dk_3 (dk_at dksL_law_19 4 rfl rfl)
theorem dL_law_517 : decode cL_law 517 = .ok (.ireturn, 1) := dk_172 (dk_at dksL_law_19 5 rfl rfl)
theorem dL_law_518 : decode cL_law 518 = .ok (.goto 836, 3) := dk_167 3 68 (dk_at dksL_law_19 6 rfl rfl)
theorem dL_law_521 : decode cL_law 521 = .ok (.aload_n 1, 1) := dk_43 (dk_at dksL_law_19 9 rfl rfl)
theorem dL_law_522 : decode cL_law 522 = .ok (.aload_n 0, 1) := dk_42 (dk_at dksL_law_19 10 rfl rfl)
theorem dL_law_523 : decode cL_law 523 = .ok (.iload 4, 2) := dk_21 4 (dk_at dksL_law_19 11 rfl rfl)
theorem dL_law_525 : decode cL_law 525 = .ok (.iconst 1, 1) := dk_4 (dk_at dksL_law_19 13 rfl rfl)
theorem dL_law_526 : decode cL_law 526 = .ok (.iadd, 1) := dk_96 (dk_at dksL_law_19 14 rfl rfl)
theorem dL_law_527 : decode cL_law 527 = .ok (.iaload, 1) := dk_46 (dk_at dksL_law_19 15 rfl rfl)
theorem dL_law_528 : decode cL_law 528 = .ok (.aload_n 3, 1) := dk_45 (dk_at dksL_law_19 16 rfl rfl)
theorem dL_law_529 : decode cL_law 529 = .ok (.invokestatic 105, 3) := dk_184 0 105 (dk_at dksL_law_19 17 rfl rfl)
theorem dL_law_532 : decode cL_law 532 = .ok (.istore 5, 2) := dk_54 5 (dk_at dksL_law_19 20 rfl rfl)
theorem dL_law_534 : decode cL_law 534 = .ok (.aload_n 2, 1) := dk_44 (dk_at dksL_law_19 22 rfl rfl)
theorem dL_law_535 : decode cL_law 535 = .ok (.aload_n 0, 1) := dk_42 (dk_at dksL_law_19 23 rfl rfl)
theorem dL_law_536 : decode cL_law 536 = .ok (.iload 4, 2) := dk_21 4 (dk_at dksL_law_20 0 rfl rfl)
theorem dL_law_538 : decode cL_law 538 = .ok (.iconst 1, 1) := dk_4 (dk_at dksL_law_20 2 rfl rfl)
theorem dL_law_539 : decode cL_law 539 = .ok (.iadd, 1) := dk_96 (dk_at dksL_law_20 3 rfl rfl)
theorem dL_law_540 : decode cL_law 540 = .ok (.iaload, 1) := dk_46 (dk_at dksL_law_20 4 rfl rfl)
theorem dL_law_541 : decode cL_law 541 = .ok (.invokevirtual 107, 3) := dk_182 0 107 (dk_at dksL_law_20 5 rfl rfl)
theorem dL_law_544 : decode cL_law 544 = .ok (.istore 6, 2) := dk_54 6 (dk_at dksL_law_20 8 rfl rfl)
theorem dL_law_546 : decode cL_law 546 = .ok (.aload_n 2, 1) := dk_44 (dk_at dksL_law_20 10 rfl rfl)
theorem dL_law_547 : decode cL_law 547 = .ok (.invokevirtual 81, 3) := dk_182 0 81 (dk_at dksL_law_20 11 rfl rfl)
theorem dL_law_550 : decode cL_law 550 = .ok (.iload 5, 2) := dk_21 5 (dk_at dksL_law_20 14 rfl rfl)
theorem dL_law_552 : decode cL_law 552 = .ok (.if_icmp .eq 5, 3) := dk_159 0 5 (dk_at dksL_law_20 16 rfl rfl)
theorem dL_law_555 : decode cL_law 555 = .ok (.iconst 0, 1) := dk_3 (dk_at dksL_law_20 19 rfl rfl)
theorem dL_law_556 : decode cL_law 556 = .ok (.ireturn, 1) := dk_172 (dk_at dksL_law_20 20 rfl rfl)
theorem dL_law_557 : decode cL_law 557 = .ok (.iload 5, 2) := dk_21 5 (dk_at dksL_law_20 21 rfl rfl)
theorem dL_law_559 : decode cL_law 559 = .ok (.ifCond .ne 15, 3) := dk_154 0 15 (dk_at dksL_law_21 0 rfl rfl)
theorem dL_law_562 : decode cL_law 562 = .ok (.aload_n 3, 1) := dk_45 (dk_at dksL_law_21 3 rfl rfl)
theorem dL_law_563 : decode cL_law 563 = .ok (.iconst 0, 1) := dk_3 (dk_at dksL_law_21 4 rfl rfl)
theorem dL_law_564 : decode cL_law 564 = .ok (.laload, 1) := dk_47 (dk_at dksL_law_21 5 rfl rfl)
theorem dL_law_565 : decode cL_law 565 = .ok (.iload 6, 2) := dk_21 6 (dk_at dksL_law_21 6 rfl rfl)
theorem dL_law_567 : decode cL_law 567 = .ok (.i2l, 1) := dk_133 (dk_at dksL_law_21 8 rfl rfl)
theorem dL_law_568 : decode cL_law 568 = .ok (.lcmp, 1) := dk_148 (dk_at dksL_law_21 9 rfl rfl)
theorem dL_law_569 : decode cL_law 569 = .ok (.ifCond .eq 5, 3) := dk_153 0 5 (dk_at dksL_law_21 10 rfl rfl)
theorem dL_law_572 : decode cL_law 572 = .ok (.iconst 0, 1) := dk_3 (dk_at dksL_law_21 13 rfl rfl)
theorem dL_law_573 : decode cL_law 573 = .ok (.ireturn, 1) := dk_172 (dk_at dksL_law_21 14 rfl rfl)
theorem dL_law_574 : decode cL_law 574 = .ok (.goto 780, 3) := dk_167 3 12 (dk_at dksL_law_21 15 rfl rfl)
theorem dL_law_577 : decode cL_law 577 = .ok (.aload_n 1, 1) := dk_43 (dk_at dksL_law_21 18 rfl rfl)
theorem dL_law_578 : decode cL_law 578 = .ok (.aload_n 0, 1) := dk_42 (dk_at dksL_law_21 19 rfl rfl)
theorem dL_law_579 : decode cL_law 579 = .ok (.iload 4, 2) := dk_21 4 (dk_at dksL_law_21 20 rfl rfl)
theorem dL_law_581 : decode cL_law 581 = .ok (.iconst 1, 1) := dk_4 (dk_at dksL_law_21 22 rfl rfl)
theorem dL_law_582 : decode cL_law 582 = .ok (.iadd, 1) := dk_96 (dk_at dksL_law_21 23 rfl rfl)
theorem dL_law_583 : decode cL_law 583 = .ok (.iaload, 1) := dk_46 (dk_at dksL_law_22 0 rfl rfl)
theorem dL_law_584 : decode cL_law 584 = .ok (.aload_n 0, 1) := dk_42 (dk_at dksL_law_22 1 rfl rfl)
theorem dL_law_585 : decode cL_law 585 = .ok (.iload 4, 2) := dk_21 4 (dk_at dksL_law_22 2 rfl rfl)
theorem dL_law_587 : decode cL_law 587 = .ok (.iconst 2, 1) := dk_5 (dk_at dksL_law_22 4 rfl rfl)
theorem dL_law_588 : decode cL_law 588 = .ok (.iadd, 1) := dk_96 (dk_at dksL_law_22 5 rfl rfl)
theorem dL_law_589 : decode cL_law 589 = .ok (.iaload, 1) := dk_46 (dk_at dksL_law_22 6 rfl rfl)
theorem dL_law_590 : decode cL_law 590 = .ok (.aload_n 3, 1) := dk_45 (dk_at dksL_law_22 7 rfl rfl)
theorem dL_law_591 : decode cL_law 591 = .ok (.invokestatic 108, 3) := dk_184 0 108 (dk_at dksL_law_22 8 rfl rfl)
theorem dL_law_594 : decode cL_law 594 = .ok (.istore 5, 2) := dk_54 5 (dk_at dksL_law_22 11 rfl rfl)
theorem dL_law_596 : decode cL_law 596 = .ok (.aload_n 2, 1) := dk_44 (dk_at dksL_law_22 13 rfl rfl)
theorem dL_law_597 : decode cL_law 597 = .ok (.aload_n 0, 1) := dk_42 (dk_at dksL_law_22 14 rfl rfl)
theorem dL_law_598 : decode cL_law 598 = .ok (.iload 4, 2) := dk_21 4 (dk_at dksL_law_22 15 rfl rfl)
theorem dL_law_600 : decode cL_law 600 = .ok (.iconst 1, 1) := dk_4 (dk_at dksL_law_22 17 rfl rfl)
theorem dL_law_601 : decode cL_law 601 = .ok (.iadd, 1) := dk_96 (dk_at dksL_law_22 18 rfl rfl)
theorem dL_law_602 : decode cL_law 602 = .ok (.iaload, 1) := dk_46 (dk_at dksL_law_22 19 rfl rfl)
theorem dL_law_603 : decode cL_law 603 = .ok (.aload_n 0, 1) := dk_42 (dk_at dksL_law_22 20 rfl rfl)
theorem dL_law_604 : decode cL_law 604 = .ok (.iload 4, 2) := dk_21 4 (dk_at dksL_law_22 21 rfl rfl)
theorem dL_law_606 : decode cL_law 606 = .ok (.iconst 2, 1) := dk_5 (dk_at dksL_law_22 23 rfl rfl)
theorem dL_law_607 : decode cL_law 607 = .ok (.iadd, 1) := dk_96 (dk_at dksL_law_23 0 rfl rfl)
theorem dL_law_608 : decode cL_law 608 = .ok (.iaload, 1) := dk_46 (dk_at dksL_law_23 1 rfl rfl)
theorem dL_law_609 : decode cL_law 609 = .ok (.invokevirtual 110, 3) := dk_182 0 110 (dk_at dksL_law_23 2 rfl rfl)
theorem dL_law_612 : decode cL_law 612 = .ok (.istore 6, 2) := dk_54 6 (dk_at dksL_law_23 5 rfl rfl)
theorem dL_law_614 : decode cL_law 614 = .ok (.aload_n 2, 1) := dk_44 (dk_at dksL_law_23 7 rfl rfl)
theorem dL_law_615 : decode cL_law 615 = .ok (.invokevirtual 81, 3) := dk_182 0 81 (dk_at dksL_law_23 8 rfl rfl)
theorem dL_law_618 : decode cL_law 618 = .ok (.iload 5, 2) := dk_21 5 (dk_at dksL_law_23 11 rfl rfl)
theorem dL_law_620 : decode cL_law 620 = .ok (.if_icmp .eq 5, 3) := dk_159 0 5 (dk_at dksL_law_23 13 rfl rfl)
theorem dL_law_623 : decode cL_law 623 = .ok (.iconst 0, 1) := dk_3 (dk_at dksL_law_23 16 rfl rfl)
theorem dL_law_624 : decode cL_law 624 = .ok (.ireturn, 1) := dk_172 (dk_at dksL_law_23 17 rfl rfl)
theorem dL_law_625 : decode cL_law 625 = .ok (.iload 5, 2) := dk_21 5 (dk_at dksL_law_23 18 rfl rfl)
theorem dL_law_627 : decode cL_law 627 = .ok (.ifCond .ne 15, 3) := dk_154 0 15 (dk_at dksL_law_23 20 rfl rfl)
theorem dL_law_630 : decode cL_law 630 = .ok (.aload_n 3, 1) := dk_45 (dk_at dksL_law_23 23 rfl rfl)
theorem dL_law_631 : decode cL_law 631 = .ok (.iconst 0, 1) := dk_3 (dk_at dksL_law_24 0 rfl rfl)
theorem dL_law_632 : decode cL_law 632 = .ok (.laload, 1) := dk_47 (dk_at dksL_law_24 1 rfl rfl)
theorem dL_law_633 : decode cL_law 633 = .ok (.iload 6, 2) := dk_21 6 (dk_at dksL_law_24 2 rfl rfl)
theorem dL_law_635 : decode cL_law 635 = .ok (.i2l, 1) := dk_133 (dk_at dksL_law_24 4 rfl rfl)
theorem dL_law_636 : decode cL_law 636 = .ok (.lcmp, 1) := dk_148 (dk_at dksL_law_24 5 rfl rfl)
theorem dL_law_637 : decode cL_law 637 = .ok (.ifCond .eq 5, 3) := dk_153 0 5 (dk_at dksL_law_24 6 rfl rfl)
theorem dL_law_640 : decode cL_law 640 = .ok (.iconst 0, 1) := dk_3 (dk_at dksL_law_24 9 rfl rfl)
theorem dL_law_641 : decode cL_law 641 = .ok (.ireturn, 1) := dk_172 (dk_at dksL_law_24 10 rfl rfl)
theorem dL_law_642 : decode cL_law 642 = .ok (.goto 712, 3) := dk_167 2 200 (dk_at dksL_law_24 11 rfl rfl)
theorem dL_law_645 : decode cL_law 645 = .ok (.aload_n 1, 1) := dk_43 (dk_at dksL_law_24 14 rfl rfl)
theorem dL_law_646 : decode cL_law 646 = .ok (.aload_n 0, 1) := dk_42 (dk_at dksL_law_24 15 rfl rfl)
theorem dL_law_647 : decode cL_law 647 = .ok (.iload 4, 2) := dk_21 4 (dk_at dksL_law_24 16 rfl rfl)
theorem dL_law_649 : decode cL_law 649 = .ok (.iconst 1, 1) := dk_4 (dk_at dksL_law_24 18 rfl rfl)
theorem dL_law_650 : decode cL_law 650 = .ok (.iadd, 1) := dk_96 (dk_at dksL_law_24 19 rfl rfl)
theorem dL_law_651 : decode cL_law 651 = .ok (.iaload, 1) := dk_46 (dk_at dksL_law_24 20 rfl rfl)
theorem dL_law_652 : decode cL_law 652 = .ok (.aload_n 3, 1) := dk_45 (dk_at dksL_law_24 21 rfl rfl)
theorem dL_law_653 : decode cL_law 653 = .ok (.invokestatic 111, 3) := dk_184 0 111 (dk_at dksL_law_25 0 rfl rfl)
theorem dL_law_656 : decode cL_law 656 = .ok (.istore 5, 2) := dk_54 5 (dk_at dksL_law_25 3 rfl rfl)
theorem dL_law_658 : decode cL_law 658 = .ok (.aload_n 2, 1) := dk_44 (dk_at dksL_law_25 5 rfl rfl)
theorem dL_law_659 : decode cL_law 659 = .ok (.aload_n 0, 1) := dk_42 (dk_at dksL_law_25 6 rfl rfl)
theorem dL_law_660 : decode cL_law 660 = .ok (.iload 4, 2) := dk_21 4 (dk_at dksL_law_25 7 rfl rfl)
theorem dL_law_662 : decode cL_law 662 = .ok (.iconst 1, 1) := dk_4 (dk_at dksL_law_25 9 rfl rfl)
theorem dL_law_663 : decode cL_law 663 = .ok (.iadd, 1) := dk_96 (dk_at dksL_law_25 10 rfl rfl)
theorem dL_law_664 : decode cL_law 664 = .ok (.iaload, 1) := dk_46 (dk_at dksL_law_25 11 rfl rfl)
theorem dL_law_665 : decode cL_law 665 = .ok (.invokevirtual 113, 3) := dk_182 0 113 (dk_at dksL_law_25 12 rfl rfl)
theorem dL_law_668 : decode cL_law 668 = .ok (.istore 6, 2) := dk_54 6 (dk_at dksL_law_25 15 rfl rfl)
theorem dL_law_670 : decode cL_law 670 = .ok (.aload_n 2, 1) := dk_44 (dk_at dksL_law_25 17 rfl rfl)
theorem dL_law_671 : decode cL_law 671 = .ok (.invokevirtual 81, 3) := dk_182 0 81 (dk_at dksL_law_25 18 rfl rfl)
theorem dL_law_674 : decode cL_law 674 = .ok (.iload 5, 2) := dk_21 5 (dk_at dksL_law_25 21 rfl rfl)
theorem dL_law_676 : decode cL_law 676 = .ok (.if_icmp .eq 5, 3) := dk_159 0 5 (dk_at dksL_law_26 0 rfl rfl)
theorem dL_law_679 : decode cL_law 679 = .ok (.iconst 0, 1) := dk_3 (dk_at dksL_law_26 3 rfl rfl)
theorem dL_law_680 : decode cL_law 680 = .ok (.ireturn, 1) := dk_172 (dk_at dksL_law_26 4 rfl rfl)
theorem dL_law_681 : decode cL_law 681 = .ok (.iload 5, 2) := dk_21 5 (dk_at dksL_law_26 5 rfl rfl)
theorem dL_law_683 : decode cL_law 683 = .ok (.ifCond .ne 15, 3) := dk_154 0 15 (dk_at dksL_law_26 7 rfl rfl)
theorem dL_law_686 : decode cL_law 686 = .ok (.aload_n 3, 1) := dk_45 (dk_at dksL_law_26 10 rfl rfl)
theorem dL_law_687 : decode cL_law 687 = .ok (.iconst 0, 1) := dk_3 (dk_at dksL_law_26 11 rfl rfl)
theorem dL_law_688 : decode cL_law 688 = .ok (.laload, 1) := dk_47 (dk_at dksL_law_26 12 rfl rfl)
theorem dL_law_689 : decode cL_law 689 = .ok (.iload 6, 2) := dk_21 6 (dk_at dksL_law_26 13 rfl rfl)
theorem dL_law_691 : decode cL_law 691 = .ok (.i2l, 1) := dk_133 (dk_at dksL_law_26 15 rfl rfl)
theorem dL_law_692 : decode cL_law 692 = .ok (.lcmp, 1) := dk_148 (dk_at dksL_law_26 16 rfl rfl)
theorem dL_law_693 : decode cL_law 693 = .ok (.ifCond .eq 5, 3) := dk_153 0 5 (dk_at dksL_law_26 17 rfl rfl)
theorem dL_law_696 : decode cL_law 696 = .ok (.iconst 0, 1) := dk_3 (dk_at dksL_law_26 20 rfl rfl)
theorem dL_law_697 : decode cL_law 697 = .ok (.ireturn, 1) := dk_172 (dk_at dksL_law_26 21 rfl rfl)
theorem dL_law_698 : decode cL_law 698 = .ok (.goto 656, 3) := dk_167 2 144 (dk_at dksL_law_27 0 rfl rfl)
theorem dL_law_701 : decode cL_law 701 = .ok (.aload_n 1, 1) := dk_43 (dk_at dksL_law_27 3 rfl rfl)
theorem dL_law_702 : decode cL_law 702 = .ok (.aload_n 0, 1) := dk_42 (dk_at dksL_law_27 4 rfl rfl)
theorem dL_law_703 : decode cL_law 703 = .ok (.iload 4, 2) := dk_21 4 (dk_at dksL_law_27 5 rfl rfl)
theorem dL_law_705 : decode cL_law 705 = .ok (.iconst 1, 1) := dk_4 (dk_at dksL_law_27 7 rfl rfl)
theorem dL_law_706 : decode cL_law 706 = .ok (.iadd, 1) := dk_96 (dk_at dksL_law_27 8 rfl rfl)
theorem dL_law_707 : decode cL_law 707 = .ok (.iaload, 1) := dk_46 (dk_at dksL_law_27 9 rfl rfl)
theorem dL_law_708 : decode cL_law 708 = .ok (.aload_n 0, 1) := dk_42 (dk_at dksL_law_27 10 rfl rfl)
theorem dL_law_709 : decode cL_law 709 = .ok (.iload 4, 2) := dk_21 4 (dk_at dksL_law_27 11 rfl rfl)
theorem dL_law_711 : decode cL_law 711 = .ok (.iconst 2, 1) := dk_5 (dk_at dksL_law_27 13 rfl rfl)
theorem dL_law_712 : decode cL_law 712 = .ok (.iadd, 1) := dk_96 (dk_at dksL_law_27 14 rfl rfl)
theorem dL_law_713 : decode cL_law 713 = .ok (.iaload, 1) := dk_46 (dk_at dksL_law_27 15 rfl rfl)
theorem dL_law_714 : decode cL_law 714 = .ok (.aload_n 0, 1) := dk_42 (dk_at dksL_law_27 16 rfl rfl)
theorem dL_law_715 : decode cL_law 715 = .ok (.iload 4, 2) := dk_21 4 (dk_at dksL_law_27 17 rfl rfl)
theorem dL_law_717 : decode cL_law 717 = .ok (.iconst 3, 1) := dk_6 (dk_at dksL_law_27 19 rfl rfl)
theorem dL_law_718 : decode cL_law 718 = .ok (.iadd, 1) := dk_96 (dk_at dksL_law_27 20 rfl rfl)
theorem dL_law_719 : decode cL_law 719 = .ok (.iaload, 1) := dk_46 (dk_at dksL_law_27 21 rfl rfl)
theorem dL_law_720 : decode cL_law 720 = .ok (.aload_n 3, 1) := dk_45 (dk_at dksL_law_27 22 rfl rfl)
theorem dL_law_721 : decode cL_law 721 = .ok (.invokestatic 114, 3) := dk_184 0 114 (dk_at dksL_law_28 0 rfl rfl)
theorem dL_law_724 : decode cL_law 724 = .ok (.istore 5, 2) := dk_54 5 (dk_at dksL_law_28 3 rfl rfl)
theorem dL_law_726 : decode cL_law 726 = .ok (.aload_n 2, 1) := dk_44 (dk_at dksL_law_28 5 rfl rfl)
theorem dL_law_727 : decode cL_law 727 = .ok (.aload_n 0, 1) := dk_42 (dk_at dksL_law_28 6 rfl rfl)
theorem dL_law_728 : decode cL_law 728 = .ok (.iload 4, 2) := dk_21 4 (dk_at dksL_law_28 7 rfl rfl)
theorem dL_law_730 : decode cL_law 730 = .ok (.iconst 1, 1) := dk_4 (dk_at dksL_law_28 9 rfl rfl)
theorem dL_law_731 : decode cL_law 731 = .ok (.iadd, 1) := dk_96 (dk_at dksL_law_28 10 rfl rfl)
theorem dL_law_732 : decode cL_law 732 = .ok (.iaload, 1) := dk_46 (dk_at dksL_law_28 11 rfl rfl)
theorem dL_law_733 : decode cL_law 733 = .ok (.aload_n 0, 1) := dk_42 (dk_at dksL_law_28 12 rfl rfl)
theorem dL_law_734 : decode cL_law 734 = .ok (.iload 4, 2) := dk_21 4 (dk_at dksL_law_28 13 rfl rfl)
theorem dL_law_736 : decode cL_law 736 = .ok (.iconst 2, 1) := dk_5 (dk_at dksL_law_28 15 rfl rfl)
theorem dL_law_737 : decode cL_law 737 = .ok (.iadd, 1) := dk_96 (dk_at dksL_law_28 16 rfl rfl)
theorem dL_law_738 : decode cL_law 738 = .ok (.iaload, 1) := dk_46 (dk_at dksL_law_28 17 rfl rfl)
theorem dL_law_739 : decode cL_law 739 = .ok (.aload_n 0, 1) := dk_42 (dk_at dksL_law_28 18 rfl rfl)
theorem dL_law_740 : decode cL_law 740 = .ok (.iload 4, 2) := dk_21 4 (dk_at dksL_law_28 19 rfl rfl)
theorem dL_law_742 : decode cL_law 742 = .ok (.iconst 3, 1) := dk_6 (dk_at dksL_law_28 21 rfl rfl)
theorem dL_law_743 : decode cL_law 743 = .ok (.iadd, 1) := dk_96 (dk_at dksL_law_28 22 rfl rfl)
theorem dL_law_744 : decode cL_law 744 = .ok (.iaload, 1) := dk_46 (dk_at dksL_law_28 23 rfl rfl)
theorem dL_law_745 : decode cL_law 745 = .ok (.invokevirtual 117, 3) := dk_182 0 117 (dk_at dksL_law_29 0 rfl rfl)
theorem dL_law_748 : decode cL_law 748 = .ok (.istore 6, 2) := dk_54 6 (dk_at dksL_law_29 3 rfl rfl)
theorem dL_law_750 : decode cL_law 750 = .ok (.aload_n 2, 1) := dk_44 (dk_at dksL_law_29 5 rfl rfl)
theorem dL_law_751 : decode cL_law 751 = .ok (.invokevirtual 81, 3) := dk_182 0 81 (dk_at dksL_law_29 6 rfl rfl)
theorem dL_law_754 : decode cL_law 754 = .ok (.iload 5, 2) := dk_21 5 (dk_at dksL_law_29 9 rfl rfl)
theorem dL_law_756 : decode cL_law 756 = .ok (.if_icmp .eq 5, 3) := dk_159 0 5 (dk_at dksL_law_29 11 rfl rfl)
theorem dL_law_759 : decode cL_law 759 = .ok (.iconst 0, 1) := dk_3 (dk_at dksL_law_29 14 rfl rfl)
theorem dL_law_760 : decode cL_law 760 = .ok (.ireturn, 1) := dk_172 (dk_at dksL_law_29 15 rfl rfl)
theorem dL_law_761 : decode cL_law 761 = .ok (.iload 5, 2) := dk_21 5 (dk_at dksL_law_29 16 rfl rfl)
theorem dL_law_763 : decode cL_law 763 = .ok (.ifCond .ne 15, 3) := dk_154 0 15 (dk_at dksL_law_29 18 rfl rfl)
theorem dL_law_766 : decode cL_law 766 = .ok (.aload_n 3, 1) := dk_45 (dk_at dksL_law_29 21 rfl rfl)
theorem dL_law_767 : decode cL_law 767 = .ok (.iconst 0, 1) := dk_3 (dk_at dksL_law_29 22 rfl rfl)
theorem dL_law_768 : decode cL_law 768 = .ok (.laload, 1) := dk_47 (dk_at dksL_law_29 23 rfl rfl)
theorem dL_law_769 : decode cL_law 769 = .ok (.iload 6, 2) := dk_21 6 (dk_at dksL_law_30 0 rfl rfl)
theorem dL_law_771 : decode cL_law 771 = .ok (.i2l, 1) := dk_133 (dk_at dksL_law_30 2 rfl rfl)
theorem dL_law_772 : decode cL_law 772 = .ok (.lcmp, 1) := dk_148 (dk_at dksL_law_30 3 rfl rfl)
theorem dL_law_773 : decode cL_law 773 = .ok (.ifCond .eq 5, 3) := dk_153 0 5 (dk_at dksL_law_30 4 rfl rfl)
theorem dL_law_776 : decode cL_law 776 = .ok (.iconst 0, 1) := dk_3 (dk_at dksL_law_30 7 rfl rfl)
theorem dL_law_777 : decode cL_law 777 = .ok (.ireturn, 1) := dk_172 (dk_at dksL_law_30 8 rfl rfl)
theorem dL_law_778 : decode cL_law 778 = .ok (.goto 576, 3) := dk_167 2 64 (dk_at dksL_law_30 9 rfl rfl)
theorem dL_law_781 : decode cL_law 781 = .ok (.aload_n 1, 1) := dk_43 (dk_at dksL_law_30 12 rfl rfl)
theorem dL_law_782 : decode cL_law 782 = .ok (.aload_n 0, 1) := dk_42 (dk_at dksL_law_30 13 rfl rfl)
theorem dL_law_783 : decode cL_law 783 = .ok (.iload 4, 2) := dk_21 4 (dk_at dksL_law_30 14 rfl rfl)
theorem dL_law_785 : decode cL_law 785 = .ok (.iconst 1, 1) := dk_4 (dk_at dksL_law_30 16 rfl rfl)
theorem dL_law_786 : decode cL_law 786 = .ok (.iadd, 1) := dk_96 (dk_at dksL_law_30 17 rfl rfl)
theorem dL_law_787 : decode cL_law 787 = .ok (.iaload, 1) := dk_46 (dk_at dksL_law_30 18 rfl rfl)
theorem dL_law_788 : decode cL_law 788 = .ok (.aload_n 0, 1) := dk_42 (dk_at dksL_law_30 19 rfl rfl)
theorem dL_law_789 : decode cL_law 789 = .ok (.iload 4, 2) := dk_21 4 (dk_at dksL_law_30 20 rfl rfl)
theorem dL_law_791 : decode cL_law 791 = .ok (.iconst 2, 1) := dk_5 (dk_at dksL_law_30 22 rfl rfl)
theorem dL_law_792 : decode cL_law 792 = .ok (.iadd, 1) := dk_96 (dk_at dksL_law_30 23 rfl rfl)
theorem dL_law_793 : decode cL_law 793 = .ok (.iaload, 1) := dk_46 (dk_at dksL_law_31 0 rfl rfl)
theorem dL_law_794 : decode cL_law 794 = .ok (.aload_n 3, 1) := dk_45 (dk_at dksL_law_31 1 rfl rfl)
theorem dL_law_795 : decode cL_law 795 = .ok (.invokestatic 118, 3) := dk_184 0 118 (dk_at dksL_law_31 2 rfl rfl)
theorem dL_law_798 : decode cL_law 798 = .ok (.istore 5, 2) := dk_54 5 (dk_at dksL_law_31 5 rfl rfl)
theorem dL_law_800 : decode cL_law 800 = .ok (.aload_n 2, 1) := dk_44 (dk_at dksL_law_31 7 rfl rfl)
theorem dL_law_801 : decode cL_law 801 = .ok (.aload_n 0, 1) := dk_42 (dk_at dksL_law_31 8 rfl rfl)
theorem dL_law_802 : decode cL_law 802 = .ok (.iload 4, 2) := dk_21 4 (dk_at dksL_law_31 9 rfl rfl)
theorem dL_law_804 : decode cL_law 804 = .ok (.iconst 1, 1) := dk_4 (dk_at dksL_law_31 11 rfl rfl)
theorem dL_law_805 : decode cL_law 805 = .ok (.iadd, 1) := dk_96 (dk_at dksL_law_31 12 rfl rfl)
theorem dL_law_806 : decode cL_law 806 = .ok (.iaload, 1) := dk_46 (dk_at dksL_law_31 13 rfl rfl)
theorem dL_law_807 : decode cL_law 807 = .ok (.aload_n 0, 1) := dk_42 (dk_at dksL_law_31 14 rfl rfl)
theorem dL_law_808 : decode cL_law 808 = .ok (.iload 4, 2) := dk_21 4 (dk_at dksL_law_31 15 rfl rfl)
theorem dL_law_810 : decode cL_law 810 = .ok (.iconst 2, 1) := dk_5 (dk_at dksL_law_31 17 rfl rfl)
theorem dL_law_811 : decode cL_law 811 = .ok (.iadd, 1) := dk_96 (dk_at dksL_law_31 18 rfl rfl)
theorem dL_law_812 : decode cL_law 812 = .ok (.iaload, 1) := dk_46 (dk_at dksL_law_31 19 rfl rfl)
theorem dL_law_813 : decode cL_law 813 = .ok (.invokevirtual 120, 3) := dk_182 0 120 (dk_at dksL_law_31 20 rfl rfl)
theorem dL_law_816 : decode cL_law 816 = .ok (.istore 6, 2) := dk_54 6 (dk_at dksL_law_32 0 rfl rfl)
theorem dL_law_818 : decode cL_law 818 = .ok (.aload_n 2, 1) := dk_44 (dk_at dksL_law_32 2 rfl rfl)
theorem dL_law_819 : decode cL_law 819 = .ok (.invokevirtual 81, 3) := dk_182 0 81 (dk_at dksL_law_32 3 rfl rfl)
theorem dL_law_822 : decode cL_law 822 = .ok (.iload 5, 2) := dk_21 5 (dk_at dksL_law_32 6 rfl rfl)
theorem dL_law_824 : decode cL_law 824 = .ok (.if_icmp .eq 5, 3) := dk_159 0 5 (dk_at dksL_law_32 8 rfl rfl)
theorem dL_law_827 : decode cL_law 827 = .ok (.iconst 0, 1) := dk_3 (dk_at dksL_law_32 11 rfl rfl)
theorem dL_law_828 : decode cL_law 828 = .ok (.ireturn, 1) := dk_172 (dk_at dksL_law_32 12 rfl rfl)
theorem dL_law_829 : decode cL_law 829 = .ok (.iload 5, 2) := dk_21 5 (dk_at dksL_law_32 13 rfl rfl)
theorem dL_law_831 : decode cL_law 831 = .ok (.ifCond .ne 15, 3) := dk_154 0 15 (dk_at dksL_law_32 15 rfl rfl)
theorem dL_law_834 : decode cL_law 834 = .ok (.aload_n 3, 1) := dk_45 (dk_at dksL_law_32 18 rfl rfl)
theorem dL_law_835 : decode cL_law 835 = .ok (.iconst 0, 1) := dk_3 (dk_at dksL_law_32 19 rfl rfl)
theorem dL_law_836 : decode cL_law 836 = .ok (.laload, 1) := dk_47 (dk_at dksL_law_32 20 rfl rfl)
theorem dL_law_837 : decode cL_law 837 = .ok (.iload 6, 2) := dk_21 6 (dk_at dksL_law_32 21 rfl rfl)
theorem dL_law_839 : decode cL_law 839 = .ok (.i2l, 1) := dk_133 (dk_at dksL_law_32 23 rfl rfl)
theorem dL_law_840 : decode cL_law 840 = .ok (.lcmp, 1) := dk_148 (dk_at dksL_law_33 0 rfl rfl)
theorem dL_law_841 : decode cL_law 841 = .ok (.ifCond .eq 5, 3) := dk_153 0 5 (dk_at dksL_law_33 1 rfl rfl)
theorem dL_law_844 : decode cL_law 844 = .ok (.iconst 0, 1) := dk_3 (dk_at dksL_law_33 4 rfl rfl)
theorem dL_law_845 : decode cL_law 845 = .ok (.ireturn, 1) := dk_172 (dk_at dksL_law_33 5 rfl rfl)
theorem dL_law_846 : decode cL_law 846 = .ok (.goto 508, 3) := dk_167 1 252 (dk_at dksL_law_33 6 rfl rfl)
theorem dL_law_849 : decode cL_law 849 = .ok (.aload_n 1, 1) := dk_43 (dk_at dksL_law_33 9 rfl rfl)
theorem dL_law_850 : decode cL_law 850 = .ok (.aload_n 0, 1) := dk_42 (dk_at dksL_law_33 10 rfl rfl)
theorem dL_law_851 : decode cL_law 851 = .ok (.iload 4, 2) := dk_21 4 (dk_at dksL_law_33 11 rfl rfl)
theorem dL_law_853 : decode cL_law 853 = .ok (.iconst 1, 1) := dk_4 (dk_at dksL_law_33 13 rfl rfl)
theorem dL_law_854 : decode cL_law 854 = .ok (.iadd, 1) := dk_96 (dk_at dksL_law_33 14 rfl rfl)
theorem dL_law_855 : decode cL_law 855 = .ok (.iaload, 1) := dk_46 (dk_at dksL_law_33 15 rfl rfl)
theorem dL_law_856 : decode cL_law 856 = .ok (.aload_n 0, 1) := dk_42 (dk_at dksL_law_33 16 rfl rfl)
theorem dL_law_857 : decode cL_law 857 = .ok (.iload 4, 2) := dk_21 4 (dk_at dksL_law_33 17 rfl rfl)
theorem dL_law_859 : decode cL_law 859 = .ok (.iconst 2, 1) := dk_5 (dk_at dksL_law_33 19 rfl rfl)
theorem dL_law_860 : decode cL_law 860 = .ok (.iadd, 1) := dk_96 (dk_at dksL_law_33 20 rfl rfl)
theorem dL_law_861 : decode cL_law 861 = .ok (.iaload, 1) := dk_46 (dk_at dksL_law_33 21 rfl rfl)
theorem dL_law_862 : decode cL_law 862 = .ok (.aload_n 3, 1) := dk_45 (dk_at dksL_law_33 22 rfl rfl)
theorem dL_law_863 : decode cL_law 863 = .ok (.invokestatic 121, 3) := dk_184 0 121 (dk_at dksL_law_34 0 rfl rfl)
theorem dL_law_866 : decode cL_law 866 = .ok (.istore 5, 2) := dk_54 5 (dk_at dksL_law_34 3 rfl rfl)
theorem dL_law_868 : decode cL_law 868 = .ok (.aload_n 2, 1) := dk_44 (dk_at dksL_law_34 5 rfl rfl)
theorem dL_law_869 : decode cL_law 869 = .ok (.aload_n 0, 1) := dk_42 (dk_at dksL_law_34 6 rfl rfl)
theorem dL_law_870 : decode cL_law 870 = .ok (.iload 4, 2) := dk_21 4 (dk_at dksL_law_34 7 rfl rfl)
theorem dL_law_872 : decode cL_law 872 = .ok (.iconst 1, 1) := dk_4 (dk_at dksL_law_34 9 rfl rfl)
theorem dL_law_873 : decode cL_law 873 = .ok (.iadd, 1) := dk_96 (dk_at dksL_law_34 10 rfl rfl)
theorem dL_law_874 : decode cL_law 874 = .ok (.iaload, 1) := dk_46 (dk_at dksL_law_34 11 rfl rfl)
theorem dL_law_875 : decode cL_law 875 = .ok (.aload_n 0, 1) := dk_42 (dk_at dksL_law_34 12 rfl rfl)
theorem dL_law_876 : decode cL_law 876 = .ok (.iload 4, 2) := dk_21 4 (dk_at dksL_law_34 13 rfl rfl)
theorem dL_law_878 : decode cL_law 878 = .ok (.iconst 2, 1) := dk_5 (dk_at dksL_law_34 15 rfl rfl)
theorem dL_law_879 : decode cL_law 879 = .ok (.iadd, 1) := dk_96 (dk_at dksL_law_34 16 rfl rfl)
theorem dL_law_880 : decode cL_law 880 = .ok (.iaload, 1) := dk_46 (dk_at dksL_law_34 17 rfl rfl)
theorem dL_law_881 : decode cL_law 881 = .ok (.invokevirtual 123, 3) := dk_182 0 123 (dk_at dksL_law_34 18 rfl rfl)
theorem dL_law_884 : decode cL_law 884 = .ok (.istore 6, 2) := dk_54 6 (dk_at dksL_law_34 21 rfl rfl)
theorem dL_law_886 : decode cL_law 886 = .ok (.aload_n 2, 1) := dk_44 (dk_at dksL_law_34 23 rfl rfl)
theorem dL_law_887 : decode cL_law 887 = .ok (.invokevirtual 81, 3) := dk_182 0 81 (dk_at dksL_law_35 0 rfl rfl)
theorem dL_law_890 : decode cL_law 890 = .ok (.iload 5, 2) := dk_21 5 (dk_at dksL_law_35 3 rfl rfl)
theorem dL_law_892 : decode cL_law 892 = .ok (.if_icmp .eq 5, 3) := dk_159 0 5 (dk_at dksL_law_35 5 rfl rfl)
theorem dL_law_895 : decode cL_law 895 = .ok (.iconst 0, 1) := dk_3 (dk_at dksL_law_35 8 rfl rfl)
theorem dL_law_896 : decode cL_law 896 = .ok (.ireturn, 1) := dk_172 (dk_at dksL_law_35 9 rfl rfl)
theorem dL_law_897 : decode cL_law 897 = .ok (.iload 5, 2) := dk_21 5 (dk_at dksL_law_35 10 rfl rfl)
theorem dL_law_899 : decode cL_law 899 = .ok (.ifCond .ne 15, 3) := dk_154 0 15 (dk_at dksL_law_35 12 rfl rfl)
theorem dL_law_902 : decode cL_law 902 = .ok (.aload_n 3, 1) := dk_45 (dk_at dksL_law_35 15 rfl rfl)
theorem dL_law_903 : decode cL_law 903 = .ok (.iconst 0, 1) := dk_3 (dk_at dksL_law_35 16 rfl rfl)
theorem dL_law_904 : decode cL_law 904 = .ok (.laload, 1) := dk_47 (dk_at dksL_law_35 17 rfl rfl)
theorem dL_law_905 : decode cL_law 905 = .ok (.iload 6, 2) := dk_21 6 (dk_at dksL_law_35 18 rfl rfl)
theorem dL_law_907 : decode cL_law 907 = .ok (.i2l, 1) := dk_133 (dk_at dksL_law_35 20 rfl rfl)
theorem dL_law_908 : decode cL_law 908 = .ok (.lcmp, 1) := dk_148 (dk_at dksL_law_35 21 rfl rfl)
theorem dL_law_909 : decode cL_law 909 = .ok (.ifCond .eq 5, 3) := dk_153 0 5 (dk_at dksL_law_36 0 rfl rfl)
theorem dL_law_912 : decode cL_law 912 = .ok (.iconst 0, 1) := dk_3 (dk_at dksL_law_36 3 rfl rfl)
theorem dL_law_913 : decode cL_law 913 = .ok (.ireturn, 1) := dk_172 (dk_at dksL_law_36 4 rfl rfl)
theorem dL_law_914 : decode cL_law 914 = .ok (.goto 440, 3) := dk_167 1 184 (dk_at dksL_law_36 5 rfl rfl)
theorem dL_law_917 : decode cL_law 917 = .ok (.aload_n 1, 1) := dk_43 (dk_at dksL_law_36 8 rfl rfl)
theorem dL_law_918 : decode cL_law 918 = .ok (.aload_n 0, 1) := dk_42 (dk_at dksL_law_36 9 rfl rfl)
theorem dL_law_919 : decode cL_law 919 = .ok (.iload 4, 2) := dk_21 4 (dk_at dksL_law_36 10 rfl rfl)
theorem dL_law_921 : decode cL_law 921 = .ok (.iconst 1, 1) := dk_4 (dk_at dksL_law_36 12 rfl rfl)
theorem dL_law_922 : decode cL_law 922 = .ok (.iadd, 1) := dk_96 (dk_at dksL_law_36 13 rfl rfl)
theorem dL_law_923 : decode cL_law 923 = .ok (.iaload, 1) := dk_46 (dk_at dksL_law_36 14 rfl rfl)
theorem dL_law_924 : decode cL_law 924 = .ok (.aload_n 0, 1) := dk_42 (dk_at dksL_law_36 15 rfl rfl)
theorem dL_law_925 : decode cL_law 925 = .ok (.iload 4, 2) := dk_21 4 (dk_at dksL_law_36 16 rfl rfl)
theorem dL_law_927 : decode cL_law 927 = .ok (.iconst 2, 1) := dk_5 (dk_at dksL_law_36 18 rfl rfl)
theorem dL_law_928 : decode cL_law 928 = .ok (.iadd, 1) := dk_96 (dk_at dksL_law_36 19 rfl rfl)
theorem dL_law_929 : decode cL_law 929 = .ok (.iaload, 1) := dk_46 (dk_at dksL_law_36 20 rfl rfl)
theorem dL_law_930 : decode cL_law 930 = .ok (.aload_n 3, 1) := dk_45 (dk_at dksL_law_36 21 rfl rfl)
theorem dL_law_931 : decode cL_law 931 = .ok (.invokestatic 124, 3) := dk_184 0 124 (dk_at dksL_law_37 0 rfl rfl)
theorem dL_law_934 : decode cL_law 934 = .ok (.istore 5, 2) := dk_54 5 (dk_at dksL_law_37 3 rfl rfl)
theorem dL_law_936 : decode cL_law 936 = .ok (.aload_n 2, 1) := dk_44 (dk_at dksL_law_37 5 rfl rfl)
theorem dL_law_937 : decode cL_law 937 = .ok (.aload_n 0, 1) := dk_42 (dk_at dksL_law_37 6 rfl rfl)
theorem dL_law_938 : decode cL_law 938 = .ok (.iload 4, 2) := dk_21 4 (dk_at dksL_law_37 7 rfl rfl)
theorem dL_law_940 : decode cL_law 940 = .ok (.iconst 1, 1) := dk_4 (dk_at dksL_law_37 9 rfl rfl)
theorem dL_law_941 : decode cL_law 941 = .ok (.iadd, 1) := dk_96 (dk_at dksL_law_37 10 rfl rfl)
theorem dL_law_942 : decode cL_law 942 = .ok (.iaload, 1) := dk_46 (dk_at dksL_law_37 11 rfl rfl)
theorem dL_law_943 : decode cL_law 943 = .ok (.aload_n 0, 1) := dk_42 (dk_at dksL_law_37 12 rfl rfl)
theorem dL_law_944 : decode cL_law 944 = .ok (.iload 4, 2) := dk_21 4 (dk_at dksL_law_37 13 rfl rfl)
theorem dL_law_946 : decode cL_law 946 = .ok (.iconst 2, 1) := dk_5 (dk_at dksL_law_37 15 rfl rfl)
theorem dL_law_947 : decode cL_law 947 = .ok (.iadd, 1) := dk_96 (dk_at dksL_law_37 16 rfl rfl)
theorem dL_law_948 : decode cL_law 948 = .ok (.iaload, 1) := dk_46 (dk_at dksL_law_37 17 rfl rfl)
theorem dL_law_949 : decode cL_law 949 = .ok (.invokevirtual 126, 3) := dk_182 0 126 (dk_at dksL_law_37 18 rfl rfl)
theorem dL_law_952 : decode cL_law 952 = .ok (.istore 6, 2) := dk_54 6 (dk_at dksL_law_37 21 rfl rfl)
theorem dL_law_954 : decode cL_law 954 = .ok (.aload_n 2, 1) := dk_44 (dk_at dksL_law_37 23 rfl rfl)
theorem dL_law_955 : decode cL_law 955 = .ok (.invokevirtual 81, 3) := dk_182 0 81 (dk_at dksL_law_38 0 rfl rfl)
theorem dL_law_958 : decode cL_law 958 = .ok (.iload 5, 2) := dk_21 5 (dk_at dksL_law_38 3 rfl rfl)
theorem dL_law_960 : decode cL_law 960 = .ok (.if_icmp .eq 5, 3) := dk_159 0 5 (dk_at dksL_law_38 5 rfl rfl)
theorem dL_law_963 : decode cL_law 963 = .ok (.iconst 0, 1) := dk_3 (dk_at dksL_law_38 8 rfl rfl)
theorem dL_law_964 : decode cL_law 964 = .ok (.ireturn, 1) := dk_172 (dk_at dksL_law_38 9 rfl rfl)
theorem dL_law_965 : decode cL_law 965 = .ok (.iload 5, 2) := dk_21 5 (dk_at dksL_law_38 10 rfl rfl)
theorem dL_law_967 : decode cL_law 967 = .ok (.ifCond .ne 15, 3) := dk_154 0 15 (dk_at dksL_law_38 12 rfl rfl)
theorem dL_law_970 : decode cL_law 970 = .ok (.aload_n 3, 1) := dk_45 (dk_at dksL_law_38 15 rfl rfl)
theorem dL_law_971 : decode cL_law 971 = .ok (.iconst 0, 1) := dk_3 (dk_at dksL_law_38 16 rfl rfl)
theorem dL_law_972 : decode cL_law 972 = .ok (.laload, 1) := dk_47 (dk_at dksL_law_38 17 rfl rfl)
theorem dL_law_973 : decode cL_law 973 = .ok (.iload 6, 2) := dk_21 6 (dk_at dksL_law_38 18 rfl rfl)
theorem dL_law_975 : decode cL_law 975 = .ok (.i2l, 1) := dk_133 (dk_at dksL_law_38 20 rfl rfl)
theorem dL_law_976 : decode cL_law 976 = .ok (.lcmp, 1) := dk_148 (dk_at dksL_law_38 21 rfl rfl)
theorem dL_law_977 : decode cL_law 977 = .ok (.ifCond .eq 5, 3) := dk_153 0 5 (dk_at dksL_law_39 0 rfl rfl)
theorem dL_law_980 : decode cL_law 980 = .ok (.iconst 0, 1) := dk_3 (dk_at dksL_law_39 3 rfl rfl)
theorem dL_law_981 : decode cL_law 981 = .ok (.ireturn, 1) := dk_172 (dk_at dksL_law_39 4 rfl rfl)
theorem dL_law_982 : decode cL_law 982 = .ok (.goto 372, 3) := dk_167 1 116 (dk_at dksL_law_39 5 rfl rfl)
theorem dL_law_985 : decode cL_law 985 = .ok (.aload_n 1, 1) := dk_43 (dk_at dksL_law_39 8 rfl rfl)
theorem dL_law_986 : decode cL_law 986 = .ok (.aload_n 0, 1) := dk_42 (dk_at dksL_law_39 9 rfl rfl)
theorem dL_law_987 : decode cL_law 987 = .ok (.iload 4, 2) := dk_21 4 (dk_at dksL_law_39 10 rfl rfl)
theorem dL_law_989 : decode cL_law 989 = .ok (.iconst 1, 1) := dk_4 (dk_at dksL_law_39 12 rfl rfl)
theorem dL_law_990 : decode cL_law 990 = .ok (.iadd, 1) := dk_96 (dk_at dksL_law_39 13 rfl rfl)
theorem dL_law_991 : decode cL_law 991 = .ok (.iaload, 1) := dk_46 (dk_at dksL_law_39 14 rfl rfl)
theorem dL_law_992 : decode cL_law 992 = .ok (.aload_n 3, 1) := dk_45 (dk_at dksL_law_39 15 rfl rfl)
theorem dL_law_993 : decode cL_law 993 = .ok (.invokestatic 127, 3) := dk_184 0 127 (dk_at dksL_law_39 16 rfl rfl)
theorem dL_law_996 : decode cL_law 996 = .ok (.istore 5, 2) := dk_54 5 (dk_at dksL_law_39 19 rfl rfl)
theorem dL_law_998 : decode cL_law 998 = .ok (.aload_n 2, 1) := dk_44 (dk_at dksL_law_39 21 rfl rfl)
theorem dL_law_999 : decode cL_law 999 = .ok (.aload_n 0, 1) := dk_42 (dk_at dksL_law_39 22 rfl rfl)
theorem dL_law_1000 : decode cL_law 1000 = .ok (.iload 4, 2) := dk_21 4 (dk_at dksL_law_40 0 rfl rfl)
theorem dL_law_1002 : decode cL_law 1002 = .ok (.iconst 1, 1) := dk_4 (dk_at dksL_law_40 2 rfl rfl)
theorem dL_law_1003 : decode cL_law 1003 = .ok (.iadd, 1) := dk_96 (dk_at dksL_law_40 3 rfl rfl)
theorem dL_law_1004 : decode cL_law 1004 = .ok (.iaload, 1) := dk_46 (dk_at dksL_law_40 4 rfl rfl)
theorem dL_law_1005 : decode cL_law 1005 = .ok (.invokevirtual 129, 3) := dk_182 0 129 (dk_at dksL_law_40 5 rfl rfl)
theorem dL_law_1008 : decode cL_law 1008 = .ok (.istore 6, 2) := dk_54 6 (dk_at dksL_law_40 8 rfl rfl)
theorem dL_law_1010 : decode cL_law 1010 = .ok (.aload_n 2, 1) := dk_44 (dk_at dksL_law_40 10 rfl rfl)
theorem dL_law_1011 : decode cL_law 1011 = .ok (.invokevirtual 81, 3) := dk_182 0 81 (dk_at dksL_law_40 11 rfl rfl)
theorem dL_law_1014 : decode cL_law 1014 = .ok (.iload 5, 2) := dk_21 5 (dk_at dksL_law_40 14 rfl rfl)
theorem dL_law_1016 : decode cL_law 1016 = .ok (.if_icmp .eq 5, 3) := dk_159 0 5 (dk_at dksL_law_40 16 rfl rfl)
theorem dL_law_1019 : decode cL_law 1019 = .ok (.iconst 0, 1) := dk_3 (dk_at dksL_law_40 19 rfl rfl)
theorem dL_law_1020 : decode cL_law 1020 = .ok (.ireturn, 1) := dk_172 (dk_at dksL_law_40 20 rfl rfl)
theorem dL_law_1021 : decode cL_law 1021 = .ok (.iload 5, 2) := dk_21 5 (dk_at dksL_law_40 21 rfl rfl)
theorem dL_law_1023 : decode cL_law 1023 = .ok (.ifCond .ne 15, 3) := dk_154 0 15 (dk_at dksL_law_41 0 rfl rfl)
theorem dL_law_1026 : decode cL_law 1026 = .ok (.aload_n 3, 1) := dk_45 (dk_at dksL_law_41 3 rfl rfl)
theorem dL_law_1027 : decode cL_law 1027 = .ok (.iconst 0, 1) := dk_3 (dk_at dksL_law_41 4 rfl rfl)
theorem dL_law_1028 : decode cL_law 1028 = .ok (.laload, 1) := dk_47 (dk_at dksL_law_41 5 rfl rfl)
theorem dL_law_1029 : decode cL_law 1029 = .ok (.iload 6, 2) := dk_21 6 (dk_at dksL_law_41 6 rfl rfl)
theorem dL_law_1031 : decode cL_law 1031 = .ok (.i2l, 1) := dk_133 (dk_at dksL_law_41 8 rfl rfl)
theorem dL_law_1032 : decode cL_law 1032 = .ok (.lcmp, 1) := dk_148 (dk_at dksL_law_41 9 rfl rfl)
theorem dL_law_1033 : decode cL_law 1033 = .ok (.ifCond .eq 5, 3) := dk_153 0 5 (dk_at dksL_law_41 10 rfl rfl)
theorem dL_law_1036 : decode cL_law 1036 = .ok (.iconst 0, 1) := dk_3 (dk_at dksL_law_41 13 rfl rfl)
theorem dL_law_1037 : decode cL_law 1037 = .ok (.ireturn, 1) := dk_172 (dk_at dksL_law_41 14 rfl rfl)
theorem dL_law_1038 : decode cL_law 1038 = .ok (.goto 316, 3) := dk_167 1 60 (dk_at dksL_law_41 15 rfl rfl)
theorem dL_law_1041 : decode cL_law 1041 = .ok (.aload_n 1, 1) := dk_43 (dk_at dksL_law_41 18 rfl rfl)
theorem dL_law_1042 : decode cL_law 1042 = .ok (.aload_n 0, 1) := dk_42 (dk_at dksL_law_41 19 rfl rfl)
theorem dL_law_1043 : decode cL_law 1043 = .ok (.iload 4, 2) := dk_21 4 (dk_at dksL_law_41 20 rfl rfl)
theorem dL_law_1045 : decode cL_law 1045 = .ok (.iconst 1, 1) := dk_4 (dk_at dksL_law_41 22 rfl rfl)
theorem dL_law_1046 : decode cL_law 1046 = .ok (.iadd, 1) := dk_96 (dk_at dksL_law_41 23 rfl rfl)
theorem dL_law_1047 : decode cL_law 1047 = .ok (.iaload, 1) := dk_46 (dk_at dksL_law_42 0 rfl rfl)
theorem dL_law_1048 : decode cL_law 1048 = .ok (.aload_n 0, 1) := dk_42 (dk_at dksL_law_42 1 rfl rfl)
theorem dL_law_1049 : decode cL_law 1049 = .ok (.iload 4, 2) := dk_21 4 (dk_at dksL_law_42 2 rfl rfl)
theorem dL_law_1051 : decode cL_law 1051 = .ok (.iconst 2, 1) := dk_5 (dk_at dksL_law_42 4 rfl rfl)
theorem dL_law_1052 : decode cL_law 1052 = .ok (.iadd, 1) := dk_96 (dk_at dksL_law_42 5 rfl rfl)
theorem dL_law_1053 : decode cL_law 1053 = .ok (.iaload, 1) := dk_46 (dk_at dksL_law_42 6 rfl rfl)
theorem dL_law_1054 : decode cL_law 1054 = .ok (.aload_n 3, 1) := dk_45 (dk_at dksL_law_42 7 rfl rfl)
theorem dL_law_1055 : decode cL_law 1055 = .ok (.invokestatic 130, 3) := dk_184 0 130 (dk_at dksL_law_42 8 rfl rfl)
theorem dL_law_1058 : decode cL_law 1058 = .ok (.istore 5, 2) := dk_54 5 (dk_at dksL_law_42 11 rfl rfl)
theorem dL_law_1060 : decode cL_law 1060 = .ok (.aload_n 2, 1) := dk_44 (dk_at dksL_law_42 13 rfl rfl)
theorem dL_law_1061 : decode cL_law 1061 = .ok (.aload_n 0, 1) := dk_42 (dk_at dksL_law_42 14 rfl rfl)
theorem dL_law_1062 : decode cL_law 1062 = .ok (.iload 4, 2) := dk_21 4 (dk_at dksL_law_42 15 rfl rfl)
theorem dL_law_1064 : decode cL_law 1064 = .ok (.iconst 1, 1) := dk_4 (dk_at dksL_law_42 17 rfl rfl)
theorem dL_law_1065 : decode cL_law 1065 = .ok (.iadd, 1) := dk_96 (dk_at dksL_law_42 18 rfl rfl)
theorem dL_law_1066 : decode cL_law 1066 = .ok (.iaload, 1) := dk_46 (dk_at dksL_law_42 19 rfl rfl)
theorem dL_law_1067 : decode cL_law 1067 = .ok (.aload_n 0, 1) := dk_42 (dk_at dksL_law_42 20 rfl rfl)
theorem dL_law_1068 : decode cL_law 1068 = .ok (.iload 4, 2) := dk_21 4 (dk_at dksL_law_42 21 rfl rfl)
theorem dL_law_1070 : decode cL_law 1070 = .ok (.iconst 2, 1) := dk_5 (dk_at dksL_law_42 23 rfl rfl)
theorem dL_law_1071 : decode cL_law 1071 = .ok (.iadd, 1) := dk_96 (dk_at dksL_law_43 0 rfl rfl)
theorem dL_law_1072 : decode cL_law 1072 = .ok (.iaload, 1) := dk_46 (dk_at dksL_law_43 1 rfl rfl)
theorem dL_law_1073 : decode cL_law 1073 = .ok (.invokevirtual 132, 3) := dk_182 0 132 (dk_at dksL_law_43 2 rfl rfl)
theorem dL_law_1076 : decode cL_law 1076 = .ok (.istore 6, 2) := dk_54 6 (dk_at dksL_law_43 5 rfl rfl)
theorem dL_law_1078 : decode cL_law 1078 = .ok (.aload_n 2, 1) := dk_44 (dk_at dksL_law_43 7 rfl rfl)
theorem dL_law_1079 : decode cL_law 1079 = .ok (.invokevirtual 81, 3) := dk_182 0 81 (dk_at dksL_law_43 8 rfl rfl)
theorem dL_law_1082 : decode cL_law 1082 = .ok (.iload 5, 2) := dk_21 5 (dk_at dksL_law_43 11 rfl rfl)
theorem dL_law_1084 : decode cL_law 1084 = .ok (.if_icmp .eq 5, 3) := dk_159 0 5 (dk_at dksL_law_43 13 rfl rfl)
theorem dL_law_1087 : decode cL_law 1087 = .ok (.iconst 0, 1) := dk_3 (dk_at dksL_law_43 16 rfl rfl)
theorem dL_law_1088 : decode cL_law 1088 = .ok (.ireturn, 1) := dk_172 (dk_at dksL_law_43 17 rfl rfl)
theorem dL_law_1089 : decode cL_law 1089 = .ok (.iload 5, 2) := dk_21 5 (dk_at dksL_law_43 18 rfl rfl)
theorem dL_law_1091 : decode cL_law 1091 = .ok (.ifCond .ne 15, 3) := dk_154 0 15 (dk_at dksL_law_43 20 rfl rfl)
theorem dL_law_1094 : decode cL_law 1094 = .ok (.aload_n 3, 1) := dk_45 (dk_at dksL_law_43 23 rfl rfl)
theorem dL_law_1095 : decode cL_law 1095 = .ok (.iconst 0, 1) := dk_3 (dk_at dksL_law_44 0 rfl rfl)
theorem dL_law_1096 : decode cL_law 1096 = .ok (.laload, 1) := dk_47 (dk_at dksL_law_44 1 rfl rfl)
theorem dL_law_1097 : decode cL_law 1097 = .ok (.iload 6, 2) := dk_21 6 (dk_at dksL_law_44 2 rfl rfl)
theorem dL_law_1099 : decode cL_law 1099 = .ok (.i2l, 1) := dk_133 (dk_at dksL_law_44 4 rfl rfl)
theorem dL_law_1100 : decode cL_law 1100 = .ok (.lcmp, 1) := dk_148 (dk_at dksL_law_44 5 rfl rfl)
theorem dL_law_1101 : decode cL_law 1101 = .ok (.ifCond .eq 5, 3) := dk_153 0 5 (dk_at dksL_law_44 6 rfl rfl)
theorem dL_law_1104 : decode cL_law 1104 = .ok (.iconst 0, 1) := dk_3 (dk_at dksL_law_44 9 rfl rfl)
theorem dL_law_1105 : decode cL_law 1105 = .ok (.ireturn, 1) := dk_172 (dk_at dksL_law_44 10 rfl rfl)
theorem dL_law_1106 : decode cL_law 1106 = .ok (.goto 248, 3) := dk_167 0 248 (dk_at dksL_law_44 11 rfl rfl)
theorem dL_law_1109 : decode cL_law 1109 = .ok (.aload_n 1, 1) := dk_43 (dk_at dksL_law_44 14 rfl rfl)
theorem dL_law_1110 : decode cL_law 1110 = .ok (.aload_n 0, 1) := dk_42 (dk_at dksL_law_44 15 rfl rfl)
theorem dL_law_1111 : decode cL_law 1111 = .ok (.iload 4, 2) := dk_21 4 (dk_at dksL_law_44 16 rfl rfl)
theorem dL_law_1113 : decode cL_law 1113 = .ok (.iconst 1, 1) := dk_4 (dk_at dksL_law_44 18 rfl rfl)
theorem dL_law_1114 : decode cL_law 1114 = .ok (.iadd, 1) := dk_96 (dk_at dksL_law_44 19 rfl rfl)
theorem dL_law_1115 : decode cL_law 1115 = .ok (.iaload, 1) := dk_46 (dk_at dksL_law_44 20 rfl rfl)
theorem dL_law_1116 : decode cL_law 1116 = .ok (.aload_n 0, 1) := dk_42 (dk_at dksL_law_44 21 rfl rfl)
theorem dL_law_1117 : decode cL_law 1117 = .ok (.iload 4, 2) := dk_21 4 (dk_at dksL_law_44 22 rfl rfl)
theorem dL_law_1119 : decode cL_law 1119 = .ok (.iconst 2, 1) := dk_5 (dk_at dksL_law_45 0 rfl rfl)
theorem dL_law_1120 : decode cL_law 1120 = .ok (.iadd, 1) := dk_96 (dk_at dksL_law_45 1 rfl rfl)
theorem dL_law_1121 : decode cL_law 1121 = .ok (.iaload, 1) := dk_46 (dk_at dksL_law_45 2 rfl rfl)
theorem dL_law_1122 : decode cL_law 1122 = .ok (.aload_n 0, 1) := dk_42 (dk_at dksL_law_45 3 rfl rfl)
theorem dL_law_1123 : decode cL_law 1123 = .ok (.iload 4, 2) := dk_21 4 (dk_at dksL_law_45 4 rfl rfl)
theorem dL_law_1125 : decode cL_law 1125 = .ok (.iconst 3, 1) := dk_6 (dk_at dksL_law_45 6 rfl rfl)
theorem dL_law_1126 : decode cL_law 1126 = .ok (.iadd, 1) := dk_96 (dk_at dksL_law_45 7 rfl rfl)
theorem dL_law_1127 : decode cL_law 1127 = .ok (.iaload, 1) := dk_46 (dk_at dksL_law_45 8 rfl rfl)
theorem dL_law_1128 : decode cL_law 1128 = .ok (.aload_n 3, 1) := dk_45 (dk_at dksL_law_45 9 rfl rfl)
theorem dL_law_1129 : decode cL_law 1129 = .ok (.invokestatic 133, 3) := dk_184 0 133 (dk_at dksL_law_45 10 rfl rfl)
theorem dL_law_1132 : decode cL_law 1132 = .ok (.istore 5, 2) := dk_54 5 (dk_at dksL_law_45 13 rfl rfl)
theorem dL_law_1134 : decode cL_law 1134 = .ok (.aload_n 2, 1) := dk_44 (dk_at dksL_law_45 15 rfl rfl)
theorem dL_law_1135 : decode cL_law 1135 = .ok (.aload_n 0, 1) := dk_42 (dk_at dksL_law_45 16 rfl rfl)
theorem dL_law_1136 : decode cL_law 1136 = .ok (.iload 4, 2) := dk_21 4 (dk_at dksL_law_45 17 rfl rfl)
theorem dL_law_1138 : decode cL_law 1138 = .ok (.iconst 1, 1) := dk_4 (dk_at dksL_law_45 19 rfl rfl)
theorem dL_law_1139 : decode cL_law 1139 = .ok (.iadd, 1) := dk_96 (dk_at dksL_law_45 20 rfl rfl)
theorem dL_law_1140 : decode cL_law 1140 = .ok (.iaload, 1) := dk_46 (dk_at dksL_law_45 21 rfl rfl)
theorem dL_law_1141 : decode cL_law 1141 = .ok (.aload_n 0, 1) := dk_42 (dk_at dksL_law_45 22 rfl rfl)
theorem dL_law_1142 : decode cL_law 1142 = .ok (.iload 4, 2) := dk_21 4 (dk_at dksL_law_46 0 rfl rfl)
theorem dL_law_1144 : decode cL_law 1144 = .ok (.iconst 2, 1) := dk_5 (dk_at dksL_law_46 2 rfl rfl)
theorem dL_law_1145 : decode cL_law 1145 = .ok (.iadd, 1) := dk_96 (dk_at dksL_law_46 3 rfl rfl)
theorem dL_law_1146 : decode cL_law 1146 = .ok (.iaload, 1) := dk_46 (dk_at dksL_law_46 4 rfl rfl)
theorem dL_law_1147 : decode cL_law 1147 = .ok (.aload_n 0, 1) := dk_42 (dk_at dksL_law_46 5 rfl rfl)
theorem dL_law_1148 : decode cL_law 1148 = .ok (.iload 4, 2) := dk_21 4 (dk_at dksL_law_46 6 rfl rfl)
theorem dL_law_1150 : decode cL_law 1150 = .ok (.iconst 3, 1) := dk_6 (dk_at dksL_law_46 8 rfl rfl)
theorem dL_law_1151 : decode cL_law 1151 = .ok (.iadd, 1) := dk_96 (dk_at dksL_law_46 9 rfl rfl)
theorem dL_law_1152 : decode cL_law 1152 = .ok (.iaload, 1) := dk_46 (dk_at dksL_law_46 10 rfl rfl)
theorem dL_law_1153 : decode cL_law 1153 = .ok (.invokevirtual 135, 3) := dk_182 0 135 (dk_at dksL_law_46 11 rfl rfl)
theorem dL_law_1156 : decode cL_law 1156 = .ok (.istore 6, 2) := dk_54 6 (dk_at dksL_law_46 14 rfl rfl)
theorem dL_law_1158 : decode cL_law 1158 = .ok (.aload_n 2, 1) := dk_44 (dk_at dksL_law_46 16 rfl rfl)
theorem dL_law_1159 : decode cL_law 1159 = .ok (.invokevirtual 81, 3) := dk_182 0 81 (dk_at dksL_law_46 17 rfl rfl)
theorem dL_law_1162 : decode cL_law 1162 = .ok (.iload 5, 2) := dk_21 5 (dk_at dksL_law_46 20 rfl rfl)
theorem dL_law_1164 : decode cL_law 1164 = .ok (.if_icmp .eq 5, 3) := dk_159 0 5 (dk_at dksL_law_47 0 rfl rfl)
theorem dL_law_1167 : decode cL_law 1167 = .ok (.iconst 0, 1) := dk_3 (dk_at dksL_law_47 3 rfl rfl)
theorem dL_law_1168 : decode cL_law 1168 = .ok (.ireturn, 1) := dk_172 (dk_at dksL_law_47 4 rfl rfl)
theorem dL_law_1169 : decode cL_law 1169 = .ok (.iload 5, 2) := dk_21 5 (dk_at dksL_law_47 5 rfl rfl)
theorem dL_law_1171 : decode cL_law 1171 = .ok (.ifCond .ne 15, 3) := dk_154 0 15 (dk_at dksL_law_47 7 rfl rfl)
theorem dL_law_1174 : decode cL_law 1174 = .ok (.aload_n 3, 1) := dk_45 (dk_at dksL_law_47 10 rfl rfl)
theorem dL_law_1175 : decode cL_law 1175 = .ok (.iconst 0, 1) := dk_3 (dk_at dksL_law_47 11 rfl rfl)
theorem dL_law_1176 : decode cL_law 1176 = .ok (.laload, 1) := dk_47 (dk_at dksL_law_47 12 rfl rfl)
theorem dL_law_1177 : decode cL_law 1177 = .ok (.iload 6, 2) := dk_21 6 (dk_at dksL_law_47 13 rfl rfl)
theorem dL_law_1179 : decode cL_law 1179 = .ok (.i2l, 1) := dk_133 (dk_at dksL_law_47 15 rfl rfl)
theorem dL_law_1180 : decode cL_law 1180 = .ok (.lcmp, 1) := dk_148 (dk_at dksL_law_47 16 rfl rfl)
theorem dL_law_1181 : decode cL_law 1181 = .ok (.ifCond .eq 5, 3) := dk_153 0 5 (dk_at dksL_law_47 17 rfl rfl)
theorem dL_law_1184 : decode cL_law 1184 = .ok (.iconst 0, 1) := dk_3 (dk_at dksL_law_47 20 rfl rfl)
theorem dL_law_1185 : decode cL_law 1185 = .ok (.ireturn, 1) := dk_172 (dk_at dksL_law_47 21 rfl rfl)
theorem dL_law_1186 : decode cL_law 1186 = .ok (.goto 168, 3) := dk_167 0 168 (dk_at dksL_law_48 0 rfl rfl)
theorem dL_law_1189 : decode cL_law 1189 = .ok (.aload_n 1, 1) := dk_43 (dk_at dksL_law_48 3 rfl rfl)
theorem dL_law_1190 : decode cL_law 1190 = .ok (.aload_n 0, 1) := dk_42 (dk_at dksL_law_48 4 rfl rfl)
theorem dL_law_1191 : decode cL_law 1191 = .ok (.iload 4, 2) := dk_21 4 (dk_at dksL_law_48 5 rfl rfl)
theorem dL_law_1193 : decode cL_law 1193 = .ok (.iconst 1, 1) := dk_4 (dk_at dksL_law_48 7 rfl rfl)
theorem dL_law_1194 : decode cL_law 1194 = .ok (.iadd, 1) := dk_96 (dk_at dksL_law_48 8 rfl rfl)
theorem dL_law_1195 : decode cL_law 1195 = .ok (.iaload, 1) := dk_46 (dk_at dksL_law_48 9 rfl rfl)
theorem dL_law_1196 : decode cL_law 1196 = .ok (.aload_n 0, 1) := dk_42 (dk_at dksL_law_48 10 rfl rfl)
theorem dL_law_1197 : decode cL_law 1197 = .ok (.iload 4, 2) := dk_21 4 (dk_at dksL_law_48 11 rfl rfl)
theorem dL_law_1199 : decode cL_law 1199 = .ok (.iconst 2, 1) := dk_5 (dk_at dksL_law_48 13 rfl rfl)
theorem dL_law_1200 : decode cL_law 1200 = .ok (.iadd, 1) := dk_96 (dk_at dksL_law_48 14 rfl rfl)
theorem dL_law_1201 : decode cL_law 1201 = .ok (.iaload, 1) := dk_46 (dk_at dksL_law_48 15 rfl rfl)
theorem dL_law_1202 : decode cL_law 1202 = .ok (.aload_n 3, 1) := dk_45 (dk_at dksL_law_48 16 rfl rfl)
theorem dL_law_1203 : decode cL_law 1203 = .ok (.invokestatic 136, 3) := dk_184 0 136 (dk_at dksL_law_48 17 rfl rfl)
theorem dL_law_1206 : decode cL_law 1206 = .ok (.istore 5, 2) := dk_54 5 (dk_at dksL_law_48 20 rfl rfl)
theorem dL_law_1208 : decode cL_law 1208 = .ok (.aload_n 2, 1) := dk_44 (dk_at dksL_law_48 22 rfl rfl)
theorem dL_law_1209 : decode cL_law 1209 = .ok (.aload_n 0, 1) := dk_42 (dk_at dksL_law_48 23 rfl rfl)
theorem dL_law_1210 : decode cL_law 1210 = .ok (.iload 4, 2) := dk_21 4 (dk_at dksL_law_49 0 rfl rfl)
theorem dL_law_1212 : decode cL_law 1212 = .ok (.iconst 1, 1) := dk_4 (dk_at dksL_law_49 2 rfl rfl)
theorem dL_law_1213 : decode cL_law 1213 = .ok (.iadd, 1) := dk_96 (dk_at dksL_law_49 3 rfl rfl)
theorem dL_law_1214 : decode cL_law 1214 = .ok (.iaload, 1) := dk_46 (dk_at dksL_law_49 4 rfl rfl)
theorem dL_law_1215 : decode cL_law 1215 = .ok (.aload_n 0, 1) := dk_42 (dk_at dksL_law_49 5 rfl rfl)
theorem dL_law_1216 : decode cL_law 1216 = .ok (.iload 4, 2) := dk_21 4 (dk_at dksL_law_49 6 rfl rfl)
theorem dL_law_1218 : decode cL_law 1218 = .ok (.iconst 2, 1) := dk_5 (dk_at dksL_law_49 8 rfl rfl)
theorem dL_law_1219 : decode cL_law 1219 = .ok (.iadd, 1) := dk_96 (dk_at dksL_law_49 9 rfl rfl)
theorem dL_law_1220 : decode cL_law 1220 = .ok (.iaload, 1) := dk_46 (dk_at dksL_law_49 10 rfl rfl)
theorem dL_law_1221 : decode cL_law 1221 = .ok (.invokevirtual 138, 3) := dk_182 0 138 (dk_at dksL_law_49 11 rfl rfl)
theorem dL_law_1224 : decode cL_law 1224 = .ok (.istore 6, 2) := dk_54 6 (dk_at dksL_law_49 14 rfl rfl)
theorem dL_law_1226 : decode cL_law 1226 = .ok (.aload_n 2, 1) := dk_44 (dk_at dksL_law_49 16 rfl rfl)
theorem dL_law_1227 : decode cL_law 1227 = .ok (.invokevirtual 81, 3) := dk_182 0 81 (dk_at dksL_law_49 17 rfl rfl)
theorem dL_law_1230 : decode cL_law 1230 = .ok (.iload 5, 2) := dk_21 5 (dk_at dksL_law_49 20 rfl rfl)
theorem dL_law_1232 : decode cL_law 1232 = .ok (.if_icmp .eq 5, 3) := dk_159 0 5 (dk_at dksL_law_50 0 rfl rfl)
theorem dL_law_1235 : decode cL_law 1235 = .ok (.iconst 0, 1) := dk_3 (dk_at dksL_law_50 3 rfl rfl)
theorem dL_law_1236 : decode cL_law 1236 = .ok (.ireturn, 1) := dk_172 (dk_at dksL_law_50 4 rfl rfl)
theorem dL_law_1237 : decode cL_law 1237 = .ok (.iload 5, 2) := dk_21 5 (dk_at dksL_law_50 5 rfl rfl)
theorem dL_law_1239 : decode cL_law 1239 = .ok (.ifCond .ne 15, 3) := dk_154 0 15 (dk_at dksL_law_50 7 rfl rfl)
theorem dL_law_1242 : decode cL_law 1242 = .ok (.aload_n 3, 1) := dk_45 (dk_at dksL_law_50 10 rfl rfl)
theorem dL_law_1243 : decode cL_law 1243 = .ok (.iconst 0, 1) := dk_3 (dk_at dksL_law_50 11 rfl rfl)
theorem dL_law_1244 : decode cL_law 1244 = .ok (.laload, 1) := dk_47 (dk_at dksL_law_50 12 rfl rfl)
theorem dL_law_1245 : decode cL_law 1245 = .ok (.iload 6, 2) := dk_21 6 (dk_at dksL_law_50 13 rfl rfl)
theorem dL_law_1247 : decode cL_law 1247 = .ok (.i2l, 1) := dk_133 (dk_at dksL_law_50 15 rfl rfl)
theorem dL_law_1248 : decode cL_law 1248 = .ok (.lcmp, 1) := dk_148 (dk_at dksL_law_50 16 rfl rfl)
theorem dL_law_1249 : decode cL_law 1249 = .ok (.ifCond .eq 5, 3) := dk_153 0 5 (dk_at dksL_law_50 17 rfl rfl)
theorem dL_law_1252 : decode cL_law 1252 = .ok (.iconst 0, 1) := dk_3 (dk_at dksL_law_50 20 rfl rfl)
theorem dL_law_1253 : decode cL_law 1253 = .ok (.ireturn, 1) := dk_172 (dk_at dksL_law_50 21 rfl rfl)
theorem dL_law_1254 : decode cL_law 1254 = .ok (.goto 100, 3) := dk_167 0 100 (dk_at dksL_law_51 0 rfl rfl)
theorem dL_law_1257 : decode cL_law 1257 = .ok (.aload_n 1, 1) := dk_43 (dk_at dksL_law_51 3 rfl rfl)
theorem dL_law_1258 : decode cL_law 1258 = .ok (.invokevirtual 139, 3) := dk_182 0 139 (dk_at dksL_law_51 4 rfl rfl)
theorem dL_law_1261 : decode cL_law 1261 = .ok (.aload_n 2, 1) := dk_44 (dk_at dksL_law_51 7 rfl rfl)
theorem dL_law_1262 : decode cL_law 1262 = .ok (.invokevirtual 142, 3) := dk_182 0 142 (dk_at dksL_law_51 8 rfl rfl)
theorem dL_law_1265 : decode cL_law 1265 = .ok (.if_icmp .eq 89, 3) := dk_159 0 89 (dk_at dksL_law_51 11 rfl rfl)
theorem dL_law_1268 : decode cL_law 1268 = .ok (.iconst 0, 1) := dk_3 (dk_at dksL_law_51 14 rfl rfl)
theorem dL_law_1269 : decode cL_law 1269 = .ok (.ireturn, 1) := dk_172 (dk_at dksL_law_51 15 rfl rfl)
theorem dL_law_1270 : decode cL_law 1270 = .ok (.aload_n 1, 1) := dk_43 (dk_at dksL_law_51 16 rfl rfl)
theorem dL_law_1271 : decode cL_law 1271 = .ok (.invokevirtual 143, 3) := dk_182 0 143 (dk_at dksL_law_51 17 rfl rfl)
theorem dL_law_1274 : decode cL_law 1274 = .ok (.dstore 5, 2) := dk_57 5 (dk_at dksL_law_51 20 rfl rfl)
theorem dL_law_1276 : decode cL_law 1276 = .ok (.aload_n 2, 1) := dk_44 (dk_at dksL_law_51 22 rfl rfl)
theorem dL_law_1277 : decode cL_law 1277 = .ok (.invokevirtual 147, 3) := dk_182 0 147 (dk_at dksL_law_52 0 rfl rfl)
theorem dL_law_1280 : decode cL_law 1280 = .ok (.dstore 7, 2) := dk_57 7 (dk_at dksL_law_52 3 rfl rfl)
theorem dL_law_1282 : decode cL_law 1282 = .ok (.dload 5, 2) := dk_24 5 (dk_at dksL_law_52 5 rfl rfl)
theorem dL_law_1284 : decode cL_law 1284 = .ok (.dload 7, 2) := dk_24 7 (dk_at dksL_law_52 7 rfl rfl)
theorem dL_law_1286 : decode cL_law 1286 = .ok (.dcmp .l, 1) := dk_151 (dk_at dksL_law_52 9 rfl rfl)
theorem dL_law_1287 : decode cL_law 1287 = .ok (.ifCond .eq 21, 3) := dk_153 0 21 (dk_at dksL_law_52 10 rfl rfl)
theorem dL_law_1290 : decode cL_law 1290 = .ok (.dload 5, 2) := dk_24 5 (dk_at dksL_law_52 13 rfl rfl)
theorem dL_law_1292 : decode cL_law 1292 = .ok (.dload 5, 2) := dk_24 5 (dk_at dksL_law_52 15 rfl rfl)
theorem dL_law_1294 : decode cL_law 1294 = .ok (.dcmp .l, 1) := dk_151 (dk_at dksL_law_52 17 rfl rfl)
theorem dL_law_1295 : decode cL_law 1295 = .ok (.ifCond .eq 11, 3) := dk_153 0 11 (dk_at dksL_law_52 18 rfl rfl)
theorem dL_law_1298 : decode cL_law 1298 = .ok (.dload 7, 2) := dk_24 7 (dk_at dksL_law_52 21 rfl rfl)
theorem dL_law_1300 : decode cL_law 1300 = .ok (.dload 7, 2) := dk_24 7 (dk_at dksL_law_53 0 rfl rfl)
theorem dL_law_1302 : decode cL_law 1302 = .ok (.dcmp .l, 1) := dk_151 (dk_at dksL_law_53 2 rfl rfl)
theorem dL_law_1303 : decode cL_law 1303 = .ok (.ifCond .ne 5, 3) := dk_154 0 5 (dk_at dksL_law_53 3 rfl rfl)
theorem dL_law_1306 : decode cL_law 1306 = .ok (.iconst 0, 1) := dk_3 (dk_at dksL_law_53 6 rfl rfl)
theorem dL_law_1307 : decode cL_law 1307 = .ok (.ireturn, 1) := dk_172 (dk_at dksL_law_53 7 rfl rfl)
theorem dL_law_1308 : decode cL_law 1308 = .ok (.goto 46, 3) := dk_167 0 46 (dk_at dksL_law_53 8 rfl rfl)
theorem dL_law_1311 : decode cL_law 1311 = .ok (.aload_n 1, 1) := dk_43 (dk_at dksL_law_53 11 rfl rfl)
theorem dL_law_1312 : decode cL_law 1312 = .ok (.invokevirtual 148, 3) := dk_182 0 148 (dk_at dksL_law_53 12 rfl rfl)
theorem dL_law_1315 : decode cL_law 1315 = .ok (.f2d, 1) := dk_141 (dk_at dksL_law_53 15 rfl rfl)
theorem dL_law_1316 : decode cL_law 1316 = .ok (.dstore 5, 2) := dk_57 5 (dk_at dksL_law_53 16 rfl rfl)
theorem dL_law_1318 : decode cL_law 1318 = .ok (.aload_n 2, 1) := dk_44 (dk_at dksL_law_53 18 rfl rfl)
theorem dL_law_1319 : decode cL_law 1319 = .ok (.invokevirtual 152, 3) := dk_182 0 152 (dk_at dksL_law_53 19 rfl rfl)
theorem dL_law_1322 : decode cL_law 1322 = .ok (.f2d, 1) := dk_141 (dk_at dksL_law_53 22 rfl rfl)
theorem dL_law_1323 : decode cL_law 1323 = .ok (.dstore 7, 2) := dk_57 7 (dk_at dksL_law_54 0 rfl rfl)
theorem dL_law_1325 : decode cL_law 1325 = .ok (.dload 5, 2) := dk_24 5 (dk_at dksL_law_54 2 rfl rfl)
theorem dL_law_1327 : decode cL_law 1327 = .ok (.dload 7, 2) := dk_24 7 (dk_at dksL_law_54 4 rfl rfl)
theorem dL_law_1329 : decode cL_law 1329 = .ok (.dcmp .l, 1) := dk_151 (dk_at dksL_law_54 6 rfl rfl)
theorem dL_law_1330 : decode cL_law 1330 = .ok (.ifCond .eq 21, 3) := dk_153 0 21 (dk_at dksL_law_54 7 rfl rfl)
theorem dL_law_1333 : decode cL_law 1333 = .ok (.dload 5, 2) := dk_24 5 (dk_at dksL_law_54 10 rfl rfl)
theorem dL_law_1335 : decode cL_law 1335 = .ok (.dload 5, 2) := dk_24 5 (dk_at dksL_law_54 12 rfl rfl)
theorem dL_law_1337 : decode cL_law 1337 = .ok (.dcmp .l, 1) := dk_151 (dk_at dksL_law_54 14 rfl rfl)
theorem dL_law_1338 : decode cL_law 1338 = .ok (.ifCond .eq 11, 3) := dk_153 0 11 (dk_at dksL_law_54 15 rfl rfl)
theorem dL_law_1341 : decode cL_law 1341 = .ok (.dload 7, 2) := dk_24 7 (dk_at dksL_law_54 18 rfl rfl)
theorem dL_law_1343 : decode cL_law 1343 = .ok (.dload 7, 2) := dk_24 7 (dk_at dksL_law_54 20 rfl rfl)
theorem dL_law_1345 : decode cL_law 1345 = .ok (.dcmp .l, 1) := dk_151 (dk_at dksL_law_54 22 rfl rfl)
theorem dL_law_1346 : decode cL_law 1346 = .ok (.ifCond .ne 5, 3) := dk_154 0 5 (dk_at dksL_law_55 0 rfl rfl)
theorem dL_law_1349 : decode cL_law 1349 = .ok (.iconst 0, 1) := dk_3 (dk_at dksL_law_55 3 rfl rfl)
theorem dL_law_1350 : decode cL_law 1350 = .ok (.ireturn, 1) := dk_172 (dk_at dksL_law_55 4 rfl rfl)
theorem dL_law_1351 : decode cL_law 1351 = .ok (.goto 3, 3) := dk_167 0 3 (dk_at dksL_law_55 5 rfl rfl)
theorem dL_law_1354 : decode cL_law 1354 = .ok (.iinc 4 4, 3) := dk_132 4 4 (dk_at dksL_law_55 8 rfl rfl)
theorem dL_law_1357 : decode cL_law 1357 = .ok (.goto (-1334), 3) := dk_167 250 202 (dk_at dksL_law_55 11 rfl rfl)
theorem dL_law_1360 : decode cL_law 1360 = .ok (.iconst 1, 1) := dk_4 (dk_at dksL_law_55 14 rfl rfl)
theorem dL_law_1361 : decode cL_law 1361 = .ok (.ireturn, 1) := dk_172 (dk_at dksL_law_55 15 rfl rfl)
