/-! RoseGuildLaw -/
set_option maxRecDepth 100000
def RX0 : String := "RoseGuildLaw"
abbrev cX0_append : ByteArray := method_3_code
def yX0_append : MethodName := ⟨RX0, "append", "(LRoseGuild;IIIII[J)I"⟩
def dkwX0_append_1 : List UInt8 := [172]
abbrev dktX0_append_1 : List UInt8 := dkwX0_append_1 ++ []
def dkwX0_append_0 : List UInt8 := [25, 6, 3, 42, 27, 28, 29, 21, 4, 21, 5, 182, 0, 7, 133, 80, 167, 0, 7, 58, 7, 4, 172, 3]
abbrev dktX0_append_0 : List UInt8 := dkwX0_append_0 ++ dktX0_append_1
theorem dksX0_append_0 : cX0_append.data.toList.drop 0 = dktX0_append_0 := by decide +kernel
theorem dksX0_append_1 : cX0_append.data.toList.drop 24 = dktX0_append_1 := dk_seg dksX0_append_0 24 rfl rfl
theorem dX0_append_0 : decode cX0_append 0 = .ok (.aload 6, 2) := dk_25 6 (dk_at dksX0_append_0 0 rfl rfl)
theorem dX0_append_2 : decode cX0_append 2 = .ok (.iconst 0, 1) := dk_3 (dk_at dksX0_append_0 2 rfl rfl)
theorem dX0_append_3 : decode cX0_append 3 = .ok (.aload_n 0, 1) := dk_42 (dk_at dksX0_append_0 3 rfl rfl)
theorem dX0_append_4 : decode cX0_append 4 = .ok (.iload_n 1, 1) := dk_27 (dk_at dksX0_append_0 4 rfl rfl)
theorem dX0_append_5 : decode cX0_append 5 = .ok (.iload_n 2, 1) := dk_28 (dk_at dksX0_append_0 5 rfl rfl)
theorem dX0_append_6 : decode cX0_append 6 = .ok (.iload_n 3, 1) := dk_29 (dk_at dksX0_append_0 6 rfl rfl)
theorem dX0_append_7 : decode cX0_append 7 = .ok (.iload 4, 2) := dk_21 4 (dk_at dksX0_append_0 7 rfl rfl)
theorem dX0_append_9 : decode cX0_append 9 = .ok (.iload 5, 2) := dk_21 5 (dk_at dksX0_append_0 9 rfl rfl)
theorem dX0_append_11 : decode cX0_append 11 = .ok (.invokevirtual 7, 3) := dk_182 0 7 (dk_at dksX0_append_0 11 rfl rfl)
theorem dX0_append_14 : decode cX0_append 14 = .ok (.i2l, 1) := dk_133 (dk_at dksX0_append_0 14 rfl rfl)
theorem dX0_append_15 : decode cX0_append 15 = .ok (.lastore, 1) := dk_80 (dk_at dksX0_append_0 15 rfl rfl)
theorem dX0_append_16 : decode cX0_append 16 = .ok (.goto 7, 3) := dk_167 0 7 (dk_at dksX0_append_0 16 rfl rfl)
theorem dX0_append_19 : decode cX0_append 19 = .ok (.astore 7, 2) := dk_58 7 (dk_at dksX0_append_0 19 rfl rfl)
theorem dX0_append_21 : decode cX0_append 21 = .ok (.iconst 1, 1) := dk_4 (dk_at dksX0_append_0 21 rfl rfl)
theorem dX0_append_22 : decode cX0_append 22 = .ok (.ireturn, 1) := dk_172 (dk_at dksX0_append_0 22 rfl rfl)
theorem dX0_append_23 : decode cX0_append 23 = .ok (.iconst 0, 1) := dk_3 (dk_at dksX0_append_0 23 rfl rfl)
theorem dX0_append_24 : decode cX0_append 24 = .ok (.ireturn, 1) := dk_172 (dk_at dksX0_append_1 0 rfl rfl)
abbrev cX0_truncate : ByteArray := method_4_code
def yX0_truncate : MethodName := ⟨RX0, "truncate", "(LRoseGuild;I[J)I"⟩
def dkwX0_truncate_0 : List UInt8 := [44, 3, 42, 27, 182, 0, 15, 133, 80, 167, 0, 6, 78, 4, 172, 3, 172]
abbrev dktX0_truncate_0 : List UInt8 := dkwX0_truncate_0 ++ []
theorem dksX0_truncate_0 : cX0_truncate.data.toList.drop 0 = dktX0_truncate_0 := by decide +kernel
theorem dX0_truncate_0 : decode cX0_truncate 0 = .ok (.aload_n 2, 1) := dk_44 (dk_at dksX0_truncate_0 0 rfl rfl)
theorem dX0_truncate_1 : decode cX0_truncate 1 = .ok (.iconst 0, 1) := dk_3 (dk_at dksX0_truncate_0 1 rfl rfl)
theorem dX0_truncate_2 : decode cX0_truncate 2 = .ok (.aload_n 0, 1) := dk_42 (dk_at dksX0_truncate_0 2 rfl rfl)
theorem dX0_truncate_3 : decode cX0_truncate 3 = .ok (.iload_n 1, 1) := dk_27 (dk_at dksX0_truncate_0 3 rfl rfl)
theorem dX0_truncate_4 : decode cX0_truncate 4 = .ok (.invokevirtual 15, 3) := dk_182 0 15 (dk_at dksX0_truncate_0 4 rfl rfl)
theorem dX0_truncate_7 : decode cX0_truncate 7 = .ok (.i2l, 1) := dk_133 (dk_at dksX0_truncate_0 7 rfl rfl)
theorem dX0_truncate_8 : decode cX0_truncate 8 = .ok (.lastore, 1) := dk_80 (dk_at dksX0_truncate_0 8 rfl rfl)
theorem dX0_truncate_9 : decode cX0_truncate 9 = .ok (.goto 6, 3) := dk_167 0 6 (dk_at dksX0_truncate_0 9 rfl rfl)
theorem dX0_truncate_12 : decode cX0_truncate 12 = .ok (.astore_n 3, 1) := dk_78 (dk_at dksX0_truncate_0 12 rfl rfl)
theorem dX0_truncate_13 : decode cX0_truncate 13 = .ok (.iconst 1, 1) := dk_4 (dk_at dksX0_truncate_0 13 rfl rfl)
theorem dX0_truncate_14 : decode cX0_truncate 14 = .ok (.ireturn, 1) := dk_172 (dk_at dksX0_truncate_0 14 rfl rfl)
theorem dX0_truncate_15 : decode cX0_truncate 15 = .ok (.iconst 0, 1) := dk_3 (dk_at dksX0_truncate_0 15 rfl rfl)
theorem dX0_truncate_16 : decode cX0_truncate 16 = .ok (.ireturn, 1) := dk_172 (dk_at dksX0_truncate_0 16 rfl rfl)
abbrev cX0_bins : ByteArray := method_5_code
def yX0_bins : MethodName := ⟨RX0, "bins", "(LRoseGuild;I[J)I"⟩
def dkwX0_bins_0 : List UInt8 := [44, 3, 42, 27, 182, 0, 21, 133, 80, 167, 0, 6, 78, 4, 172, 3, 172]
abbrev dktX0_bins_0 : List UInt8 := dkwX0_bins_0 ++ []
theorem dksX0_bins_0 : cX0_bins.data.toList.drop 0 = dktX0_bins_0 := by decide +kernel
theorem dX0_bins_0 : decode cX0_bins 0 = .ok (.aload_n 2, 1) := dk_44 (dk_at dksX0_bins_0 0 rfl rfl)
theorem dX0_bins_1 : decode cX0_bins 1 = .ok (.iconst 0, 1) := dk_3 (dk_at dksX0_bins_0 1 rfl rfl)
theorem dX0_bins_2 : decode cX0_bins 2 = .ok (.aload_n 0, 1) := dk_42 (dk_at dksX0_bins_0 2 rfl rfl)
theorem dX0_bins_3 : decode cX0_bins 3 = .ok (.iload_n 1, 1) := dk_27 (dk_at dksX0_bins_0 3 rfl rfl)
theorem dX0_bins_4 : decode cX0_bins 4 = .ok (.invokevirtual 21, 3) := dk_182 0 21 (dk_at dksX0_bins_0 4 rfl rfl)
theorem dX0_bins_7 : decode cX0_bins 7 = .ok (.i2l, 1) := dk_133 (dk_at dksX0_bins_0 7 rfl rfl)
theorem dX0_bins_8 : decode cX0_bins 8 = .ok (.lastore, 1) := dk_80 (dk_at dksX0_bins_0 8 rfl rfl)
theorem dX0_bins_9 : decode cX0_bins 9 = .ok (.goto 6, 3) := dk_167 0 6 (dk_at dksX0_bins_0 9 rfl rfl)
theorem dX0_bins_12 : decode cX0_bins 12 = .ok (.astore_n 3, 1) := dk_78 (dk_at dksX0_bins_0 12 rfl rfl)
theorem dX0_bins_13 : decode cX0_bins 13 = .ok (.iconst 1, 1) := dk_4 (dk_at dksX0_bins_0 13 rfl rfl)
theorem dX0_bins_14 : decode cX0_bins 14 = .ok (.ireturn, 1) := dk_172 (dk_at dksX0_bins_0 14 rfl rfl)
theorem dX0_bins_15 : decode cX0_bins 15 = .ok (.iconst 0, 1) := dk_3 (dk_at dksX0_bins_0 15 rfl rfl)
theorem dX0_bins_16 : decode cX0_bins 16 = .ok (.ireturn, 1) := dk_172 (dk_at dksX0_bins_0 16 rfl rfl)
abbrev cX0_spilled : ByteArray := method_6_code
def yX0_spilled : MethodName := ⟨RX0, "spilled", "(LRoseGuild;I[J)I"⟩
def dkwX0_spilled_0 : List UInt8 := [44, 3, 42, 27, 182, 0, 26, 133, 80, 167, 0, 6, 78, 4, 172, 3, 172]
abbrev dktX0_spilled_0 : List UInt8 := dkwX0_spilled_0 ++ []
theorem dksX0_spilled_0 : cX0_spilled.data.toList.drop 0 = dktX0_spilled_0 := by decide +kernel
theorem dX0_spilled_0 : decode cX0_spilled 0 = .ok (.aload_n 2, 1) := dk_44 (dk_at dksX0_spilled_0 0 rfl rfl)
theorem dX0_spilled_1 : decode cX0_spilled 1 = .ok (.iconst 0, 1) := dk_3 (dk_at dksX0_spilled_0 1 rfl rfl)
theorem dX0_spilled_2 : decode cX0_spilled 2 = .ok (.aload_n 0, 1) := dk_42 (dk_at dksX0_spilled_0 2 rfl rfl)
theorem dX0_spilled_3 : decode cX0_spilled 3 = .ok (.iload_n 1, 1) := dk_27 (dk_at dksX0_spilled_0 3 rfl rfl)
theorem dX0_spilled_4 : decode cX0_spilled 4 = .ok (.invokevirtual 26, 3) := dk_182 0 26 (dk_at dksX0_spilled_0 4 rfl rfl)
theorem dX0_spilled_7 : decode cX0_spilled 7 = .ok (.i2l, 1) := dk_133 (dk_at dksX0_spilled_0 7 rfl rfl)
theorem dX0_spilled_8 : decode cX0_spilled 8 = .ok (.lastore, 1) := dk_80 (dk_at dksX0_spilled_0 8 rfl rfl)
theorem dX0_spilled_9 : decode cX0_spilled 9 = .ok (.goto 6, 3) := dk_167 0 6 (dk_at dksX0_spilled_0 9 rfl rfl)
theorem dX0_spilled_12 : decode cX0_spilled 12 = .ok (.astore_n 3, 1) := dk_78 (dk_at dksX0_spilled_0 12 rfl rfl)
theorem dX0_spilled_13 : decode cX0_spilled 13 = .ok (.iconst 1, 1) := dk_4 (dk_at dksX0_spilled_0 13 rfl rfl)
theorem dX0_spilled_14 : decode cX0_spilled 14 = .ok (.ireturn, 1) := dk_172 (dk_at dksX0_spilled_0 14 rfl rfl)
theorem dX0_spilled_15 : decode cX0_spilled 15 = .ok (.iconst 0, 1) := dk_3 (dk_at dksX0_spilled_0 15 rfl rfl)
theorem dX0_spilled_16 : decode cX0_spilled 16 = .ok (.ireturn, 1) := dk_172 (dk_at dksX0_spilled_0 16 rfl rfl)
abbrev cX0_complaints : ByteArray := method_7_code
def yX0_complaints : MethodName := ⟨RX0, "complaints", "(LRoseGuild;I[J)I"⟩
def dkwX0_complaints_0 : List UInt8 := [44, 3, 42, 27, 182, 0, 29, 133, 80, 167, 0, 6, 78, 4, 172, 3, 172]
abbrev dktX0_complaints_0 : List UInt8 := dkwX0_complaints_0 ++ []
theorem dksX0_complaints_0 : cX0_complaints.data.toList.drop 0 = dktX0_complaints_0 := by decide +kernel
theorem dX0_complaints_0 : decode cX0_complaints 0 = .ok (.aload_n 2, 1) := dk_44 (dk_at dksX0_complaints_0 0 rfl rfl)
theorem dX0_complaints_1 : decode cX0_complaints 1 = .ok (.iconst 0, 1) := dk_3 (dk_at dksX0_complaints_0 1 rfl rfl)
theorem dX0_complaints_2 : decode cX0_complaints 2 = .ok (.aload_n 0, 1) := dk_42 (dk_at dksX0_complaints_0 2 rfl rfl)
theorem dX0_complaints_3 : decode cX0_complaints 3 = .ok (.iload_n 1, 1) := dk_27 (dk_at dksX0_complaints_0 3 rfl rfl)
theorem dX0_complaints_4 : decode cX0_complaints 4 = .ok (.invokevirtual 29, 3) := dk_182 0 29 (dk_at dksX0_complaints_0 4 rfl rfl)
theorem dX0_complaints_7 : decode cX0_complaints 7 = .ok (.i2l, 1) := dk_133 (dk_at dksX0_complaints_0 7 rfl rfl)
theorem dX0_complaints_8 : decode cX0_complaints 8 = .ok (.lastore, 1) := dk_80 (dk_at dksX0_complaints_0 8 rfl rfl)
theorem dX0_complaints_9 : decode cX0_complaints 9 = .ok (.goto 6, 3) := dk_167 0 6 (dk_at dksX0_complaints_0 9 rfl rfl)
theorem dX0_complaints_12 : decode cX0_complaints 12 = .ok (.astore_n 3, 1) := dk_78 (dk_at dksX0_complaints_0 12 rfl rfl)
theorem dX0_complaints_13 : decode cX0_complaints 13 = .ok (.iconst 1, 1) := dk_4 (dk_at dksX0_complaints_0 13 rfl rfl)
theorem dX0_complaints_14 : decode cX0_complaints 14 = .ok (.ireturn, 1) := dk_172 (dk_at dksX0_complaints_0 14 rfl rfl)
theorem dX0_complaints_15 : decode cX0_complaints 15 = .ok (.iconst 0, 1) := dk_3 (dk_at dksX0_complaints_0 15 rfl rfl)
theorem dX0_complaints_16 : decode cX0_complaints 16 = .ok (.ireturn, 1) := dk_172 (dk_at dksX0_complaints_0 16 rfl rfl)
abbrev cX0_wasServed : ByteArray := method_8_code
def yX0_wasServed : MethodName := ⟨RX0, "wasServed", "(LRoseGuild;I[J)I"⟩
def dkwX0_wasServed_0 : List UInt8 := [44, 3, 42, 27, 182, 0, 32, 153, 0, 7, 10, 167, 0, 4, 9, 80, 167, 0, 6, 78, 4, 172, 3, 172]
abbrev dktX0_wasServed_0 : List UInt8 := dkwX0_wasServed_0 ++ []
theorem dksX0_wasServed_0 : cX0_wasServed.data.toList.drop 0 = dktX0_wasServed_0 := by decide +kernel
theorem dX0_wasServed_0 : decode cX0_wasServed 0 = .ok (.aload_n 2, 1) := dk_44 (dk_at dksX0_wasServed_0 0 rfl rfl)
theorem dX0_wasServed_1 : decode cX0_wasServed 1 = .ok (.iconst 0, 1) := dk_3 (dk_at dksX0_wasServed_0 1 rfl rfl)
theorem dX0_wasServed_2 : decode cX0_wasServed 2 = .ok (.aload_n 0, 1) := dk_42 (dk_at dksX0_wasServed_0 2 rfl rfl)
theorem dX0_wasServed_3 : decode cX0_wasServed 3 = .ok (.iload_n 1, 1) := dk_27 (dk_at dksX0_wasServed_0 3 rfl rfl)
theorem dX0_wasServed_4 : decode cX0_wasServed 4 = .ok (.invokevirtual 32, 3) := dk_182 0 32 (dk_at dksX0_wasServed_0 4 rfl rfl)
theorem dX0_wasServed_7 : decode cX0_wasServed 7 = .ok (.ifCond .eq 7, 3) := dk_153 0 7 (dk_at dksX0_wasServed_0 7 rfl rfl)
theorem dX0_wasServed_10 : decode cX0_wasServed 10 = .ok (.lconst 1, 1) := dk_10 (dk_at dksX0_wasServed_0 10 rfl rfl)
theorem dX0_wasServed_11 : decode cX0_wasServed 11 = .ok (.goto 4, 3) := dk_167 0 4 (dk_at dksX0_wasServed_0 11 rfl rfl)
theorem dX0_wasServed_14 : decode cX0_wasServed 14 = .ok (.lconst 0, 1) := dk_9 (dk_at dksX0_wasServed_0 14 rfl rfl)
theorem dX0_wasServed_15 : decode cX0_wasServed 15 = .ok (.lastore, 1) := dk_80 (dk_at dksX0_wasServed_0 15 rfl rfl)
theorem dX0_wasServed_16 : decode cX0_wasServed 16 = .ok (.goto 6, 3) := dk_167 0 6 (dk_at dksX0_wasServed_0 16 rfl rfl)
theorem dX0_wasServed_19 : decode cX0_wasServed 19 = .ok (.astore_n 3, 1) := dk_78 (dk_at dksX0_wasServed_0 19 rfl rfl)
theorem dX0_wasServed_20 : decode cX0_wasServed 20 = .ok (.iconst 1, 1) := dk_4 (dk_at dksX0_wasServed_0 20 rfl rfl)
theorem dX0_wasServed_21 : decode cX0_wasServed 21 = .ok (.ireturn, 1) := dk_172 (dk_at dksX0_wasServed_0 21 rfl rfl)
theorem dX0_wasServed_22 : decode cX0_wasServed 22 = .ok (.iconst 0, 1) := dk_3 (dk_at dksX0_wasServed_0 22 rfl rfl)
theorem dX0_wasServed_23 : decode cX0_wasServed 23 = .ok (.ireturn, 1) := dk_172 (dk_at dksX0_wasServed_0 23 rfl rfl)
abbrev cX0_stock : ByteArray := method_9_code
def yX0_stock : MethodName := ⟨RX0, "stock", "(LRoseGuild;I[J)I"⟩
def dkwX0_stock_0 : List UInt8 := [44, 3, 42, 27, 182, 0, 36, 133, 80, 167, 0, 6, 78, 4, 172, 3, 172]
abbrev dktX0_stock_0 : List UInt8 := dkwX0_stock_0 ++ []
theorem dksX0_stock_0 : cX0_stock.data.toList.drop 0 = dktX0_stock_0 := by decide +kernel
theorem dX0_stock_0 : decode cX0_stock 0 = .ok (.aload_n 2, 1) := dk_44 (dk_at dksX0_stock_0 0 rfl rfl)
theorem dX0_stock_1 : decode cX0_stock 1 = .ok (.iconst 0, 1) := dk_3 (dk_at dksX0_stock_0 1 rfl rfl)
theorem dX0_stock_2 : decode cX0_stock 2 = .ok (.aload_n 0, 1) := dk_42 (dk_at dksX0_stock_0 2 rfl rfl)
theorem dX0_stock_3 : decode cX0_stock 3 = .ok (.iload_n 1, 1) := dk_27 (dk_at dksX0_stock_0 3 rfl rfl)
theorem dX0_stock_4 : decode cX0_stock 4 = .ok (.invokevirtual 36, 3) := dk_182 0 36 (dk_at dksX0_stock_0 4 rfl rfl)
theorem dX0_stock_7 : decode cX0_stock 7 = .ok (.i2l, 1) := dk_133 (dk_at dksX0_stock_0 7 rfl rfl)
theorem dX0_stock_8 : decode cX0_stock 8 = .ok (.lastore, 1) := dk_80 (dk_at dksX0_stock_0 8 rfl rfl)
theorem dX0_stock_9 : decode cX0_stock 9 = .ok (.goto 6, 3) := dk_167 0 6 (dk_at dksX0_stock_0 9 rfl rfl)
theorem dX0_stock_12 : decode cX0_stock 12 = .ok (.astore_n 3, 1) := dk_78 (dk_at dksX0_stock_0 12 rfl rfl)
theorem dX0_stock_13 : decode cX0_stock 13 = .ok (.iconst 1, 1) := dk_4 (dk_at dksX0_stock_0 13 rfl rfl)
theorem dX0_stock_14 : decode cX0_stock 14 = .ok (.ireturn, 1) := dk_172 (dk_at dksX0_stock_0 14 rfl rfl)
theorem dX0_stock_15 : decode cX0_stock 15 = .ok (.iconst 0, 1) := dk_3 (dk_at dksX0_stock_0 15 rfl rfl)
theorem dX0_stock_16 : decode cX0_stock 16 = .ok (.ireturn, 1) := dk_172 (dk_at dksX0_stock_0 16 rfl rfl)
abbrev cX0_petals : ByteArray := method_10_code
def yX0_petals : MethodName := ⟨RX0, "petals", "(LRoseGuild;I[J)I"⟩
def dkwX0_petals_0 : List UInt8 := [44, 3, 42, 27, 182, 0, 39, 133, 80, 167, 0, 6, 78, 4, 172, 3, 172]
abbrev dktX0_petals_0 : List UInt8 := dkwX0_petals_0 ++ []
theorem dksX0_petals_0 : cX0_petals.data.toList.drop 0 = dktX0_petals_0 := by decide +kernel
theorem dX0_petals_0 : decode cX0_petals 0 = .ok (.aload_n 2, 1) := dk_44 (dk_at dksX0_petals_0 0 rfl rfl)
theorem dX0_petals_1 : decode cX0_petals 1 = .ok (.iconst 0, 1) := dk_3 (dk_at dksX0_petals_0 1 rfl rfl)
theorem dX0_petals_2 : decode cX0_petals 2 = .ok (.aload_n 0, 1) := dk_42 (dk_at dksX0_petals_0 2 rfl rfl)
theorem dX0_petals_3 : decode cX0_petals 3 = .ok (.iload_n 1, 1) := dk_27 (dk_at dksX0_petals_0 3 rfl rfl)
theorem dX0_petals_4 : decode cX0_petals 4 = .ok (.invokevirtual 39, 3) := dk_182 0 39 (dk_at dksX0_petals_0 4 rfl rfl)
theorem dX0_petals_7 : decode cX0_petals 7 = .ok (.i2l, 1) := dk_133 (dk_at dksX0_petals_0 7 rfl rfl)
theorem dX0_petals_8 : decode cX0_petals 8 = .ok (.lastore, 1) := dk_80 (dk_at dksX0_petals_0 8 rfl rfl)
theorem dX0_petals_9 : decode cX0_petals 9 = .ok (.goto 6, 3) := dk_167 0 6 (dk_at dksX0_petals_0 9 rfl rfl)
theorem dX0_petals_12 : decode cX0_petals 12 = .ok (.astore_n 3, 1) := dk_78 (dk_at dksX0_petals_0 12 rfl rfl)
theorem dX0_petals_13 : decode cX0_petals 13 = .ok (.iconst 1, 1) := dk_4 (dk_at dksX0_petals_0 13 rfl rfl)
theorem dX0_petals_14 : decode cX0_petals 14 = .ok (.ireturn, 1) := dk_172 (dk_at dksX0_petals_0 14 rfl rfl)
theorem dX0_petals_15 : decode cX0_petals 15 = .ok (.iconst 0, 1) := dk_3 (dk_at dksX0_petals_0 15 rfl rfl)
theorem dX0_petals_16 : decode cX0_petals 16 = .ok (.ireturn, 1) := dk_172 (dk_at dksX0_petals_0 16 rfl rfl)
abbrev cX0_rotted : ByteArray := method_11_code
def yX0_rotted : MethodName := ⟨RX0, "rotted", "(LRoseGuild;I[J)I"⟩
def dkwX0_rotted_0 : List UInt8 := [44, 3, 42, 27, 182, 0, 42, 133, 80, 167, 0, 6, 78, 4, 172, 3, 172]
abbrev dktX0_rotted_0 : List UInt8 := dkwX0_rotted_0 ++ []
theorem dksX0_rotted_0 : cX0_rotted.data.toList.drop 0 = dktX0_rotted_0 := by decide +kernel
theorem dX0_rotted_0 : decode cX0_rotted 0 = .ok (.aload_n 2, 1) := dk_44 (dk_at dksX0_rotted_0 0 rfl rfl)
theorem dX0_rotted_1 : decode cX0_rotted 1 = .ok (.iconst 0, 1) := dk_3 (dk_at dksX0_rotted_0 1 rfl rfl)
theorem dX0_rotted_2 : decode cX0_rotted 2 = .ok (.aload_n 0, 1) := dk_42 (dk_at dksX0_rotted_0 2 rfl rfl)
theorem dX0_rotted_3 : decode cX0_rotted 3 = .ok (.iload_n 1, 1) := dk_27 (dk_at dksX0_rotted_0 3 rfl rfl)
theorem dX0_rotted_4 : decode cX0_rotted 4 = .ok (.invokevirtual 42, 3) := dk_182 0 42 (dk_at dksX0_rotted_0 4 rfl rfl)
theorem dX0_rotted_7 : decode cX0_rotted 7 = .ok (.i2l, 1) := dk_133 (dk_at dksX0_rotted_0 7 rfl rfl)
theorem dX0_rotted_8 : decode cX0_rotted 8 = .ok (.lastore, 1) := dk_80 (dk_at dksX0_rotted_0 8 rfl rfl)
theorem dX0_rotted_9 : decode cX0_rotted 9 = .ok (.goto 6, 3) := dk_167 0 6 (dk_at dksX0_rotted_0 9 rfl rfl)
theorem dX0_rotted_12 : decode cX0_rotted 12 = .ok (.astore_n 3, 1) := dk_78 (dk_at dksX0_rotted_0 12 rfl rfl)
theorem dX0_rotted_13 : decode cX0_rotted 13 = .ok (.iconst 1, 1) := dk_4 (dk_at dksX0_rotted_0 13 rfl rfl)
theorem dX0_rotted_14 : decode cX0_rotted 14 = .ok (.ireturn, 1) := dk_172 (dk_at dksX0_rotted_0 14 rfl rfl)
theorem dX0_rotted_15 : decode cX0_rotted 15 = .ok (.iconst 0, 1) := dk_3 (dk_at dksX0_rotted_0 15 rfl rfl)
theorem dX0_rotted_16 : decode cX0_rotted 16 = .ok (.ireturn, 1) := dk_172 (dk_at dksX0_rotted_0 16 rfl rfl)
abbrev cX0_prizes : ByteArray := method_12_code
def yX0_prizes : MethodName := ⟨RX0, "prizes", "(LRoseGuild;I[J)I"⟩
def dkwX0_prizes_0 : List UInt8 := [44, 3, 42, 27, 182, 0, 45, 133, 80, 167, 0, 6, 78, 4, 172, 3, 172]
abbrev dktX0_prizes_0 : List UInt8 := dkwX0_prizes_0 ++ []
theorem dksX0_prizes_0 : cX0_prizes.data.toList.drop 0 = dktX0_prizes_0 := by decide +kernel
theorem dX0_prizes_0 : decode cX0_prizes 0 = .ok (.aload_n 2, 1) := dk_44 (dk_at dksX0_prizes_0 0 rfl rfl)
theorem dX0_prizes_1 : decode cX0_prizes 1 = .ok (.iconst 0, 1) := dk_3 (dk_at dksX0_prizes_0 1 rfl rfl)
theorem dX0_prizes_2 : decode cX0_prizes 2 = .ok (.aload_n 0, 1) := dk_42 (dk_at dksX0_prizes_0 2 rfl rfl)
theorem dX0_prizes_3 : decode cX0_prizes 3 = .ok (.iload_n 1, 1) := dk_27 (dk_at dksX0_prizes_0 3 rfl rfl)
theorem dX0_prizes_4 : decode cX0_prizes 4 = .ok (.invokevirtual 45, 3) := dk_182 0 45 (dk_at dksX0_prizes_0 4 rfl rfl)
theorem dX0_prizes_7 : decode cX0_prizes 7 = .ok (.i2l, 1) := dk_133 (dk_at dksX0_prizes_0 7 rfl rfl)
theorem dX0_prizes_8 : decode cX0_prizes 8 = .ok (.lastore, 1) := dk_80 (dk_at dksX0_prizes_0 8 rfl rfl)
theorem dX0_prizes_9 : decode cX0_prizes 9 = .ok (.goto 6, 3) := dk_167 0 6 (dk_at dksX0_prizes_0 9 rfl rfl)
theorem dX0_prizes_12 : decode cX0_prizes 12 = .ok (.astore_n 3, 1) := dk_78 (dk_at dksX0_prizes_0 12 rfl rfl)
theorem dX0_prizes_13 : decode cX0_prizes 13 = .ok (.iconst 1, 1) := dk_4 (dk_at dksX0_prizes_0 13 rfl rfl)
theorem dX0_prizes_14 : decode cX0_prizes 14 = .ok (.ireturn, 1) := dk_172 (dk_at dksX0_prizes_0 14 rfl rfl)
theorem dX0_prizes_15 : decode cX0_prizes 15 = .ok (.iconst 0, 1) := dk_3 (dk_at dksX0_prizes_0 15 rfl rfl)
theorem dX0_prizes_16 : decode cX0_prizes 16 = .ok (.ireturn, 1) := dk_172 (dk_at dksX0_prizes_0 16 rfl rfl)
abbrev cX0_contractStreet : ByteArray := method_13_code
def yX0_contractStreet : MethodName := ⟨RX0, "contractStreet", "(LRoseGuild;I[J)I"⟩
def dkwX0_contractStreet_0 : List UInt8 := [44, 3, 42, 27, 182, 0, 48, 133, 80, 167, 0, 6, 78, 4, 172, 3, 172]
abbrev dktX0_contractStreet_0 : List UInt8 := dkwX0_contractStreet_0 ++ []
theorem dksX0_contractStreet_0 : cX0_contractStreet.data.toList.drop 0 = dktX0_contractStreet_0 := by decide +kernel
theorem dX0_contractStreet_0 : decode cX0_contractStreet 0 = .ok (.aload_n 2, 1) := dk_44 (dk_at dksX0_contractStreet_0 0 rfl rfl)
theorem dX0_contractStreet_1 : decode cX0_contractStreet 1 = .ok (.iconst 0, 1) := dk_3 (dk_at dksX0_contractStreet_0 1 rfl rfl)
theorem dX0_contractStreet_2 : decode cX0_contractStreet 2 = .ok (.aload_n 0, 1) := dk_42 (dk_at dksX0_contractStreet_0 2 rfl rfl)
theorem dX0_contractStreet_3 : decode cX0_contractStreet 3 = .ok (.iload_n 1, 1) := dk_27 (dk_at dksX0_contractStreet_0 3 rfl rfl)
theorem dX0_contractStreet_4 : decode cX0_contractStreet 4 = .ok (.invokevirtual 48, 3) := dk_182 0 48 (dk_at dksX0_contractStreet_0 4 rfl rfl)
theorem dX0_contractStreet_7 : decode cX0_contractStreet 7 = .ok (.i2l, 1) := dk_133 (dk_at dksX0_contractStreet_0 7 rfl rfl)
theorem dX0_contractStreet_8 : decode cX0_contractStreet 8 = .ok (.lastore, 1) := dk_80 (dk_at dksX0_contractStreet_0 8 rfl rfl)
theorem dX0_contractStreet_9 : decode cX0_contractStreet 9 = .ok (.goto 6, 3) := dk_167 0 6 (dk_at dksX0_contractStreet_0 9 rfl rfl)
theorem dX0_contractStreet_12 : decode cX0_contractStreet 12 = .ok (.astore_n 3, 1) := dk_78 (dk_at dksX0_contractStreet_0 12 rfl rfl)
theorem dX0_contractStreet_13 : decode cX0_contractStreet 13 = .ok (.iconst 1, 1) := dk_4 (dk_at dksX0_contractStreet_0 13 rfl rfl)
theorem dX0_contractStreet_14 : decode cX0_contractStreet 14 = .ok (.ireturn, 1) := dk_172 (dk_at dksX0_contractStreet_0 14 rfl rfl)
theorem dX0_contractStreet_15 : decode cX0_contractStreet 15 = .ok (.iconst 0, 1) := dk_3 (dk_at dksX0_contractStreet_0 15 rfl rfl)
theorem dX0_contractStreet_16 : decode cX0_contractStreet 16 = .ok (.ireturn, 1) := dk_172 (dk_at dksX0_contractStreet_0 16 rfl rfl)
abbrev cX0_contractGarden : ByteArray := method_14_code
def yX0_contractGarden : MethodName := ⟨RX0, "contractGarden", "(LRoseGuild;I[J)I"⟩
def dkwX0_contractGarden_0 : List UInt8 := [44, 3, 42, 27, 182, 0, 51, 133, 80, 167, 0, 6, 78, 4, 172, 3, 172]
abbrev dktX0_contractGarden_0 : List UInt8 := dkwX0_contractGarden_0 ++ []
theorem dksX0_contractGarden_0 : cX0_contractGarden.data.toList.drop 0 = dktX0_contractGarden_0 := by decide +kernel
theorem dX0_contractGarden_0 : decode cX0_contractGarden 0 = .ok (.aload_n 2, 1) := dk_44 (dk_at dksX0_contractGarden_0 0 rfl rfl)
theorem dX0_contractGarden_1 : decode cX0_contractGarden 1 = .ok (.iconst 0, 1) := dk_3 (dk_at dksX0_contractGarden_0 1 rfl rfl)
theorem dX0_contractGarden_2 : decode cX0_contractGarden 2 = .ok (.aload_n 0, 1) := dk_42 (dk_at dksX0_contractGarden_0 2 rfl rfl)
theorem dX0_contractGarden_3 : decode cX0_contractGarden 3 = .ok (.iload_n 1, 1) := dk_27 (dk_at dksX0_contractGarden_0 3 rfl rfl)
theorem dX0_contractGarden_4 : decode cX0_contractGarden 4 = .ok (.invokevirtual 51, 3) := dk_182 0 51 (dk_at dksX0_contractGarden_0 4 rfl rfl)
theorem dX0_contractGarden_7 : decode cX0_contractGarden 7 = .ok (.i2l, 1) := dk_133 (dk_at dksX0_contractGarden_0 7 rfl rfl)
theorem dX0_contractGarden_8 : decode cX0_contractGarden 8 = .ok (.lastore, 1) := dk_80 (dk_at dksX0_contractGarden_0 8 rfl rfl)
theorem dX0_contractGarden_9 : decode cX0_contractGarden 9 = .ok (.goto 6, 3) := dk_167 0 6 (dk_at dksX0_contractGarden_0 9 rfl rfl)
theorem dX0_contractGarden_12 : decode cX0_contractGarden 12 = .ok (.astore_n 3, 1) := dk_78 (dk_at dksX0_contractGarden_0 12 rfl rfl)
theorem dX0_contractGarden_13 : decode cX0_contractGarden 13 = .ok (.iconst 1, 1) := dk_4 (dk_at dksX0_contractGarden_0 13 rfl rfl)
theorem dX0_contractGarden_14 : decode cX0_contractGarden 14 = .ok (.ireturn, 1) := dk_172 (dk_at dksX0_contractGarden_0 14 rfl rfl)
theorem dX0_contractGarden_15 : decode cX0_contractGarden 15 = .ok (.iconst 0, 1) := dk_3 (dk_at dksX0_contractGarden_0 15 rfl rfl)
theorem dX0_contractGarden_16 : decode cX0_contractGarden 16 = .ok (.ireturn, 1) := dk_172 (dk_at dksX0_contractGarden_0 16 rfl rfl)
abbrev cX0_nightsLeft : ByteArray := method_15_code
def yX0_nightsLeft : MethodName := ⟨RX0, "nightsLeft", "(LRoseGuild;I[J)I"⟩
def dkwX0_nightsLeft_0 : List UInt8 := [44, 3, 42, 27, 182, 0, 54, 133, 80, 167, 0, 6, 78, 4, 172, 3, 172]
abbrev dktX0_nightsLeft_0 : List UInt8 := dkwX0_nightsLeft_0 ++ []
theorem dksX0_nightsLeft_0 : cX0_nightsLeft.data.toList.drop 0 = dktX0_nightsLeft_0 := by decide +kernel
theorem dX0_nightsLeft_0 : decode cX0_nightsLeft 0 = .ok (.aload_n 2, 1) := dk_44 (dk_at dksX0_nightsLeft_0 0 rfl rfl)
theorem dX0_nightsLeft_1 : decode cX0_nightsLeft 1 = .ok (.iconst 0, 1) := dk_3 (dk_at dksX0_nightsLeft_0 1 rfl rfl)
theorem dX0_nightsLeft_2 : decode cX0_nightsLeft 2 = .ok (.aload_n 0, 1) := dk_42 (dk_at dksX0_nightsLeft_0 2 rfl rfl)
theorem dX0_nightsLeft_3 : decode cX0_nightsLeft 3 = .ok (.iload_n 1, 1) := dk_27 (dk_at dksX0_nightsLeft_0 3 rfl rfl)
theorem dX0_nightsLeft_4 : decode cX0_nightsLeft 4 = .ok (.invokevirtual 54, 3) := dk_182 0 54 (dk_at dksX0_nightsLeft_0 4 rfl rfl)
theorem dX0_nightsLeft_7 : decode cX0_nightsLeft 7 = .ok (.i2l, 1) := dk_133 (dk_at dksX0_nightsLeft_0 7 rfl rfl)
theorem dX0_nightsLeft_8 : decode cX0_nightsLeft 8 = .ok (.lastore, 1) := dk_80 (dk_at dksX0_nightsLeft_0 8 rfl rfl)
theorem dX0_nightsLeft_9 : decode cX0_nightsLeft 9 = .ok (.goto 6, 3) := dk_167 0 6 (dk_at dksX0_nightsLeft_0 9 rfl rfl)
theorem dX0_nightsLeft_12 : decode cX0_nightsLeft 12 = .ok (.astore_n 3, 1) := dk_78 (dk_at dksX0_nightsLeft_0 12 rfl rfl)
theorem dX0_nightsLeft_13 : decode cX0_nightsLeft 13 = .ok (.iconst 1, 1) := dk_4 (dk_at dksX0_nightsLeft_0 13 rfl rfl)
theorem dX0_nightsLeft_14 : decode cX0_nightsLeft 14 = .ok (.ireturn, 1) := dk_172 (dk_at dksX0_nightsLeft_0 14 rfl rfl)
theorem dX0_nightsLeft_15 : decode cX0_nightsLeft 15 = .ok (.iconst 0, 1) := dk_3 (dk_at dksX0_nightsLeft_0 15 rfl rfl)
theorem dX0_nightsLeft_16 : decode cX0_nightsLeft 16 = .ok (.ireturn, 1) := dk_172 (dk_at dksX0_nightsLeft_0 16 rfl rfl)
abbrev cX0_hoursNeeded : ByteArray := method_16_code
def yX0_hoursNeeded : MethodName := ⟨RX0, "hoursNeeded", "(LRoseGuild;III[J)I"⟩
def dkwX0_hoursNeeded_0 : List UInt8 := [25, 4, 3, 42, 27, 28, 29, 182, 0, 57, 133, 80, 167, 0, 7, 58, 5, 4, 172, 3, 172]
abbrev dktX0_hoursNeeded_0 : List UInt8 := dkwX0_hoursNeeded_0 ++ []
theorem dksX0_hoursNeeded_0 : cX0_hoursNeeded.data.toList.drop 0 = dktX0_hoursNeeded_0 := by decide +kernel
theorem dX0_hoursNeeded_0 : decode cX0_hoursNeeded 0 = .ok (.aload 4, 2) := dk_25 4 (dk_at dksX0_hoursNeeded_0 0 rfl rfl)
theorem dX0_hoursNeeded_2 : decode cX0_hoursNeeded 2 = .ok (.iconst 0, 1) := dk_3 (dk_at dksX0_hoursNeeded_0 2 rfl rfl)
theorem dX0_hoursNeeded_3 : decode cX0_hoursNeeded 3 = .ok (.aload_n 0, 1) := dk_42 (dk_at dksX0_hoursNeeded_0 3 rfl rfl)
theorem dX0_hoursNeeded_4 : decode cX0_hoursNeeded 4 = .ok (.iload_n 1, 1) := dk_27 (dk_at dksX0_hoursNeeded_0 4 rfl rfl)
theorem dX0_hoursNeeded_5 : decode cX0_hoursNeeded 5 = .ok (.iload_n 2, 1) := dk_28 (dk_at dksX0_hoursNeeded_0 5 rfl rfl)
theorem dX0_hoursNeeded_6 : decode cX0_hoursNeeded 6 = .ok (.iload_n 3, 1) := dk_29 (dk_at dksX0_hoursNeeded_0 6 rfl rfl)
theorem dX0_hoursNeeded_7 : decode cX0_hoursNeeded 7 = .ok (.invokevirtual 57, 3) := dk_182 0 57 (dk_at dksX0_hoursNeeded_0 7 rfl rfl)
theorem dX0_hoursNeeded_10 : decode cX0_hoursNeeded 10 = .ok (.i2l, 1) := dk_133 (dk_at dksX0_hoursNeeded_0 10 rfl rfl)
theorem dX0_hoursNeeded_11 : decode cX0_hoursNeeded 11 = .ok (.lastore, 1) := dk_80 (dk_at dksX0_hoursNeeded_0 11 rfl rfl)
theorem dX0_hoursNeeded_12 : decode cX0_hoursNeeded 12 = .ok (.goto 7, 3) := dk_167 0 7 (dk_at dksX0_hoursNeeded_0 12 rfl rfl)
theorem dX0_hoursNeeded_15 : decode cX0_hoursNeeded 15 = .ok (.astore 5, 2) := dk_58 5 (dk_at dksX0_hoursNeeded_0 15 rfl rfl)
theorem dX0_hoursNeeded_17 : decode cX0_hoursNeeded 17 = .ok (.iconst 1, 1) := dk_4 (dk_at dksX0_hoursNeeded_0 17 rfl rfl)
theorem dX0_hoursNeeded_18 : decode cX0_hoursNeeded 18 = .ok (.ireturn, 1) := dk_172 (dk_at dksX0_hoursNeeded_0 18 rfl rfl)
theorem dX0_hoursNeeded_19 : decode cX0_hoursNeeded 19 = .ok (.iconst 0, 1) := dk_3 (dk_at dksX0_hoursNeeded_0 19 rfl rfl)
theorem dX0_hoursNeeded_20 : decode cX0_hoursNeeded 20 = .ok (.ireturn, 1) := dk_172 (dk_at dksX0_hoursNeeded_0 20 rfl rfl)
abbrev cX0_nextLoad : ByteArray := method_17_code
def yX0_nextLoad : MethodName := ⟨RX0, "nextLoad", "(LRoseGuild;I[J)I"⟩
def dkwX0_nextLoad_0 : List UInt8 := [44, 3, 42, 27, 182, 0, 61, 133, 80, 167, 0, 6, 78, 4, 172, 3, 172]
abbrev dktX0_nextLoad_0 : List UInt8 := dkwX0_nextLoad_0 ++ []
theorem dksX0_nextLoad_0 : cX0_nextLoad.data.toList.drop 0 = dktX0_nextLoad_0 := by decide +kernel
theorem dX0_nextLoad_0 : decode cX0_nextLoad 0 = .ok (.aload_n 2, 1) := dk_44 (dk_at dksX0_nextLoad_0 0 rfl rfl)
theorem dX0_nextLoad_1 : decode cX0_nextLoad 1 = .ok (.iconst 0, 1) := dk_3 (dk_at dksX0_nextLoad_0 1 rfl rfl)
theorem dX0_nextLoad_2 : decode cX0_nextLoad 2 = .ok (.aload_n 0, 1) := dk_42 (dk_at dksX0_nextLoad_0 2 rfl rfl)
theorem dX0_nextLoad_3 : decode cX0_nextLoad 3 = .ok (.iload_n 1, 1) := dk_27 (dk_at dksX0_nextLoad_0 3 rfl rfl)
theorem dX0_nextLoad_4 : decode cX0_nextLoad 4 = .ok (.invokevirtual 61, 3) := dk_182 0 61 (dk_at dksX0_nextLoad_0 4 rfl rfl)
theorem dX0_nextLoad_7 : decode cX0_nextLoad 7 = .ok (.i2l, 1) := dk_133 (dk_at dksX0_nextLoad_0 7 rfl rfl)
theorem dX0_nextLoad_8 : decode cX0_nextLoad 8 = .ok (.lastore, 1) := dk_80 (dk_at dksX0_nextLoad_0 8 rfl rfl)
theorem dX0_nextLoad_9 : decode cX0_nextLoad 9 = .ok (.goto 6, 3) := dk_167 0 6 (dk_at dksX0_nextLoad_0 9 rfl rfl)
theorem dX0_nextLoad_12 : decode cX0_nextLoad 12 = .ok (.astore_n 3, 1) := dk_78 (dk_at dksX0_nextLoad_0 12 rfl rfl)
theorem dX0_nextLoad_13 : decode cX0_nextLoad 13 = .ok (.iconst 1, 1) := dk_4 (dk_at dksX0_nextLoad_0 13 rfl rfl)
theorem dX0_nextLoad_14 : decode cX0_nextLoad 14 = .ok (.ireturn, 1) := dk_172 (dk_at dksX0_nextLoad_0 14 rfl rfl)
theorem dX0_nextLoad_15 : decode cX0_nextLoad 15 = .ok (.iconst 0, 1) := dk_3 (dk_at dksX0_nextLoad_0 15 rfl rfl)
theorem dX0_nextLoad_16 : decode cX0_nextLoad 16 = .ok (.ireturn, 1) := dk_172 (dk_at dksX0_nextLoad_0 16 rfl rfl)
abbrev cX0_outlook : ByteArray := method_18_code
def yX0_outlook : MethodName := ⟨RX0, "outlook", "(LRoseGuild;I[J)I"⟩
def dkwX0_outlook_0 : List UInt8 := [44, 3, 42, 27, 182, 0, 64, 133, 80, 167, 0, 6, 78, 4, 172, 3, 172]
abbrev dktX0_outlook_0 : List UInt8 := dkwX0_outlook_0 ++ []
theorem dksX0_outlook_0 : cX0_outlook.data.toList.drop 0 = dktX0_outlook_0 := by decide +kernel
theorem dX0_outlook_0 : decode cX0_outlook 0 = .ok (.aload_n 2, 1) := dk_44 (dk_at dksX0_outlook_0 0 rfl rfl)
theorem dX0_outlook_1 : decode cX0_outlook 1 = .ok (.iconst 0, 1) := dk_3 (dk_at dksX0_outlook_0 1 rfl rfl)
theorem dX0_outlook_2 : decode cX0_outlook 2 = .ok (.aload_n 0, 1) := dk_42 (dk_at dksX0_outlook_0 2 rfl rfl)
theorem dX0_outlook_3 : decode cX0_outlook 3 = .ok (.iload_n 1, 1) := dk_27 (dk_at dksX0_outlook_0 3 rfl rfl)
theorem dX0_outlook_4 : decode cX0_outlook 4 = .ok (.invokevirtual 64, 3) := dk_182 0 64 (dk_at dksX0_outlook_0 4 rfl rfl)
theorem dX0_outlook_7 : decode cX0_outlook 7 = .ok (.i2l, 1) := dk_133 (dk_at dksX0_outlook_0 7 rfl rfl)
theorem dX0_outlook_8 : decode cX0_outlook 8 = .ok (.lastore, 1) := dk_80 (dk_at dksX0_outlook_0 8 rfl rfl)
theorem dX0_outlook_9 : decode cX0_outlook 9 = .ok (.goto 6, 3) := dk_167 0 6 (dk_at dksX0_outlook_0 9 rfl rfl)
theorem dX0_outlook_12 : decode cX0_outlook 12 = .ok (.astore_n 3, 1) := dk_78 (dk_at dksX0_outlook_0 12 rfl rfl)
theorem dX0_outlook_13 : decode cX0_outlook 13 = .ok (.iconst 1, 1) := dk_4 (dk_at dksX0_outlook_0 13 rfl rfl)
theorem dX0_outlook_14 : decode cX0_outlook 14 = .ok (.ireturn, 1) := dk_172 (dk_at dksX0_outlook_0 14 rfl rfl)
theorem dX0_outlook_15 : decode cX0_outlook 15 = .ok (.iconst 0, 1) := dk_3 (dk_at dksX0_outlook_0 15 rfl rfl)
theorem dX0_outlook_16 : decode cX0_outlook 16 = .ok (.ireturn, 1) := dk_172 (dk_at dksX0_outlook_0 16 rfl rfl)
abbrev cX0_quickestGarden : ByteArray := method_19_code
def yX0_quickestGarden : MethodName := ⟨RX0, "quickestGarden", "(LRoseGuild;II[J)I"⟩
def dkwX0_quickestGarden_0 : List UInt8 := [45, 3, 42, 27, 28, 182, 0, 67, 133, 80, 167, 0, 7, 58, 4, 4, 172, 3, 172]
abbrev dktX0_quickestGarden_0 : List UInt8 := dkwX0_quickestGarden_0 ++ []
theorem dksX0_quickestGarden_0 : cX0_quickestGarden.data.toList.drop 0 = dktX0_quickestGarden_0 := by decide +kernel
theorem dX0_quickestGarden_0 : decode cX0_quickestGarden 0 = .ok (.aload_n 3, 1) := dk_45 (dk_at dksX0_quickestGarden_0 0 rfl rfl)
theorem dX0_quickestGarden_1 : decode cX0_quickestGarden 1 = .ok (.iconst 0, 1) := dk_3 (dk_at dksX0_quickestGarden_0 1 rfl rfl)
theorem dX0_quickestGarden_2 : decode cX0_quickestGarden 2 = .ok (.aload_n 0, 1) := dk_42 (dk_at dksX0_quickestGarden_0 2 rfl rfl)
theorem dX0_quickestGarden_3 : decode cX0_quickestGarden 3 = .ok (.iload_n 1, 1) := dk_27 (dk_at dksX0_quickestGarden_0 3 rfl rfl)
theorem dX0_quickestGarden_4 : decode cX0_quickestGarden 4 = .ok (.iload_n 2, 1) := dk_28 (dk_at dksX0_quickestGarden_0 4 rfl rfl)
theorem dX0_quickestGarden_5 : decode cX0_quickestGarden 5 = .ok (.invokevirtual 67, 3) := dk_182 0 67 (dk_at dksX0_quickestGarden_0 5 rfl rfl)
theorem dX0_quickestGarden_8 : decode cX0_quickestGarden 8 = .ok (.i2l, 1) := dk_133 (dk_at dksX0_quickestGarden_0 8 rfl rfl)
theorem dX0_quickestGarden_9 : decode cX0_quickestGarden 9 = .ok (.lastore, 1) := dk_80 (dk_at dksX0_quickestGarden_0 9 rfl rfl)
theorem dX0_quickestGarden_10 : decode cX0_quickestGarden 10 = .ok (.goto 7, 3) := dk_167 0 7 (dk_at dksX0_quickestGarden_0 10 rfl rfl)
theorem dX0_quickestGarden_13 : decode cX0_quickestGarden 13 = .ok (.astore 4, 2) := dk_58 4 (dk_at dksX0_quickestGarden_0 13 rfl rfl)
theorem dX0_quickestGarden_15 : decode cX0_quickestGarden 15 = .ok (.iconst 1, 1) := dk_4 (dk_at dksX0_quickestGarden_0 15 rfl rfl)
theorem dX0_quickestGarden_16 : decode cX0_quickestGarden 16 = .ok (.ireturn, 1) := dk_172 (dk_at dksX0_quickestGarden_0 16 rfl rfl)
theorem dX0_quickestGarden_17 : decode cX0_quickestGarden 17 = .ok (.iconst 0, 1) := dk_3 (dk_at dksX0_quickestGarden_0 17 rfl rfl)
theorem dX0_quickestGarden_18 : decode cX0_quickestGarden 18 = .ok (.ireturn, 1) := dk_172 (dk_at dksX0_quickestGarden_0 18 rfl rfl)
abbrev cX0_smellReaches : ByteArray := method_20_code
def yX0_smellReaches : MethodName := ⟨RX0, "smellReaches", "(LRoseGuild;III[J)I"⟩
def dkwX0_smellReaches_1 : List UInt8 := [4, 172, 58, 5, 5, 172, 3, 172]
abbrev dktX0_smellReaches_1 : List UInt8 := dkwX0_smellReaches_1 ++ []
def dkwX0_smellReaches_0 : List UInt8 := [25, 4, 3, 42, 27, 28, 29, 182, 0, 71, 153, 0, 7, 10, 167, 0, 4, 9, 80, 167, 0, 11, 58, 5]
abbrev dktX0_smellReaches_0 : List UInt8 := dkwX0_smellReaches_0 ++ dktX0_smellReaches_1
theorem dksX0_smellReaches_0 : cX0_smellReaches.data.toList.drop 0 = dktX0_smellReaches_0 := by decide +kernel
theorem dksX0_smellReaches_1 : cX0_smellReaches.data.toList.drop 24 = dktX0_smellReaches_1 := dk_seg dksX0_smellReaches_0 24 rfl rfl
theorem dX0_smellReaches_0 : decode cX0_smellReaches 0 = .ok (.aload 4, 2) := dk_25 4 (dk_at dksX0_smellReaches_0 0 rfl rfl)
theorem dX0_smellReaches_2 : decode cX0_smellReaches 2 = .ok (.iconst 0, 1) := dk_3 (dk_at dksX0_smellReaches_0 2 rfl rfl)
theorem dX0_smellReaches_3 : decode cX0_smellReaches 3 = .ok (.aload_n 0, 1) := dk_42 (dk_at dksX0_smellReaches_0 3 rfl rfl)
theorem dX0_smellReaches_4 : decode cX0_smellReaches 4 = .ok (.iload_n 1, 1) := dk_27 (dk_at dksX0_smellReaches_0 4 rfl rfl)
theorem dX0_smellReaches_5 : decode cX0_smellReaches 5 = .ok (.iload_n 2, 1) := dk_28 (dk_at dksX0_smellReaches_0 5 rfl rfl)
theorem dX0_smellReaches_6 : decode cX0_smellReaches 6 = .ok (.iload_n 3, 1) := dk_29 (dk_at dksX0_smellReaches_0 6 rfl rfl)
theorem dX0_smellReaches_7 : decode cX0_smellReaches 7 = .ok (.invokevirtual 71, 3) := dk_182 0 71 (dk_at dksX0_smellReaches_0 7 rfl rfl)
theorem dX0_smellReaches_10 : decode cX0_smellReaches 10 = .ok (.ifCond .eq 7, 3) := dk_153 0 7 (dk_at dksX0_smellReaches_0 10 rfl rfl)
theorem dX0_smellReaches_13 : decode cX0_smellReaches 13 = .ok (.lconst 1, 1) := dk_10 (dk_at dksX0_smellReaches_0 13 rfl rfl)
theorem dX0_smellReaches_14 : decode cX0_smellReaches 14 = .ok (.goto 4, 3) := dk_167 0 4 (dk_at dksX0_smellReaches_0 14 rfl rfl)
theorem dX0_smellReaches_17 : decode cX0_smellReaches 17 = .ok (.lconst 0, 1) := dk_9 (dk_at dksX0_smellReaches_0 17 rfl rfl)
theorem dX0_smellReaches_18 : decode cX0_smellReaches 18 = .ok (.lastore, 1) := dk_80 (dk_at dksX0_smellReaches_0 18 rfl rfl)
theorem dX0_smellReaches_19 : decode cX0_smellReaches 19 = .ok (.goto 11, 3) := dk_167 0 11 (dk_at dksX0_smellReaches_0 19 rfl rfl)
theorem dX0_smellReaches_22 : decode cX0_smellReaches 22 = .ok (.astore 5, 2) := dk_58 5 (dk_at dksX0_smellReaches_0 22 rfl rfl)
theorem dX0_smellReaches_24 : decode cX0_smellReaches 24 = .ok (.iconst 1, 1) := dk_4 (dk_at dksX0_smellReaches_1 0 rfl rfl)
theorem dX0_smellReaches_25 : decode cX0_smellReaches 25 = .ok (.ireturn, 1) := dk_172 (dk_at dksX0_smellReaches_1 1 rfl rfl)
theorem dX0_smellReaches_26 : decode cX0_smellReaches 26 = .ok (.astore 5, 2) := dk_58 5 (dk_at dksX0_smellReaches_1 2 rfl rfl)
theorem dX0_smellReaches_28 : decode cX0_smellReaches 28 = .ok (.iconst 2, 1) := dk_5 (dk_at dksX0_smellReaches_1 4 rfl rfl)
theorem dX0_smellReaches_29 : decode cX0_smellReaches 29 = .ok (.ireturn, 1) := dk_172 (dk_at dksX0_smellReaches_1 5 rfl rfl)
theorem dX0_smellReaches_30 : decode cX0_smellReaches 30 = .ok (.iconst 0, 1) := dk_3 (dk_at dksX0_smellReaches_1 6 rfl rfl)
theorem dX0_smellReaches_31 : decode cX0_smellReaches 31 = .ok (.ireturn, 1) := dk_172 (dk_at dksX0_smellReaches_1 7 rfl rfl)
abbrev cX0_petalShare : ByteArray := method_21_code
def yX0_petalShare : MethodName := ⟨RX0, "petalShare", "(LRoseGuild;I[D)I"⟩
def dkwX0_petalShare_0 : List UInt8 := [44, 3, 42, 27, 182, 0, 75, 141, 82, 167, 0, 6, 78, 4, 172, 3, 172]
abbrev dktX0_petalShare_0 : List UInt8 := dkwX0_petalShare_0 ++ []
theorem dksX0_petalShare_0 : cX0_petalShare.data.toList.drop 0 = dktX0_petalShare_0 := by decide +kernel
theorem dX0_petalShare_0 : decode cX0_petalShare 0 = .ok (.aload_n 2, 1) := dk_44 (dk_at dksX0_petalShare_0 0 rfl rfl)
theorem dX0_petalShare_1 : decode cX0_petalShare 1 = .ok (.iconst 0, 1) := dk_3 (dk_at dksX0_petalShare_0 1 rfl rfl)
theorem dX0_petalShare_2 : decode cX0_petalShare 2 = .ok (.aload_n 0, 1) := dk_42 (dk_at dksX0_petalShare_0 2 rfl rfl)
theorem dX0_petalShare_3 : decode cX0_petalShare 3 = .ok (.iload_n 1, 1) := dk_27 (dk_at dksX0_petalShare_0 3 rfl rfl)
theorem dX0_petalShare_4 : decode cX0_petalShare 4 = .ok (.invokevirtual 75, 3) := dk_182 0 75 (dk_at dksX0_petalShare_0 4 rfl rfl)
theorem dX0_petalShare_7 : decode cX0_petalShare 7 = .ok (.f2d, 1) := dk_141 (dk_at dksX0_petalShare_0 7 rfl rfl)
theorem dX0_petalShare_8 : decode cX0_petalShare 8 = .ok (.dastore, 1) := dk_82 (dk_at dksX0_petalShare_0 8 rfl rfl)
theorem dX0_petalShare_9 : decode cX0_petalShare 9 = .ok (.goto 6, 3) := dk_167 0 6 (dk_at dksX0_petalShare_0 9 rfl rfl)
theorem dX0_petalShare_12 : decode cX0_petalShare 12 = .ok (.astore_n 3, 1) := dk_78 (dk_at dksX0_petalShare_0 12 rfl rfl)
theorem dX0_petalShare_13 : decode cX0_petalShare 13 = .ok (.iconst 1, 1) := dk_4 (dk_at dksX0_petalShare_0 13 rfl rfl)
theorem dX0_petalShare_14 : decode cX0_petalShare 14 = .ok (.ireturn, 1) := dk_172 (dk_at dksX0_petalShare_0 14 rfl rfl)
theorem dX0_petalShare_15 : decode cX0_petalShare 15 = .ok (.iconst 0, 1) := dk_3 (dk_at dksX0_petalShare_0 15 rfl rfl)
theorem dX0_petalShare_16 : decode cX0_petalShare 16 = .ok (.ireturn, 1) := dk_172 (dk_at dksX0_petalShare_0 16 rfl rfl)
abbrev cX0_binsAfter : ByteArray := method_22_code
def yX0_binsAfter : MethodName := ⟨RX0, "binsAfter", "(LRoseGuild;II[J)I"⟩
def dkwX0_binsAfter_0 : List UInt8 := [45, 3, 42, 27, 28, 182, 0, 79, 133, 80, 167, 0, 11, 58, 4, 4, 172, 58, 4, 5, 172, 3, 172]
abbrev dktX0_binsAfter_0 : List UInt8 := dkwX0_binsAfter_0 ++ []
theorem dksX0_binsAfter_0 : cX0_binsAfter.data.toList.drop 0 = dktX0_binsAfter_0 := by decide +kernel
theorem dX0_binsAfter_0 : decode cX0_binsAfter 0 = .ok (.aload_n 3, 1) := dk_45 (dk_at dksX0_binsAfter_0 0 rfl rfl)
theorem dX0_binsAfter_1 : decode cX0_binsAfter 1 = .ok (.iconst 0, 1) := dk_3 (dk_at dksX0_binsAfter_0 1 rfl rfl)
theorem dX0_binsAfter_2 : decode cX0_binsAfter 2 = .ok (.aload_n 0, 1) := dk_42 (dk_at dksX0_binsAfter_0 2 rfl rfl)
theorem dX0_binsAfter_3 : decode cX0_binsAfter 3 = .ok (.iload_n 1, 1) := dk_27 (dk_at dksX0_binsAfter_0 3 rfl rfl)
theorem dX0_binsAfter_4 : decode cX0_binsAfter 4 = .ok (.iload_n 2, 1) := dk_28 (dk_at dksX0_binsAfter_0 4 rfl rfl)
theorem dX0_binsAfter_5 : decode cX0_binsAfter 5 = .ok (.invokevirtual 79, 3) := dk_182 0 79 (dk_at dksX0_binsAfter_0 5 rfl rfl)
theorem dX0_binsAfter_8 : decode cX0_binsAfter 8 = .ok (.i2l, 1) := dk_133 (dk_at dksX0_binsAfter_0 8 rfl rfl)
theorem dX0_binsAfter_9 : decode cX0_binsAfter 9 = .ok (.lastore, 1) := dk_80 (dk_at dksX0_binsAfter_0 9 rfl rfl)
theorem dX0_binsAfter_10 : decode cX0_binsAfter 10 = .ok (.goto 11, 3) := dk_167 0 11 (dk_at dksX0_binsAfter_0 10 rfl rfl)
theorem dX0_binsAfter_13 : decode cX0_binsAfter 13 = .ok (.astore 4, 2) := dk_58 4 (dk_at dksX0_binsAfter_0 13 rfl rfl)
theorem dX0_binsAfter_15 : decode cX0_binsAfter 15 = .ok (.iconst 1, 1) := dk_4 (dk_at dksX0_binsAfter_0 15 rfl rfl)
theorem dX0_binsAfter_16 : decode cX0_binsAfter 16 = .ok (.ireturn, 1) := dk_172 (dk_at dksX0_binsAfter_0 16 rfl rfl)
theorem dX0_binsAfter_17 : decode cX0_binsAfter 17 = .ok (.astore 4, 2) := dk_58 4 (dk_at dksX0_binsAfter_0 17 rfl rfl)
theorem dX0_binsAfter_19 : decode cX0_binsAfter 19 = .ok (.iconst 2, 1) := dk_5 (dk_at dksX0_binsAfter_0 19 rfl rfl)
theorem dX0_binsAfter_20 : decode cX0_binsAfter 20 = .ok (.ireturn, 1) := dk_172 (dk_at dksX0_binsAfter_0 20 rfl rfl)
theorem dX0_binsAfter_21 : decode cX0_binsAfter 21 = .ok (.iconst 0, 1) := dk_3 (dk_at dksX0_binsAfter_0 21 rfl rfl)
theorem dX0_binsAfter_22 : decode cX0_binsAfter 22 = .ok (.ireturn, 1) := dk_172 (dk_at dksX0_binsAfter_0 22 rfl rfl)
abbrev cX0_nightsUntilSpill : ByteArray := method_23_code
def yX0_nightsUntilSpill : MethodName := ⟨RX0, "nightsUntilSpill", "(LRoseGuild;I[J)I"⟩
def dkwX0_nightsUntilSpill_0 : List UInt8 := [44, 3, 42, 27, 182, 0, 82, 133, 80, 167, 0, 6, 78, 4, 172, 3, 172]
abbrev dktX0_nightsUntilSpill_0 : List UInt8 := dkwX0_nightsUntilSpill_0 ++ []
theorem dksX0_nightsUntilSpill_0 : cX0_nightsUntilSpill.data.toList.drop 0 = dktX0_nightsUntilSpill_0 := by decide +kernel
theorem dX0_nightsUntilSpill_0 : decode cX0_nightsUntilSpill 0 = .ok (.aload_n 2, 1) := dk_44 (dk_at dksX0_nightsUntilSpill_0 0 rfl rfl)
theorem dX0_nightsUntilSpill_1 : decode cX0_nightsUntilSpill 1 = .ok (.iconst 0, 1) := dk_3 (dk_at dksX0_nightsUntilSpill_0 1 rfl rfl)
theorem dX0_nightsUntilSpill_2 : decode cX0_nightsUntilSpill 2 = .ok (.aload_n 0, 1) := dk_42 (dk_at dksX0_nightsUntilSpill_0 2 rfl rfl)
theorem dX0_nightsUntilSpill_3 : decode cX0_nightsUntilSpill 3 = .ok (.iload_n 1, 1) := dk_27 (dk_at dksX0_nightsUntilSpill_0 3 rfl rfl)
theorem dX0_nightsUntilSpill_4 : decode cX0_nightsUntilSpill 4 = .ok (.invokevirtual 82, 3) := dk_182 0 82 (dk_at dksX0_nightsUntilSpill_0 4 rfl rfl)
theorem dX0_nightsUntilSpill_7 : decode cX0_nightsUntilSpill 7 = .ok (.i2l, 1) := dk_133 (dk_at dksX0_nightsUntilSpill_0 7 rfl rfl)
theorem dX0_nightsUntilSpill_8 : decode cX0_nightsUntilSpill 8 = .ok (.lastore, 1) := dk_80 (dk_at dksX0_nightsUntilSpill_0 8 rfl rfl)
theorem dX0_nightsUntilSpill_9 : decode cX0_nightsUntilSpill 9 = .ok (.goto 6, 3) := dk_167 0 6 (dk_at dksX0_nightsUntilSpill_0 9 rfl rfl)
theorem dX0_nightsUntilSpill_12 : decode cX0_nightsUntilSpill 12 = .ok (.astore_n 3, 1) := dk_78 (dk_at dksX0_nightsUntilSpill_0 12 rfl rfl)
theorem dX0_nightsUntilSpill_13 : decode cX0_nightsUntilSpill 13 = .ok (.iconst 1, 1) := dk_4 (dk_at dksX0_nightsUntilSpill_0 13 rfl rfl)
theorem dX0_nightsUntilSpill_14 : decode cX0_nightsUntilSpill 14 = .ok (.ireturn, 1) := dk_172 (dk_at dksX0_nightsUntilSpill_0 14 rfl rfl)
theorem dX0_nightsUntilSpill_15 : decode cX0_nightsUntilSpill 15 = .ok (.iconst 0, 1) := dk_3 (dk_at dksX0_nightsUntilSpill_0 15 rfl rfl)
theorem dX0_nightsUntilSpill_16 : decode cX0_nightsUntilSpill 16 = .ok (.ireturn, 1) := dk_172 (dk_at dksX0_nightsUntilSpill_0 16 rfl rfl)
abbrev cX0_petalsAfter : ByteArray := method_24_code
def yX0_petalsAfter : MethodName := ⟨RX0, "petalsAfter", "(LRoseGuild;II[J)I"⟩
def dkwX0_petalsAfter_0 : List UInt8 := [45, 3, 42, 27, 28, 182, 0, 85, 133, 80, 167, 0, 11, 58, 4, 4, 172, 58, 4, 5, 172, 3, 172]
abbrev dktX0_petalsAfter_0 : List UInt8 := dkwX0_petalsAfter_0 ++ []
theorem dksX0_petalsAfter_0 : cX0_petalsAfter.data.toList.drop 0 = dktX0_petalsAfter_0 := by decide +kernel
theorem dX0_petalsAfter_0 : decode cX0_petalsAfter 0 = .ok (.aload_n 3, 1) := dk_45 (dk_at dksX0_petalsAfter_0 0 rfl rfl)
theorem dX0_petalsAfter_1 : decode cX0_petalsAfter 1 = .ok (.iconst 0, 1) := dk_3 (dk_at dksX0_petalsAfter_0 1 rfl rfl)
theorem dX0_petalsAfter_2 : decode cX0_petalsAfter 2 = .ok (.aload_n 0, 1) := dk_42 (dk_at dksX0_petalsAfter_0 2 rfl rfl)
theorem dX0_petalsAfter_3 : decode cX0_petalsAfter 3 = .ok (.iload_n 1, 1) := dk_27 (dk_at dksX0_petalsAfter_0 3 rfl rfl)
theorem dX0_petalsAfter_4 : decode cX0_petalsAfter 4 = .ok (.iload_n 2, 1) := dk_28 (dk_at dksX0_petalsAfter_0 4 rfl rfl)
theorem dX0_petalsAfter_5 : decode cX0_petalsAfter 5 = .ok (.invokevirtual 85, 3) := dk_182 0 85 (dk_at dksX0_petalsAfter_0 5 rfl rfl)
theorem dX0_petalsAfter_8 : decode cX0_petalsAfter 8 = .ok (.i2l, 1) := dk_133 (dk_at dksX0_petalsAfter_0 8 rfl rfl)
theorem dX0_petalsAfter_9 : decode cX0_petalsAfter 9 = .ok (.lastore, 1) := dk_80 (dk_at dksX0_petalsAfter_0 9 rfl rfl)
theorem dX0_petalsAfter_10 : decode cX0_petalsAfter 10 = .ok (.goto 11, 3) := dk_167 0 11 (dk_at dksX0_petalsAfter_0 10 rfl rfl)
theorem dX0_petalsAfter_13 : decode cX0_petalsAfter 13 = .ok (.astore 4, 2) := dk_58 4 (dk_at dksX0_petalsAfter_0 13 rfl rfl)
theorem dX0_petalsAfter_15 : decode cX0_petalsAfter 15 = .ok (.iconst 1, 1) := dk_4 (dk_at dksX0_petalsAfter_0 15 rfl rfl)
theorem dX0_petalsAfter_16 : decode cX0_petalsAfter 16 = .ok (.ireturn, 1) := dk_172 (dk_at dksX0_petalsAfter_0 16 rfl rfl)
theorem dX0_petalsAfter_17 : decode cX0_petalsAfter 17 = .ok (.astore 4, 2) := dk_58 4 (dk_at dksX0_petalsAfter_0 17 rfl rfl)
theorem dX0_petalsAfter_19 : decode cX0_petalsAfter 19 = .ok (.iconst 2, 1) := dk_5 (dk_at dksX0_petalsAfter_0 19 rfl rfl)
theorem dX0_petalsAfter_20 : decode cX0_petalsAfter 20 = .ok (.ireturn, 1) := dk_172 (dk_at dksX0_petalsAfter_0 20 rfl rfl)
theorem dX0_petalsAfter_21 : decode cX0_petalsAfter 21 = .ok (.iconst 0, 1) := dk_3 (dk_at dksX0_petalsAfter_0 21 rfl rfl)
theorem dX0_petalsAfter_22 : decode cX0_petalsAfter 22 = .ok (.ireturn, 1) := dk_172 (dk_at dksX0_petalsAfter_0 22 rfl rfl)
abbrev cX0_balanceAfter : ByteArray := method_25_code
def yX0_balanceAfter : MethodName := ⟨RX0, "balanceAfter", "(LRoseGuild;I[J)I"⟩
def dkwX0_balanceAfter_0 : List UInt8 := [44, 3, 42, 27, 182, 0, 88, 133, 80, 167, 0, 6, 78, 4, 172, 3, 172]
abbrev dktX0_balanceAfter_0 : List UInt8 := dkwX0_balanceAfter_0 ++ []
theorem dksX0_balanceAfter_0 : cX0_balanceAfter.data.toList.drop 0 = dktX0_balanceAfter_0 := by decide +kernel
theorem dX0_balanceAfter_0 : decode cX0_balanceAfter 0 = .ok (.aload_n 2, 1) := dk_44 (dk_at dksX0_balanceAfter_0 0 rfl rfl)
theorem dX0_balanceAfter_1 : decode cX0_balanceAfter 1 = .ok (.iconst 0, 1) := dk_3 (dk_at dksX0_balanceAfter_0 1 rfl rfl)
theorem dX0_balanceAfter_2 : decode cX0_balanceAfter 2 = .ok (.aload_n 0, 1) := dk_42 (dk_at dksX0_balanceAfter_0 2 rfl rfl)
theorem dX0_balanceAfter_3 : decode cX0_balanceAfter 3 = .ok (.iload_n 1, 1) := dk_27 (dk_at dksX0_balanceAfter_0 3 rfl rfl)
theorem dX0_balanceAfter_4 : decode cX0_balanceAfter 4 = .ok (.invokevirtual 88, 3) := dk_182 0 88 (dk_at dksX0_balanceAfter_0 4 rfl rfl)
theorem dX0_balanceAfter_7 : decode cX0_balanceAfter 7 = .ok (.i2l, 1) := dk_133 (dk_at dksX0_balanceAfter_0 7 rfl rfl)
theorem dX0_balanceAfter_8 : decode cX0_balanceAfter 8 = .ok (.lastore, 1) := dk_80 (dk_at dksX0_balanceAfter_0 8 rfl rfl)
theorem dX0_balanceAfter_9 : decode cX0_balanceAfter 9 = .ok (.goto 6, 3) := dk_167 0 6 (dk_at dksX0_balanceAfter_0 9 rfl rfl)
theorem dX0_balanceAfter_12 : decode cX0_balanceAfter 12 = .ok (.astore_n 3, 1) := dk_78 (dk_at dksX0_balanceAfter_0 12 rfl rfl)
theorem dX0_balanceAfter_13 : decode cX0_balanceAfter 13 = .ok (.iconst 1, 1) := dk_4 (dk_at dksX0_balanceAfter_0 13 rfl rfl)
theorem dX0_balanceAfter_14 : decode cX0_balanceAfter 14 = .ok (.ireturn, 1) := dk_172 (dk_at dksX0_balanceAfter_0 14 rfl rfl)
theorem dX0_balanceAfter_15 : decode cX0_balanceAfter 15 = .ok (.iconst 0, 1) := dk_3 (dk_at dksX0_balanceAfter_0 15 rfl rfl)
theorem dX0_balanceAfter_16 : decode cX0_balanceAfter 16 = .ok (.ireturn, 1) := dk_172 (dk_at dksX0_balanceAfter_0 16 rfl rfl)
abbrev cX0_sign : ByteArray := method_26_code
def yX0_sign : MethodName := ⟨RX0, "sign", "(LRoseGuild;IIII[J)I"⟩
def dkwX0_sign_1 : List UInt8 := [172, 58, 6, 6, 172, 3, 172]
abbrev dktX0_sign_1 : List UInt8 := dkwX0_sign_1 ++ []
def dkwX0_sign_0 : List UInt8 := [25, 5, 3, 42, 27, 28, 29, 21, 4, 182, 0, 91, 133, 80, 167, 0, 15, 58, 6, 4, 172, 58, 6, 5]
abbrev dktX0_sign_0 : List UInt8 := dkwX0_sign_0 ++ dktX0_sign_1
theorem dksX0_sign_0 : cX0_sign.data.toList.drop 0 = dktX0_sign_0 := by decide +kernel
theorem dksX0_sign_1 : cX0_sign.data.toList.drop 24 = dktX0_sign_1 := dk_seg dksX0_sign_0 24 rfl rfl
theorem dX0_sign_0 : decode cX0_sign 0 = .ok (.aload 5, 2) := dk_25 5 (dk_at dksX0_sign_0 0 rfl rfl)
theorem dX0_sign_2 : decode cX0_sign 2 = .ok (.iconst 0, 1) := dk_3 (dk_at dksX0_sign_0 2 rfl rfl)
theorem dX0_sign_3 : decode cX0_sign 3 = .ok (.aload_n 0, 1) := dk_42 (dk_at dksX0_sign_0 3 rfl rfl)
theorem dX0_sign_4 : decode cX0_sign 4 = .ok (.iload_n 1, 1) := dk_27 (dk_at dksX0_sign_0 4 rfl rfl)
theorem dX0_sign_5 : decode cX0_sign 5 = .ok (.iload_n 2, 1) := dk_28 (dk_at dksX0_sign_0 5 rfl rfl)
theorem dX0_sign_6 : decode cX0_sign 6 = .ok (.iload_n 3, 1) := dk_29 (dk_at dksX0_sign_0 6 rfl rfl)
theorem dX0_sign_7 : decode cX0_sign 7 = .ok (.iload 4, 2) := dk_21 4 (dk_at dksX0_sign_0 7 rfl rfl)
theorem dX0_sign_9 : decode cX0_sign 9 = .ok (.invokevirtual 91, 3) := dk_182 0 91 (dk_at dksX0_sign_0 9 rfl rfl)
theorem dX0_sign_12 : decode cX0_sign 12 = .ok (.i2l, 1) := dk_133 (dk_at dksX0_sign_0 12 rfl rfl)
theorem dX0_sign_13 : decode cX0_sign 13 = .ok (.lastore, 1) := dk_80 (dk_at dksX0_sign_0 13 rfl rfl)
theorem dX0_sign_14 : decode cX0_sign 14 = .ok (.goto 15, 3) := dk_167 0 15 (dk_at dksX0_sign_0 14 rfl rfl)
theorem dX0_sign_17 : decode cX0_sign 17 = .ok (.astore 6, 2) := dk_58 6 (dk_at dksX0_sign_0 17 rfl rfl)
theorem dX0_sign_19 : decode cX0_sign 19 = .ok (.iconst 1, 1) := dk_4 (dk_at dksX0_sign_0 19 rfl rfl)
theorem dX0_sign_20 : decode cX0_sign 20 = .ok (.ireturn, 1) := dk_172 (dk_at dksX0_sign_0 20 rfl rfl)
theorem dX0_sign_21 : decode cX0_sign 21 = .ok (.astore 6, 2) := dk_58 6 (dk_at dksX0_sign_0 21 rfl rfl)
theorem dX0_sign_23 : decode cX0_sign 23 = .ok (.iconst 2, 1) := dk_5 (dk_at dksX0_sign_0 23 rfl rfl)
theorem dX0_sign_24 : decode cX0_sign 24 = .ok (.ireturn, 1) := dk_172 (dk_at dksX0_sign_1 0 rfl rfl)
theorem dX0_sign_25 : decode cX0_sign 25 = .ok (.astore 6, 2) := dk_58 6 (dk_at dksX0_sign_1 1 rfl rfl)
theorem dX0_sign_27 : decode cX0_sign 27 = .ok (.iconst 3, 1) := dk_6 (dk_at dksX0_sign_1 3 rfl rfl)
theorem dX0_sign_28 : decode cX0_sign 28 = .ok (.ireturn, 1) := dk_172 (dk_at dksX0_sign_1 4 rfl rfl)
theorem dX0_sign_29 : decode cX0_sign 29 = .ok (.iconst 0, 1) := dk_3 (dk_at dksX0_sign_1 5 rfl rfl)
theorem dX0_sign_30 : decode cX0_sign 30 = .ok (.ireturn, 1) := dk_172 (dk_at dksX0_sign_1 6 rfl rfl)
abbrev cX0_cancel : ByteArray := method_27_code
def yX0_cancel : MethodName := ⟨RX0, "cancel", "(LRoseGuild;I[J)I"⟩
def dkwX0_cancel_0 : List UInt8 := [44, 3, 42, 27, 182, 0, 95, 133, 80, 167, 0, 9, 78, 4, 172, 78, 5, 172, 3, 172]
abbrev dktX0_cancel_0 : List UInt8 := dkwX0_cancel_0 ++ []
theorem dksX0_cancel_0 : cX0_cancel.data.toList.drop 0 = dktX0_cancel_0 := by decide +kernel
theorem dX0_cancel_0 : decode cX0_cancel 0 = .ok (.aload_n 2, 1) := dk_44 (dk_at dksX0_cancel_0 0 rfl rfl)
theorem dX0_cancel_1 : decode cX0_cancel 1 = .ok (.iconst 0, 1) := dk_3 (dk_at dksX0_cancel_0 1 rfl rfl)
theorem dX0_cancel_2 : decode cX0_cancel 2 = .ok (.aload_n 0, 1) := dk_42 (dk_at dksX0_cancel_0 2 rfl rfl)
theorem dX0_cancel_3 : decode cX0_cancel 3 = .ok (.iload_n 1, 1) := dk_27 (dk_at dksX0_cancel_0 3 rfl rfl)
theorem dX0_cancel_4 : decode cX0_cancel 4 = .ok (.invokevirtual 95, 3) := dk_182 0 95 (dk_at dksX0_cancel_0 4 rfl rfl)
theorem dX0_cancel_7 : decode cX0_cancel 7 = .ok (.i2l, 1) := dk_133 (dk_at dksX0_cancel_0 7 rfl rfl)
theorem dX0_cancel_8 : decode cX0_cancel 8 = .ok (.lastore, 1) := dk_80 (dk_at dksX0_cancel_0 8 rfl rfl)
theorem dX0_cancel_9 : decode cX0_cancel 9 = .ok (.goto 9, 3) := dk_167 0 9 (dk_at dksX0_cancel_0 9 rfl rfl)
theorem dX0_cancel_12 : decode cX0_cancel 12 = .ok (.astore_n 3, 1) := dk_78 (dk_at dksX0_cancel_0 12 rfl rfl)
theorem dX0_cancel_13 : decode cX0_cancel 13 = .ok (.iconst 1, 1) := dk_4 (dk_at dksX0_cancel_0 13 rfl rfl)
theorem dX0_cancel_14 : decode cX0_cancel 14 = .ok (.ireturn, 1) := dk_172 (dk_at dksX0_cancel_0 14 rfl rfl)
theorem dX0_cancel_15 : decode cX0_cancel 15 = .ok (.astore_n 3, 1) := dk_78 (dk_at dksX0_cancel_0 15 rfl rfl)
theorem dX0_cancel_16 : decode cX0_cancel 16 = .ok (.iconst 2, 1) := dk_5 (dk_at dksX0_cancel_0 16 rfl rfl)
theorem dX0_cancel_17 : decode cX0_cancel 17 = .ok (.ireturn, 1) := dk_172 (dk_at dksX0_cancel_0 17 rfl rfl)
theorem dX0_cancel_18 : decode cX0_cancel 18 = .ok (.iconst 0, 1) := dk_3 (dk_at dksX0_cancel_0 18 rfl rfl)
theorem dX0_cancel_19 : decode cX0_cancel 19 = .ok (.ireturn, 1) := dk_172 (dk_at dksX0_cancel_0 19 rfl rfl)
abbrev cX0_advance : ByteArray := method_28_code
def yX0_advance : MethodName := ⟨RX0, "advance", "(LRoseGuild;I[J)I"⟩
def dkwX0_advance_0 : List UInt8 := [44, 3, 42, 27, 182, 0, 98, 133, 80, 167, 0, 9, 78, 4, 172, 78, 5, 172, 3, 172]
abbrev dktX0_advance_0 : List UInt8 := dkwX0_advance_0 ++ []
theorem dksX0_advance_0 : cX0_advance.data.toList.drop 0 = dktX0_advance_0 := by decide +kernel
theorem dX0_advance_0 : decode cX0_advance 0 = .ok (.aload_n 2, 1) := dk_44 (dk_at dksX0_advance_0 0 rfl rfl)
theorem dX0_advance_1 : decode cX0_advance 1 = .ok (.iconst 0, 1) := dk_3 (dk_at dksX0_advance_0 1 rfl rfl)
theorem dX0_advance_2 : decode cX0_advance 2 = .ok (.aload_n 0, 1) := dk_42 (dk_at dksX0_advance_0 2 rfl rfl)
theorem dX0_advance_3 : decode cX0_advance 3 = .ok (.iload_n 1, 1) := dk_27 (dk_at dksX0_advance_0 3 rfl rfl)
theorem dX0_advance_4 : decode cX0_advance 4 = .ok (.invokevirtual 98, 3) := dk_182 0 98 (dk_at dksX0_advance_0 4 rfl rfl)
theorem dX0_advance_7 : decode cX0_advance 7 = .ok (.i2l, 1) := dk_133 (dk_at dksX0_advance_0 7 rfl rfl)
theorem dX0_advance_8 : decode cX0_advance 8 = .ok (.lastore, 1) := dk_80 (dk_at dksX0_advance_0 8 rfl rfl)
theorem dX0_advance_9 : decode cX0_advance 9 = .ok (.goto 9, 3) := dk_167 0 9 (dk_at dksX0_advance_0 9 rfl rfl)
theorem dX0_advance_12 : decode cX0_advance 12 = .ok (.astore_n 3, 1) := dk_78 (dk_at dksX0_advance_0 12 rfl rfl)
theorem dX0_advance_13 : decode cX0_advance 13 = .ok (.iconst 1, 1) := dk_4 (dk_at dksX0_advance_0 13 rfl rfl)
theorem dX0_advance_14 : decode cX0_advance 14 = .ok (.ireturn, 1) := dk_172 (dk_at dksX0_advance_0 14 rfl rfl)
theorem dX0_advance_15 : decode cX0_advance 15 = .ok (.astore_n 3, 1) := dk_78 (dk_at dksX0_advance_0 15 rfl rfl)
theorem dX0_advance_16 : decode cX0_advance 16 = .ok (.iconst 2, 1) := dk_5 (dk_at dksX0_advance_0 16 rfl rfl)
theorem dX0_advance_17 : decode cX0_advance 17 = .ok (.ireturn, 1) := dk_172 (dk_at dksX0_advance_0 17 rfl rfl)
theorem dX0_advance_18 : decode cX0_advance 18 = .ok (.iconst 0, 1) := dk_3 (dk_at dksX0_advance_0 18 rfl rfl)
theorem dX0_advance_19 : decode cX0_advance 19 = .ok (.ireturn, 1) := dk_172 (dk_at dksX0_advance_0 19 rfl rfl)
abbrev cX0_setWindOffset : ByteArray := method_29_code
def yX0_setWindOffset : MethodName := ⟨RX0, "setWindOffset", "(LRoseGuild;I[J)I"⟩
def dkwX0_setWindOffset_0 : List UInt8 := [44, 3, 42, 27, 182, 0, 101, 133, 80, 167, 0, 6, 78, 4, 172, 3, 172]
abbrev dktX0_setWindOffset_0 : List UInt8 := dkwX0_setWindOffset_0 ++ []
theorem dksX0_setWindOffset_0 : cX0_setWindOffset.data.toList.drop 0 = dktX0_setWindOffset_0 := by decide +kernel
theorem dX0_setWindOffset_0 : decode cX0_setWindOffset 0 = .ok (.aload_n 2, 1) := dk_44 (dk_at dksX0_setWindOffset_0 0 rfl rfl)
theorem dX0_setWindOffset_1 : decode cX0_setWindOffset 1 = .ok (.iconst 0, 1) := dk_3 (dk_at dksX0_setWindOffset_0 1 rfl rfl)
theorem dX0_setWindOffset_2 : decode cX0_setWindOffset 2 = .ok (.aload_n 0, 1) := dk_42 (dk_at dksX0_setWindOffset_0 2 rfl rfl)
theorem dX0_setWindOffset_3 : decode cX0_setWindOffset 3 = .ok (.iload_n 1, 1) := dk_27 (dk_at dksX0_setWindOffset_0 3 rfl rfl)
theorem dX0_setWindOffset_4 : decode cX0_setWindOffset 4 = .ok (.invokevirtual 101, 3) := dk_182 0 101 (dk_at dksX0_setWindOffset_0 4 rfl rfl)
theorem dX0_setWindOffset_7 : decode cX0_setWindOffset 7 = .ok (.i2l, 1) := dk_133 (dk_at dksX0_setWindOffset_0 7 rfl rfl)
theorem dX0_setWindOffset_8 : decode cX0_setWindOffset 8 = .ok (.lastore, 1) := dk_80 (dk_at dksX0_setWindOffset_0 8 rfl rfl)
theorem dX0_setWindOffset_9 : decode cX0_setWindOffset 9 = .ok (.goto 6, 3) := dk_167 0 6 (dk_at dksX0_setWindOffset_0 9 rfl rfl)
theorem dX0_setWindOffset_12 : decode cX0_setWindOffset 12 = .ok (.astore_n 3, 1) := dk_78 (dk_at dksX0_setWindOffset_0 12 rfl rfl)
theorem dX0_setWindOffset_13 : decode cX0_setWindOffset 13 = .ok (.iconst 1, 1) := dk_4 (dk_at dksX0_setWindOffset_0 13 rfl rfl)
theorem dX0_setWindOffset_14 : decode cX0_setWindOffset 14 = .ok (.ireturn, 1) := dk_172 (dk_at dksX0_setWindOffset_0 14 rfl rfl)
theorem dX0_setWindOffset_15 : decode cX0_setWindOffset 15 = .ok (.iconst 0, 1) := dk_3 (dk_at dksX0_setWindOffset_0 15 rfl rfl)
theorem dX0_setWindOffset_16 : decode cX0_setWindOffset 16 = .ok (.ireturn, 1) := dk_172 (dk_at dksX0_setWindOffset_0 16 rfl rfl)
abbrev cX0_setPrice : ByteArray := method_30_code
def yX0_setPrice : MethodName := ⟨RX0, "setPrice", "(LRoseGuild;I[J)I"⟩
def dkwX0_setPrice_0 : List UInt8 := [44, 3, 42, 27, 182, 0, 104, 133, 80, 167, 0, 6, 78, 4, 172, 3, 172]
abbrev dktX0_setPrice_0 : List UInt8 := dkwX0_setPrice_0 ++ []
theorem dksX0_setPrice_0 : cX0_setPrice.data.toList.drop 0 = dktX0_setPrice_0 := by decide +kernel
theorem dX0_setPrice_0 : decode cX0_setPrice 0 = .ok (.aload_n 2, 1) := dk_44 (dk_at dksX0_setPrice_0 0 rfl rfl)
theorem dX0_setPrice_1 : decode cX0_setPrice 1 = .ok (.iconst 0, 1) := dk_3 (dk_at dksX0_setPrice_0 1 rfl rfl)
theorem dX0_setPrice_2 : decode cX0_setPrice 2 = .ok (.aload_n 0, 1) := dk_42 (dk_at dksX0_setPrice_0 2 rfl rfl)
theorem dX0_setPrice_3 : decode cX0_setPrice 3 = .ok (.iload_n 1, 1) := dk_27 (dk_at dksX0_setPrice_0 3 rfl rfl)
theorem dX0_setPrice_4 : decode cX0_setPrice 4 = .ok (.invokevirtual 104, 3) := dk_182 0 104 (dk_at dksX0_setPrice_0 4 rfl rfl)
theorem dX0_setPrice_7 : decode cX0_setPrice 7 = .ok (.i2l, 1) := dk_133 (dk_at dksX0_setPrice_0 7 rfl rfl)
theorem dX0_setPrice_8 : decode cX0_setPrice 8 = .ok (.lastore, 1) := dk_80 (dk_at dksX0_setPrice_0 8 rfl rfl)
theorem dX0_setPrice_9 : decode cX0_setPrice 9 = .ok (.goto 6, 3) := dk_167 0 6 (dk_at dksX0_setPrice_0 9 rfl rfl)
theorem dX0_setPrice_12 : decode cX0_setPrice 12 = .ok (.astore_n 3, 1) := dk_78 (dk_at dksX0_setPrice_0 12 rfl rfl)
theorem dX0_setPrice_13 : decode cX0_setPrice 13 = .ok (.iconst 1, 1) := dk_4 (dk_at dksX0_setPrice_0 13 rfl rfl)
theorem dX0_setPrice_14 : decode cX0_setPrice 14 = .ok (.ireturn, 1) := dk_172 (dk_at dksX0_setPrice_0 14 rfl rfl)
theorem dX0_setPrice_15 : decode cX0_setPrice 15 = .ok (.iconst 0, 1) := dk_3 (dk_at dksX0_setPrice_0 15 rfl rfl)
theorem dX0_setPrice_16 : decode cX0_setPrice 16 = .ok (.ireturn, 1) := dk_172 (dk_at dksX0_setPrice_0 16 rfl rfl)
abbrev cX0_undo : ByteArray := method_31_code
def yX0_undo : MethodName := ⟨RX0, "undo", "(LRoseGuild;[J)I"⟩
def dkwX0_undo_0 : List UInt8 := [43, 3, 42, 182, 0, 107, 133, 80, 167, 0, 6, 77, 4, 172, 3, 172]
abbrev dktX0_undo_0 : List UInt8 := dkwX0_undo_0 ++ []
theorem dksX0_undo_0 : cX0_undo.data.toList.drop 0 = dktX0_undo_0 := by decide +kernel
theorem dX0_undo_0 : decode cX0_undo 0 = .ok (.aload_n 1, 1) := dk_43 (dk_at dksX0_undo_0 0 rfl rfl)
theorem dX0_undo_1 : decode cX0_undo 1 = .ok (.iconst 0, 1) := dk_3 (dk_at dksX0_undo_0 1 rfl rfl)
theorem dX0_undo_2 : decode cX0_undo 2 = .ok (.aload_n 0, 1) := dk_42 (dk_at dksX0_undo_0 2 rfl rfl)
theorem dX0_undo_3 : decode cX0_undo 3 = .ok (.invokevirtual 107, 3) := dk_182 0 107 (dk_at dksX0_undo_0 3 rfl rfl)
theorem dX0_undo_6 : decode cX0_undo 6 = .ok (.i2l, 1) := dk_133 (dk_at dksX0_undo_0 6 rfl rfl)
theorem dX0_undo_7 : decode cX0_undo 7 = .ok (.lastore, 1) := dk_80 (dk_at dksX0_undo_0 7 rfl rfl)
theorem dX0_undo_8 : decode cX0_undo 8 = .ok (.goto 6, 3) := dk_167 0 6 (dk_at dksX0_undo_0 8 rfl rfl)
theorem dX0_undo_11 : decode cX0_undo 11 = .ok (.astore_n 2, 1) := dk_77 (dk_at dksX0_undo_0 11 rfl rfl)
theorem dX0_undo_12 : decode cX0_undo 12 = .ok (.iconst 1, 1) := dk_4 (dk_at dksX0_undo_0 12 rfl rfl)
theorem dX0_undo_13 : decode cX0_undo 13 = .ok (.ireturn, 1) := dk_172 (dk_at dksX0_undo_0 13 rfl rfl)
theorem dX0_undo_14 : decode cX0_undo 14 = .ok (.iconst 0, 1) := dk_3 (dk_at dksX0_undo_0 14 rfl rfl)
theorem dX0_undo_15 : decode cX0_undo 15 = .ok (.ireturn, 1) := dk_172 (dk_at dksX0_undo_0 15 rfl rfl)
abbrev cX0_save : ByteArray := method_32_code
def yX0_save : MethodName := ⟨RX0, "save", "(LRoseGuild;I[J)I"⟩
def dkwX0_save_0 : List UInt8 := [44, 3, 42, 27, 182, 0, 111, 133, 80, 167, 0, 6, 78, 4, 172, 3, 172]
abbrev dktX0_save_0 : List UInt8 := dkwX0_save_0 ++ []
theorem dksX0_save_0 : cX0_save.data.toList.drop 0 = dktX0_save_0 := by decide +kernel
theorem dX0_save_0 : decode cX0_save 0 = .ok (.aload_n 2, 1) := dk_44 (dk_at dksX0_save_0 0 rfl rfl)
theorem dX0_save_1 : decode cX0_save 1 = .ok (.iconst 0, 1) := dk_3 (dk_at dksX0_save_0 1 rfl rfl)
theorem dX0_save_2 : decode cX0_save 2 = .ok (.aload_n 0, 1) := dk_42 (dk_at dksX0_save_0 2 rfl rfl)
theorem dX0_save_3 : decode cX0_save 3 = .ok (.iload_n 1, 1) := dk_27 (dk_at dksX0_save_0 3 rfl rfl)
theorem dX0_save_4 : decode cX0_save 4 = .ok (.invokevirtual 111, 3) := dk_182 0 111 (dk_at dksX0_save_0 4 rfl rfl)
theorem dX0_save_7 : decode cX0_save 7 = .ok (.i2l, 1) := dk_133 (dk_at dksX0_save_0 7 rfl rfl)
theorem dX0_save_8 : decode cX0_save 8 = .ok (.lastore, 1) := dk_80 (dk_at dksX0_save_0 8 rfl rfl)
theorem dX0_save_9 : decode cX0_save 9 = .ok (.goto 6, 3) := dk_167 0 6 (dk_at dksX0_save_0 9 rfl rfl)
theorem dX0_save_12 : decode cX0_save 12 = .ok (.astore_n 3, 1) := dk_78 (dk_at dksX0_save_0 12 rfl rfl)
theorem dX0_save_13 : decode cX0_save 13 = .ok (.iconst 1, 1) := dk_4 (dk_at dksX0_save_0 13 rfl rfl)
theorem dX0_save_14 : decode cX0_save 14 = .ok (.ireturn, 1) := dk_172 (dk_at dksX0_save_0 14 rfl rfl)
theorem dX0_save_15 : decode cX0_save 15 = .ok (.iconst 0, 1) := dk_3 (dk_at dksX0_save_0 15 rfl rfl)
theorem dX0_save_16 : decode cX0_save 16 = .ok (.ireturn, 1) := dk_172 (dk_at dksX0_save_0 16 rfl rfl)
abbrev cX0_restore : ByteArray := method_33_code
def yX0_restore : MethodName := ⟨RX0, "restore", "(LRoseGuild;I[J)I"⟩
def dkwX0_restore_0 : List UInt8 := [44, 3, 42, 27, 182, 0, 114, 133, 80, 167, 0, 9, 78, 4, 172, 78, 5, 172, 3, 172]
abbrev dktX0_restore_0 : List UInt8 := dkwX0_restore_0 ++ []
theorem dksX0_restore_0 : cX0_restore.data.toList.drop 0 = dktX0_restore_0 := by decide +kernel
theorem dX0_restore_0 : decode cX0_restore 0 = .ok (.aload_n 2, 1) := dk_44 (dk_at dksX0_restore_0 0 rfl rfl)
theorem dX0_restore_1 : decode cX0_restore 1 = .ok (.iconst 0, 1) := dk_3 (dk_at dksX0_restore_0 1 rfl rfl)
theorem dX0_restore_2 : decode cX0_restore 2 = .ok (.aload_n 0, 1) := dk_42 (dk_at dksX0_restore_0 2 rfl rfl)
theorem dX0_restore_3 : decode cX0_restore 3 = .ok (.iload_n 1, 1) := dk_27 (dk_at dksX0_restore_0 3 rfl rfl)
theorem dX0_restore_4 : decode cX0_restore 4 = .ok (.invokevirtual 114, 3) := dk_182 0 114 (dk_at dksX0_restore_0 4 rfl rfl)
theorem dX0_restore_7 : decode cX0_restore 7 = .ok (.i2l, 1) := dk_133 (dk_at dksX0_restore_0 7 rfl rfl)
theorem dX0_restore_8 : decode cX0_restore 8 = .ok (.lastore, 1) := dk_80 (dk_at dksX0_restore_0 8 rfl rfl)
theorem dX0_restore_9 : decode cX0_restore 9 = .ok (.goto 9, 3) := dk_167 0 9 (dk_at dksX0_restore_0 9 rfl rfl)
theorem dX0_restore_12 : decode cX0_restore 12 = .ok (.astore_n 3, 1) := dk_78 (dk_at dksX0_restore_0 12 rfl rfl)
theorem dX0_restore_13 : decode cX0_restore 13 = .ok (.iconst 1, 1) := dk_4 (dk_at dksX0_restore_0 13 rfl rfl)
theorem dX0_restore_14 : decode cX0_restore 14 = .ok (.ireturn, 1) := dk_172 (dk_at dksX0_restore_0 14 rfl rfl)
theorem dX0_restore_15 : decode cX0_restore 15 = .ok (.astore_n 3, 1) := dk_78 (dk_at dksX0_restore_0 15 rfl rfl)
theorem dX0_restore_16 : decode cX0_restore 16 = .ok (.iconst 2, 1) := dk_5 (dk_at dksX0_restore_0 16 rfl rfl)
theorem dX0_restore_17 : decode cX0_restore 17 = .ok (.ireturn, 1) := dk_172 (dk_at dksX0_restore_0 17 rfl rfl)
theorem dX0_restore_18 : decode cX0_restore 18 = .ok (.iconst 0, 1) := dk_3 (dk_at dksX0_restore_0 18 rfl rfl)
theorem dX0_restore_19 : decode cX0_restore 19 = .ok (.ireturn, 1) := dk_172 (dk_at dksX0_restore_0 19 rfl rfl)
theorem q135 : (Jvm.Cond.initialized "RoseGuildLaw") ∈ lw_all := lw_g (lw_at lw_m1 0 rfl) rfl
theorem q209 : (Jvm.Cond.classLink "RoseGuildLaw" (8 : Nat) "RoseGuild") ∈ lw_all := lw_g (lw_at lw_m1 74 rfl) rfl
theorem q211 : (Jvm.Cond.methodLink "RoseGuildLaw" (119 : Nat) ({ cls := "RoseGuild", name := "<init>", desc := "()V" } : Jvm.MethodName)) ∈ lw_all := lw_g (lw_at lw_m1 76 rfl) rfl
theorem q2110 : (Jvm.Cond.methodLink "RoseGuildLaw" (136 : Nat) ({ cls := "RoseGuild", name := "load", desc := "()I" } : Jvm.MethodName)) ∈ lw_all := lw_g (lw_at lw_m9 55 rfl) rfl
theorem q2435 : (Jvm.Cond.methodLink "RoseGuildLaw" (140 : Nat) ({ cls := "RoseGuild", name := "runScript", desc := "()I" } : Jvm.MethodName)) ∈ lw_all := lw_g (lw_at lw_m10 140 rfl) rfl
theorem q3158 : (Jvm.Cond.methodLink "RoseGuildLaw" (144 : Nat) ({ cls := "RoseGuild", name := "errorCode", desc := "()I" } : Jvm.MethodName)) ∈ lw_all := lw_g (lw_at lw_m13 143 rfl) rfl
theorem q3162 : (Jvm.Cond.methodLink "RoseGuildLaw" (148 : Nat) ({ cls := "RoseGuild", name := "errorPosition", desc := "()I" } : Jvm.MethodName)) ∈ lw_all := lw_g (lw_at lw_m13 147 rfl) rfl
theorem q3166 : (Jvm.Cond.methodLink "RoseGuildLaw" (152 : Nat) ({ cls := "RoseGuild", name := "streetCount", desc := "()I" } : Jvm.MethodName)) ∈ lw_all := lw_g (lw_at lw_m13 151 rfl) rfl
theorem q3172 : (Jvm.Cond.methodLink "RoseGuildLaw" (156 : Nat) ({ cls := "RoseGuild", name := "findStreet", desc := "()I" } : Jvm.MethodName)) ∈ lw_all := lw_g (lw_at lw_m13 157 rfl) rfl
theorem q3185 : (Jvm.Cond.methodLink "RoseGuildLaw" (160 : Nat) ({ cls := "RoseGuild", name := "streetAt", desc := "(II)I" } : Jvm.MethodName)) ∈ lw_all := lw_g (lw_at lw_m13 170 rfl) rfl
theorem q3199 : (Jvm.Cond.methodLink "RoseGuildLaw" (176 : Nat) ({ cls := "RoseGuild", name := "gardenCount", desc := "()I" } : Jvm.MethodName)) ∈ lw_all := lw_g (lw_at lw_m13 184 rfl) rfl
theorem q3203 : (Jvm.Cond.methodLink "RoseGuildLaw" (180 : Nat) ({ cls := "RoseGuild", name := "findGarden", desc := "()I" } : Jvm.MethodName)) ∈ lw_all := lw_g (lw_at lw_m13 188 rfl) rfl
theorem q3207 : (Jvm.Cond.methodLink "RoseGuildLaw" (196 : Nat) ({ cls := "RoseGuild", name := "leadingGarden", desc := "()I" } : Jvm.MethodName)) ∈ lw_all := lw_g (lw_at lw_m13 192 rfl) rfl
theorem q3212 : (Jvm.Cond.methodLink "RoseGuildLaw" (200 : Nat) ({ cls := "RoseGuild", name := "cartCount", desc := "()I" } : Jvm.MethodName)) ∈ lw_all := lw_g (lw_at lw_m13 197 rfl) rfl
theorem q3216 : (Jvm.Cond.methodLink "RoseGuildLaw" (227 : Nat) ({ cls := "RoseGuild", name := "night", desc := "()I" } : Jvm.MethodName)) ∈ lw_all := lw_g (lw_at lw_m13 201 rfl) rfl
theorem q3220 : (Jvm.Cond.methodLink "RoseGuildLaw" (231 : Nat) ({ cls := "RoseGuild", name := "balance", desc := "()I" } : Jvm.MethodName)) ∈ lw_all := lw_g (lw_at lw_m13 205 rfl) rfl
theorem q3224 : (Jvm.Cond.methodLink "RoseGuildLaw" (235 : Nat) ({ cls := "RoseGuild", name := "price", desc := "()I" } : Jvm.MethodName)) ∈ lw_all := lw_g (lw_at lw_m13 209 rfl) rfl
theorem q3228 : (Jvm.Cond.methodLink "RoseGuildLaw" (239 : Nat) ({ cls := "RoseGuild", name := "wind", desc := "()I" } : Jvm.MethodName)) ∈ lw_all := lw_g (lw_at lw_m13 213 rfl) rfl
theorem q3233 : (Jvm.Cond.methodLink "RoseGuildLaw" (246 : Nat) ({ cls := "RoseGuild", name := "deliveryCount", desc := "()I" } : Jvm.MethodName)) ∈ lw_all := lw_g (lw_at lw_m13 218 rfl) rfl
theorem q3237 : (Jvm.Cond.methodLink "RoseGuildLaw" (250 : Nat) ({ cls := "RoseGuild", name := "lateCount", desc := "()I" } : Jvm.MethodName)) ∈ lw_all := lw_g (lw_at lw_m13 222 rfl) rfl
theorem q3241 : (Jvm.Cond.methodLink "RoseGuildLaw" (254 : Nat) ({ cls := "RoseGuild", name := "meanLoad", desc := "()D" } : Jvm.MethodName)) ∈ lw_all := lw_g (lw_at lw_m13 226 rfl) rfl
theorem q3245 : (Jvm.Cond.methodLink "RoseGuildLaw" (263 : Nat) ({ cls := "RoseGuild", name := "contradictions", desc := "()I" } : Jvm.MethodName)) ∈ lw_all := lw_g (lw_at lw_m13 230 rfl) rfl
theorem q3254 : (Jvm.Cond.methodLink "RoseGuildLaw" (279 : Nat) ({ cls := "RoseGuild", name := "nextWinner", desc := "()I" } : Jvm.MethodName)) ∈ lw_all := lw_g (lw_at lw_m13 239 rfl) rfl
theorem q3265 : (Jvm.Cond.methodLink "RoseGuildLaw" (299 : Nat) ({ cls := "RoseGuild", name := "writeContracts", desc := "()I" } : Jvm.MethodName)) ∈ lw_all := lw_g (lw_at lw_m14 10 rfl) rfl
theorem q3285 : (Jvm.Cond.methodLink "RoseGuildLaw" (303 : Nat) ({ cls := "RoseGuild", name := "writeDeliveries", desc := "()I" } : Jvm.MethodName)) ∈ lw_all := lw_g (lw_at lw_m14 30 rfl) rfl
theorem q3295 : (Jvm.Cond.methodLink "RoseGuildLaw" (307 : Nat) ({ cls := "RoseGuild", name := "outputByte", desc := "(I)I" } : Jvm.MethodName)) ∈ lw_all := lw_g (lw_at lw_m14 40 rfl) rfl
theorem q3300 : (Jvm.Cond.methodLink "RoseGuildLaw" (311 : Nat) ({ cls := "RoseGuild", name := "undoCount", desc := "()I" } : Jvm.MethodName)) ∈ lw_all := lw_g (lw_at lw_m14 45 rfl) rfl
theorem q3304 : (Jvm.Cond.methodLink "RoseGuildLaw" (123 : Nat) ({ cls := "RoseGuildLaw", name := "append", desc := "(LRoseGuild;IIIII[J)I" } : Jvm.MethodName)) ∈ lw_all := lw_g (lw_at lw_m14 49 rfl) rfl
theorem q3305 : (Jvm.Cond.static ({ cls := "RoseGuildLaw", name := "append", desc := "(LRoseGuild;IIIII[J)I" } : Jvm.MethodName)) ∈ lw_all := lw_g (lw_at lw_m14 50 rfl) rfl
theorem q3306 : (Jvm.Cond.codeWith ({ cls := "RoseGuildLaw", name := "append", desc := "(LRoseGuild;IIIII[J)I" } : Jvm.MethodName) method_3_code (8 : Nat) (Option.some Jvm.ClassFile.FieldType.int) [((0 : Nat), (16 : Nat), (19 : Nat), (13 : Nat))]) ∈ lw_all := lw_g (lw_at lw_m14 51 rfl) rfl
theorem q3307 : (Jvm.Cond.classLink "RoseGuildLaw" (13 : Nat) "java/lang/IllegalStateException") ∈ lw_all := lw_g (lw_at lw_m14 52 rfl) rfl
theorem q3308 : (Jvm.Cond.methodLink "RoseGuildLaw" (7 : Nat) ({ cls := "RoseGuild", name := "append", desc := "(IIIII)I" } : Jvm.MethodName)) ∈ lw_all := lw_g (lw_at lw_m14 53 rfl) rfl
theorem q3327 : (Jvm.Cond.methodLink "RoseGuildLaw" (132 : Nat) ({ cls := "RoseGuildLaw", name := "truncate", desc := "(LRoseGuild;I[J)I" } : Jvm.MethodName)) ∈ lw_all := lw_g (lw_at lw_m14 72 rfl) rfl
theorem q3328 : (Jvm.Cond.static ({ cls := "RoseGuildLaw", name := "truncate", desc := "(LRoseGuild;I[J)I" } : Jvm.MethodName)) ∈ lw_all := lw_g (lw_at lw_m14 73 rfl) rfl
theorem q3329 : (Jvm.Cond.codeWith ({ cls := "RoseGuildLaw", name := "truncate", desc := "(LRoseGuild;I[J)I" } : Jvm.MethodName) method_4_code (4 : Nat) (Option.some Jvm.ClassFile.FieldType.int) [((0 : Nat), (9 : Nat), (12 : Nat), (19 : Nat))]) ∈ lw_all := lw_g (lw_at lw_m14 74 rfl) rfl
theorem q3330 : (Jvm.Cond.classLink "RoseGuildLaw" (19 : Nat) "java/lang/IllegalArgumentException") ∈ lw_all := lw_g (lw_at lw_m14 75 rfl) rfl
theorem q3331 : (Jvm.Cond.methodLink "RoseGuildLaw" (15 : Nat) ({ cls := "RoseGuild", name := "truncate", desc := "(I)I" } : Jvm.MethodName)) ∈ lw_all := lw_g (lw_at lw_m14 76 rfl) rfl
theorem q3343 : (Jvm.Cond.methodLink "RoseGuildLaw" (164 : Nat) ({ cls := "RoseGuildLaw", name := "bins", desc := "(LRoseGuild;I[J)I" } : Jvm.MethodName)) ∈ lw_all := lw_g (lw_at lw_m14 88 rfl) rfl
theorem q3344 : (Jvm.Cond.static ({ cls := "RoseGuildLaw", name := "bins", desc := "(LRoseGuild;I[J)I" } : Jvm.MethodName)) ∈ lw_all := lw_g (lw_at lw_m14 89 rfl) rfl
theorem q3345 : (Jvm.Cond.codeWith ({ cls := "RoseGuildLaw", name := "bins", desc := "(LRoseGuild;I[J)I" } : Jvm.MethodName) method_5_code (4 : Nat) (Option.some Jvm.ClassFile.FieldType.int) [((0 : Nat), (9 : Nat), (12 : Nat), (24 : Nat))]) ∈ lw_all := lw_g (lw_at lw_m14 90 rfl) rfl
theorem q3346 : (Jvm.Cond.classLink "RoseGuildLaw" (24 : Nat) "java/lang/IndexOutOfBoundsException") ∈ lw_all := lw_g (lw_at lw_m14 91 rfl) rfl
theorem q3362 : (Jvm.Cond.methodLink "RoseGuildLaw" (21 : Nat) ({ cls := "RoseGuild", name := "bins", desc := "(I)I" } : Jvm.MethodName)) ∈ lw_all := lw_g (lw_at lw_m14 107 rfl) rfl
theorem q3378 : (Jvm.Cond.methodLink "RoseGuildLaw" (167 : Nat) ({ cls := "RoseGuildLaw", name := "spilled", desc := "(LRoseGuild;I[J)I" } : Jvm.MethodName)) ∈ lw_all := lw_g (lw_at lw_m14 123 rfl) rfl
theorem q3379 : (Jvm.Cond.static ({ cls := "RoseGuildLaw", name := "spilled", desc := "(LRoseGuild;I[J)I" } : Jvm.MethodName)) ∈ lw_all := lw_g (lw_at lw_m14 124 rfl) rfl
theorem q3380 : (Jvm.Cond.codeWith ({ cls := "RoseGuildLaw", name := "spilled", desc := "(LRoseGuild;I[J)I" } : Jvm.MethodName) method_6_code (4 : Nat) (Option.some Jvm.ClassFile.FieldType.int) [((0 : Nat), (9 : Nat), (12 : Nat), (24 : Nat))]) ∈ lw_all := lw_g (lw_at lw_m14 125 rfl) rfl
theorem q3381 : (Jvm.Cond.methodLink "RoseGuildLaw" (26 : Nat) ({ cls := "RoseGuild", name := "spilled", desc := "(I)I" } : Jvm.MethodName)) ∈ lw_all := lw_g (lw_at lw_m14 126 rfl) rfl
theorem q3385 : (Jvm.Cond.methodLink "RoseGuildLaw" (170 : Nat) ({ cls := "RoseGuildLaw", name := "complaints", desc := "(LRoseGuild;I[J)I" } : Jvm.MethodName)) ∈ lw_all := lw_g (lw_at lw_m14 130 rfl) rfl
theorem q3386 : (Jvm.Cond.static ({ cls := "RoseGuildLaw", name := "complaints", desc := "(LRoseGuild;I[J)I" } : Jvm.MethodName)) ∈ lw_all := lw_g (lw_at lw_m14 131 rfl) rfl
theorem q3387 : (Jvm.Cond.codeWith ({ cls := "RoseGuildLaw", name := "complaints", desc := "(LRoseGuild;I[J)I" } : Jvm.MethodName) method_7_code (4 : Nat) (Option.some Jvm.ClassFile.FieldType.int) [((0 : Nat), (9 : Nat), (12 : Nat), (24 : Nat))]) ∈ lw_all := lw_g (lw_at lw_m14 132 rfl) rfl
theorem q3388 : (Jvm.Cond.methodLink "RoseGuildLaw" (29 : Nat) ({ cls := "RoseGuild", name := "complaints", desc := "(I)I" } : Jvm.MethodName)) ∈ lw_all := lw_g (lw_at lw_m14 133 rfl) rfl
theorem q3392 : (Jvm.Cond.methodLink "RoseGuildLaw" (173 : Nat) ({ cls := "RoseGuildLaw", name := "wasServed", desc := "(LRoseGuild;I[J)I" } : Jvm.MethodName)) ∈ lw_all := lw_g (lw_at lw_m14 137 rfl) rfl
theorem q3393 : (Jvm.Cond.static ({ cls := "RoseGuildLaw", name := "wasServed", desc := "(LRoseGuild;I[J)I" } : Jvm.MethodName)) ∈ lw_all := lw_g (lw_at lw_m14 138 rfl) rfl
theorem q3394 : (Jvm.Cond.codeWith ({ cls := "RoseGuildLaw", name := "wasServed", desc := "(LRoseGuild;I[J)I" } : Jvm.MethodName) method_8_code (4 : Nat) (Option.some Jvm.ClassFile.FieldType.int) [((0 : Nat), (16 : Nat), (19 : Nat), (24 : Nat))]) ∈ lw_all := lw_g (lw_at lw_m14 139 rfl) rfl
theorem q3395 : (Jvm.Cond.methodLink "RoseGuildLaw" (32 : Nat) ({ cls := "RoseGuild", name := "wasServed", desc := "(I)Z" } : Jvm.MethodName)) ∈ lw_all := lw_g (lw_at lw_m14 140 rfl) rfl
theorem q3403 : (Jvm.Cond.methodLink "RoseGuildLaw" (184 : Nat) ({ cls := "RoseGuildLaw", name := "stock", desc := "(LRoseGuild;I[J)I" } : Jvm.MethodName)) ∈ lw_all := lw_g (lw_at lw_m14 148 rfl) rfl
theorem q3404 : (Jvm.Cond.static ({ cls := "RoseGuildLaw", name := "stock", desc := "(LRoseGuild;I[J)I" } : Jvm.MethodName)) ∈ lw_all := lw_g (lw_at lw_m14 149 rfl) rfl
theorem q3405 : (Jvm.Cond.codeWith ({ cls := "RoseGuildLaw", name := "stock", desc := "(LRoseGuild;I[J)I" } : Jvm.MethodName) method_9_code (4 : Nat) (Option.some Jvm.ClassFile.FieldType.int) [((0 : Nat), (9 : Nat), (12 : Nat), (24 : Nat))]) ∈ lw_all := lw_g (lw_at lw_m14 150 rfl) rfl
theorem q3406 : (Jvm.Cond.methodLink "RoseGuildLaw" (36 : Nat) ({ cls := "RoseGuild", name := "stock", desc := "(I)I" } : Jvm.MethodName)) ∈ lw_all := lw_g (lw_at lw_m14 151 rfl) rfl
theorem q3414 : (Jvm.Cond.methodLink "RoseGuildLaw" (187 : Nat) ({ cls := "RoseGuildLaw", name := "petals", desc := "(LRoseGuild;I[J)I" } : Jvm.MethodName)) ∈ lw_all := lw_g (lw_at lw_m14 159 rfl) rfl
theorem q3415 : (Jvm.Cond.static ({ cls := "RoseGuildLaw", name := "petals", desc := "(LRoseGuild;I[J)I" } : Jvm.MethodName)) ∈ lw_all := lw_g (lw_at lw_m14 160 rfl) rfl
theorem q3416 : (Jvm.Cond.codeWith ({ cls := "RoseGuildLaw", name := "petals", desc := "(LRoseGuild;I[J)I" } : Jvm.MethodName) method_10_code (4 : Nat) (Option.some Jvm.ClassFile.FieldType.int) [((0 : Nat), (9 : Nat), (12 : Nat), (24 : Nat))]) ∈ lw_all := lw_g (lw_at lw_m14 161 rfl) rfl
theorem q3417 : (Jvm.Cond.methodLink "RoseGuildLaw" (39 : Nat) ({ cls := "RoseGuild", name := "petals", desc := "(I)I" } : Jvm.MethodName)) ∈ lw_all := lw_g (lw_at lw_m14 162 rfl) rfl
theorem q3421 : (Jvm.Cond.methodLink "RoseGuildLaw" (190 : Nat) ({ cls := "RoseGuildLaw", name := "rotted", desc := "(LRoseGuild;I[J)I" } : Jvm.MethodName)) ∈ lw_all := lw_g (lw_at lw_m14 166 rfl) rfl
theorem q3422 : (Jvm.Cond.static ({ cls := "RoseGuildLaw", name := "rotted", desc := "(LRoseGuild;I[J)I" } : Jvm.MethodName)) ∈ lw_all := lw_g (lw_at lw_m14 167 rfl) rfl
theorem q3423 : (Jvm.Cond.codeWith ({ cls := "RoseGuildLaw", name := "rotted", desc := "(LRoseGuild;I[J)I" } : Jvm.MethodName) method_11_code (4 : Nat) (Option.some Jvm.ClassFile.FieldType.int) [((0 : Nat), (9 : Nat), (12 : Nat), (24 : Nat))]) ∈ lw_all := lw_g (lw_at lw_m14 168 rfl) rfl
theorem q3424 : (Jvm.Cond.methodLink "RoseGuildLaw" (42 : Nat) ({ cls := "RoseGuild", name := "rotted", desc := "(I)I" } : Jvm.MethodName)) ∈ lw_all := lw_g (lw_at lw_m14 169 rfl) rfl
theorem q3428 : (Jvm.Cond.methodLink "RoseGuildLaw" (193 : Nat) ({ cls := "RoseGuildLaw", name := "prizes", desc := "(LRoseGuild;I[J)I" } : Jvm.MethodName)) ∈ lw_all := lw_g (lw_at lw_m14 173 rfl) rfl
theorem q3429 : (Jvm.Cond.static ({ cls := "RoseGuildLaw", name := "prizes", desc := "(LRoseGuild;I[J)I" } : Jvm.MethodName)) ∈ lw_all := lw_g (lw_at lw_m14 174 rfl) rfl
theorem q3430 : (Jvm.Cond.codeWith ({ cls := "RoseGuildLaw", name := "prizes", desc := "(LRoseGuild;I[J)I" } : Jvm.MethodName) method_12_code (4 : Nat) (Option.some Jvm.ClassFile.FieldType.int) [((0 : Nat), (9 : Nat), (12 : Nat), (24 : Nat))]) ∈ lw_all := lw_g (lw_at lw_m14 175 rfl) rfl
theorem q3431 : (Jvm.Cond.methodLink "RoseGuildLaw" (45 : Nat) ({ cls := "RoseGuild", name := "prizes", desc := "(I)I" } : Jvm.MethodName)) ∈ lw_all := lw_g (lw_at lw_m14 176 rfl) rfl
theorem q3435 : (Jvm.Cond.methodLink "RoseGuildLaw" (204 : Nat) ({ cls := "RoseGuildLaw", name := "contractStreet", desc := "(LRoseGuild;I[J)I" } : Jvm.MethodName)) ∈ lw_all := lw_g (lw_at lw_m14 180 rfl) rfl
theorem q3436 : (Jvm.Cond.static ({ cls := "RoseGuildLaw", name := "contractStreet", desc := "(LRoseGuild;I[J)I" } : Jvm.MethodName)) ∈ lw_all := lw_g (lw_at lw_m14 181 rfl) rfl
theorem q3437 : (Jvm.Cond.codeWith ({ cls := "RoseGuildLaw", name := "contractStreet", desc := "(LRoseGuild;I[J)I" } : Jvm.MethodName) method_13_code (4 : Nat) (Option.some Jvm.ClassFile.FieldType.int) [((0 : Nat), (9 : Nat), (12 : Nat), (24 : Nat))]) ∈ lw_all := lw_g (lw_at lw_m14 182 rfl) rfl
theorem q3438 : (Jvm.Cond.methodLink "RoseGuildLaw" (48 : Nat) ({ cls := "RoseGuild", name := "contractStreet", desc := "(I)I" } : Jvm.MethodName)) ∈ lw_all := lw_g (lw_at lw_m14 183 rfl) rfl
theorem q3447 : (Jvm.Cond.methodLink "RoseGuildLaw" (207 : Nat) ({ cls := "RoseGuildLaw", name := "contractGarden", desc := "(LRoseGuild;I[J)I" } : Jvm.MethodName)) ∈ lw_all := lw_g (lw_at lw_m14 192 rfl) rfl
theorem q3448 : (Jvm.Cond.static ({ cls := "RoseGuildLaw", name := "contractGarden", desc := "(LRoseGuild;I[J)I" } : Jvm.MethodName)) ∈ lw_all := lw_g (lw_at lw_m14 193 rfl) rfl
theorem q3449 : (Jvm.Cond.codeWith ({ cls := "RoseGuildLaw", name := "contractGarden", desc := "(LRoseGuild;I[J)I" } : Jvm.MethodName) method_14_code (4 : Nat) (Option.some Jvm.ClassFile.FieldType.int) [((0 : Nat), (9 : Nat), (12 : Nat), (24 : Nat))]) ∈ lw_all := lw_g (lw_at lw_m14 194 rfl) rfl
theorem q3450 : (Jvm.Cond.methodLink "RoseGuildLaw" (51 : Nat) ({ cls := "RoseGuild", name := "contractGarden", desc := "(I)I" } : Jvm.MethodName)) ∈ lw_all := lw_g (lw_at lw_m14 195 rfl) rfl
theorem q3454 : (Jvm.Cond.methodLink "RoseGuildLaw" (210 : Nat) ({ cls := "RoseGuildLaw", name := "nightsLeft", desc := "(LRoseGuild;I[J)I" } : Jvm.MethodName)) ∈ lw_all := lw_g (lw_at lw_m14 199 rfl) rfl
theorem q3455 : (Jvm.Cond.static ({ cls := "RoseGuildLaw", name := "nightsLeft", desc := "(LRoseGuild;I[J)I" } : Jvm.MethodName)) ∈ lw_all := lw_g (lw_at lw_m14 200 rfl) rfl
theorem q3456 : (Jvm.Cond.codeWith ({ cls := "RoseGuildLaw", name := "nightsLeft", desc := "(LRoseGuild;I[J)I" } : Jvm.MethodName) method_15_code (4 : Nat) (Option.some Jvm.ClassFile.FieldType.int) [((0 : Nat), (9 : Nat), (12 : Nat), (24 : Nat))]) ∈ lw_all := lw_g (lw_at lw_m14 201 rfl) rfl
theorem q3457 : (Jvm.Cond.methodLink "RoseGuildLaw" (54 : Nat) ({ cls := "RoseGuild", name := "nightsLeft", desc := "(I)I" } : Jvm.MethodName)) ∈ lw_all := lw_g (lw_at lw_m14 202 rfl) rfl
theorem q3461 : (Jvm.Cond.methodLink "RoseGuildLaw" (213 : Nat) ({ cls := "RoseGuildLaw", name := "hoursNeeded", desc := "(LRoseGuild;III[J)I" } : Jvm.MethodName)) ∈ lw_all := lw_g (lw_at lw_m14 206 rfl) rfl
theorem q3462 : (Jvm.Cond.static ({ cls := "RoseGuildLaw", name := "hoursNeeded", desc := "(LRoseGuild;III[J)I" } : Jvm.MethodName)) ∈ lw_all := lw_g (lw_at lw_m14 207 rfl) rfl
theorem q3463 : (Jvm.Cond.codeWith ({ cls := "RoseGuildLaw", name := "hoursNeeded", desc := "(LRoseGuild;III[J)I" } : Jvm.MethodName) method_16_code (6 : Nat) (Option.some Jvm.ClassFile.FieldType.int) [((0 : Nat), (12 : Nat), (15 : Nat), (24 : Nat))]) ∈ lw_all := lw_g (lw_at lw_m14 208 rfl) rfl
theorem q3464 : (Jvm.Cond.methodLink "RoseGuildLaw" (57 : Nat) ({ cls := "RoseGuild", name := "hoursNeeded", desc := "(III)I" } : Jvm.MethodName)) ∈ lw_all := lw_g (lw_at lw_m14 209 rfl) rfl
theorem q3469 : (Jvm.Cond.methodLink "RoseGuildLaw" (217 : Nat) ({ cls := "RoseGuildLaw", name := "nextLoad", desc := "(LRoseGuild;I[J)I" } : Jvm.MethodName)) ∈ lw_all := lw_g (lw_at lw_m14 214 rfl) rfl
theorem q3470 : (Jvm.Cond.static ({ cls := "RoseGuildLaw", name := "nextLoad", desc := "(LRoseGuild;I[J)I" } : Jvm.MethodName)) ∈ lw_all := lw_g (lw_at lw_m14 215 rfl) rfl
theorem q3471 : (Jvm.Cond.codeWith ({ cls := "RoseGuildLaw", name := "nextLoad", desc := "(LRoseGuild;I[J)I" } : Jvm.MethodName) method_17_code (4 : Nat) (Option.some Jvm.ClassFile.FieldType.int) [((0 : Nat), (9 : Nat), (12 : Nat), (24 : Nat))]) ∈ lw_all := lw_g (lw_at lw_m14 216 rfl) rfl
theorem q3472 : (Jvm.Cond.methodLink "RoseGuildLaw" (61 : Nat) ({ cls := "RoseGuild", name := "nextLoad", desc := "(I)I" } : Jvm.MethodName)) ∈ lw_all := lw_g (lw_at lw_m14 217 rfl) rfl
theorem q3481 : (Jvm.Cond.methodLink "RoseGuildLaw" (220 : Nat) ({ cls := "RoseGuildLaw", name := "outlook", desc := "(LRoseGuild;I[J)I" } : Jvm.MethodName)) ∈ lw_all := lw_g (lw_at lw_m14 226 rfl) rfl
theorem q3482 : (Jvm.Cond.static ({ cls := "RoseGuildLaw", name := "outlook", desc := "(LRoseGuild;I[J)I" } : Jvm.MethodName)) ∈ lw_all := lw_g (lw_at lw_m14 227 rfl) rfl
theorem q3483 : (Jvm.Cond.codeWith ({ cls := "RoseGuildLaw", name := "outlook", desc := "(LRoseGuild;I[J)I" } : Jvm.MethodName) method_18_code (4 : Nat) (Option.some Jvm.ClassFile.FieldType.int) [((0 : Nat), (9 : Nat), (12 : Nat), (24 : Nat))]) ∈ lw_all := lw_g (lw_at lw_m14 228 rfl) rfl
theorem q3484 : (Jvm.Cond.methodLink "RoseGuildLaw" (64 : Nat) ({ cls := "RoseGuild", name := "outlook", desc := "(I)I" } : Jvm.MethodName)) ∈ lw_all := lw_g (lw_at lw_m14 229 rfl) rfl
theorem q3493 : (Jvm.Cond.methodLink "RoseGuildLaw" (223 : Nat) ({ cls := "RoseGuildLaw", name := "quickestGarden", desc := "(LRoseGuild;II[J)I" } : Jvm.MethodName)) ∈ lw_all := lw_g (lw_at lw_m14 238 rfl) rfl
theorem q3494 : (Jvm.Cond.static ({ cls := "RoseGuildLaw", name := "quickestGarden", desc := "(LRoseGuild;II[J)I" } : Jvm.MethodName)) ∈ lw_all := lw_g (lw_at lw_m14 239 rfl) rfl
theorem q3495 : (Jvm.Cond.codeWith ({ cls := "RoseGuildLaw", name := "quickestGarden", desc := "(LRoseGuild;II[J)I" } : Jvm.MethodName) method_19_code (5 : Nat) (Option.some Jvm.ClassFile.FieldType.int) [((0 : Nat), (10 : Nat), (13 : Nat), (24 : Nat))]) ∈ lw_all := lw_g (lw_at lw_m15 0 rfl) rfl
theorem q3496 : (Jvm.Cond.methodLink "RoseGuildLaw" (67 : Nat) ({ cls := "RoseGuild", name := "quickestGarden", desc := "(II)I" } : Jvm.MethodName)) ∈ lw_all := lw_g (lw_at lw_m15 1 rfl) rfl
theorem q3502 : (Jvm.Cond.methodLink "RoseGuildLaw" (243 : Nat) ({ cls := "RoseGuildLaw", name := "smellReaches", desc := "(LRoseGuild;III[J)I" } : Jvm.MethodName)) ∈ lw_all := lw_g (lw_at lw_m15 7 rfl) rfl
theorem q3503 : (Jvm.Cond.static ({ cls := "RoseGuildLaw", name := "smellReaches", desc := "(LRoseGuild;III[J)I" } : Jvm.MethodName)) ∈ lw_all := lw_g (lw_at lw_m15 8 rfl) rfl
theorem q3504 : (Jvm.Cond.codeWith ({ cls := "RoseGuildLaw", name := "smellReaches", desc := "(LRoseGuild;III[J)I" } : Jvm.MethodName) method_20_code (6 : Nat) (Option.some Jvm.ClassFile.FieldType.int) [((0 : Nat), (19 : Nat), (22 : Nat), (24 : Nat)), ((0 : Nat), (19 : Nat), (26 : Nat), (19 : Nat))]) ∈ lw_all := lw_g (lw_at lw_m15 9 rfl) rfl
theorem q3505 : (Jvm.Cond.methodLink "RoseGuildLaw" (71 : Nat) ({ cls := "RoseGuild", name := "smellReaches", desc := "(III)Z" } : Jvm.MethodName)) ∈ lw_all := lw_g (lw_at lw_m15 10 rfl) rfl
theorem q3510 : (Jvm.Cond.methodLink "RoseGuildLaw" (259 : Nat) ({ cls := "RoseGuildLaw", name := "petalShare", desc := "(LRoseGuild;I[D)I" } : Jvm.MethodName)) ∈ lw_all := lw_g (lw_at lw_m15 15 rfl) rfl
theorem q3511 : (Jvm.Cond.static ({ cls := "RoseGuildLaw", name := "petalShare", desc := "(LRoseGuild;I[D)I" } : Jvm.MethodName)) ∈ lw_all := lw_g (lw_at lw_m15 16 rfl) rfl
theorem q3512 : (Jvm.Cond.codeWith ({ cls := "RoseGuildLaw", name := "petalShare", desc := "(LRoseGuild;I[D)I" } : Jvm.MethodName) method_21_code (4 : Nat) (Option.some Jvm.ClassFile.FieldType.int) [((0 : Nat), (9 : Nat), (12 : Nat), (24 : Nat))]) ∈ lw_all := lw_g (lw_at lw_m15 17 rfl) rfl
theorem q3513 : (Jvm.Cond.methodLink "RoseGuildLaw" (75 : Nat) ({ cls := "RoseGuild", name := "petalShare", desc := "(I)F" } : Jvm.MethodName)) ∈ lw_all := lw_g (lw_at lw_m15 18 rfl) rfl
theorem q3521 : (Jvm.Cond.methodLink "RoseGuildLaw" (267 : Nat) ({ cls := "RoseGuildLaw", name := "binsAfter", desc := "(LRoseGuild;II[J)I" } : Jvm.MethodName)) ∈ lw_all := lw_g (lw_at lw_m15 26 rfl) rfl
theorem q3522 : (Jvm.Cond.static ({ cls := "RoseGuildLaw", name := "binsAfter", desc := "(LRoseGuild;II[J)I" } : Jvm.MethodName)) ∈ lw_all := lw_g (lw_at lw_m15 27 rfl) rfl
theorem q3523 : (Jvm.Cond.codeWith ({ cls := "RoseGuildLaw", name := "binsAfter", desc := "(LRoseGuild;II[J)I" } : Jvm.MethodName) method_22_code (5 : Nat) (Option.some Jvm.ClassFile.FieldType.int) [((0 : Nat), (10 : Nat), (13 : Nat), (24 : Nat)), ((0 : Nat), (10 : Nat), (17 : Nat), (19 : Nat))]) ∈ lw_all := lw_g (lw_at lw_m15 28 rfl) rfl
theorem q3524 : (Jvm.Cond.methodLink "RoseGuildLaw" (79 : Nat) ({ cls := "RoseGuild", name := "binsAfter", desc := "(II)I" } : Jvm.MethodName)) ∈ lw_all := lw_g (lw_at lw_m15 29 rfl) rfl
theorem q3528 : (Jvm.Cond.methodLink "RoseGuildLaw" (270 : Nat) ({ cls := "RoseGuildLaw", name := "nightsUntilSpill", desc := "(LRoseGuild;I[J)I" } : Jvm.MethodName)) ∈ lw_all := lw_g (lw_at lw_m15 33 rfl) rfl
theorem q3529 : (Jvm.Cond.static ({ cls := "RoseGuildLaw", name := "nightsUntilSpill", desc := "(LRoseGuild;I[J)I" } : Jvm.MethodName)) ∈ lw_all := lw_g (lw_at lw_m15 34 rfl) rfl
theorem q3530 : (Jvm.Cond.codeWith ({ cls := "RoseGuildLaw", name := "nightsUntilSpill", desc := "(LRoseGuild;I[J)I" } : Jvm.MethodName) method_23_code (4 : Nat) (Option.some Jvm.ClassFile.FieldType.int) [((0 : Nat), (9 : Nat), (12 : Nat), (24 : Nat))]) ∈ lw_all := lw_g (lw_at lw_m15 35 rfl) rfl
theorem q3531 : (Jvm.Cond.methodLink "RoseGuildLaw" (82 : Nat) ({ cls := "RoseGuild", name := "nightsUntilSpill", desc := "(I)I" } : Jvm.MethodName)) ∈ lw_all := lw_g (lw_at lw_m15 36 rfl) rfl
theorem q3536 : (Jvm.Cond.methodLink "RoseGuildLaw" (273 : Nat) ({ cls := "RoseGuildLaw", name := "petalsAfter", desc := "(LRoseGuild;II[J)I" } : Jvm.MethodName)) ∈ lw_all := lw_g (lw_at lw_m15 41 rfl) rfl
theorem q3537 : (Jvm.Cond.static ({ cls := "RoseGuildLaw", name := "petalsAfter", desc := "(LRoseGuild;II[J)I" } : Jvm.MethodName)) ∈ lw_all := lw_g (lw_at lw_m15 42 rfl) rfl
theorem q3538 : (Jvm.Cond.codeWith ({ cls := "RoseGuildLaw", name := "petalsAfter", desc := "(LRoseGuild;II[J)I" } : Jvm.MethodName) method_24_code (5 : Nat) (Option.some Jvm.ClassFile.FieldType.int) [((0 : Nat), (10 : Nat), (13 : Nat), (24 : Nat)), ((0 : Nat), (10 : Nat), (17 : Nat), (19 : Nat))]) ∈ lw_all := lw_g (lw_at lw_m15 43 rfl) rfl
theorem q3539 : (Jvm.Cond.methodLink "RoseGuildLaw" (85 : Nat) ({ cls := "RoseGuild", name := "petalsAfter", desc := "(II)I" } : Jvm.MethodName)) ∈ lw_all := lw_g (lw_at lw_m15 44 rfl) rfl
theorem q3543 : (Jvm.Cond.methodLink "RoseGuildLaw" (276 : Nat) ({ cls := "RoseGuildLaw", name := "balanceAfter", desc := "(LRoseGuild;I[J)I" } : Jvm.MethodName)) ∈ lw_all := lw_g (lw_at lw_m15 48 rfl) rfl
theorem q3544 : (Jvm.Cond.static ({ cls := "RoseGuildLaw", name := "balanceAfter", desc := "(LRoseGuild;I[J)I" } : Jvm.MethodName)) ∈ lw_all := lw_g (lw_at lw_m15 49 rfl) rfl
theorem q3545 : (Jvm.Cond.codeWith ({ cls := "RoseGuildLaw", name := "balanceAfter", desc := "(LRoseGuild;I[J)I" } : Jvm.MethodName) method_25_code (4 : Nat) (Option.some Jvm.ClassFile.FieldType.int) [((0 : Nat), (9 : Nat), (12 : Nat), (19 : Nat))]) ∈ lw_all := lw_g (lw_at lw_m15 50 rfl) rfl
theorem q3546 : (Jvm.Cond.methodLink "RoseGuildLaw" (88 : Nat) ({ cls := "RoseGuild", name := "balanceAfter", desc := "(I)I" } : Jvm.MethodName)) ∈ lw_all := lw_g (lw_at lw_m15 51 rfl) rfl
theorem q3550 : (Jvm.Cond.methodLink "RoseGuildLaw" (283 : Nat) ({ cls := "RoseGuildLaw", name := "sign", desc := "(LRoseGuild;IIII[J)I" } : Jvm.MethodName)) ∈ lw_all := lw_g (lw_at lw_m15 55 rfl) rfl
theorem q3551 : (Jvm.Cond.static ({ cls := "RoseGuildLaw", name := "sign", desc := "(LRoseGuild;IIII[J)I" } : Jvm.MethodName)) ∈ lw_all := lw_g (lw_at lw_m15 56 rfl) rfl
theorem q3552 : (Jvm.Cond.codeWith ({ cls := "RoseGuildLaw", name := "sign", desc := "(LRoseGuild;IIII[J)I" } : Jvm.MethodName) method_26_code (7 : Nat) (Option.some Jvm.ClassFile.FieldType.int) [((0 : Nat), (14 : Nat), (17 : Nat), (24 : Nat)), ((0 : Nat), (14 : Nat), (21 : Nat), (19 : Nat)), ((0 : Nat), (14 : Nat), (25 : Nat), (13 : Nat))]) ∈ lw_all := lw_g (lw_at lw_m15 57 rfl) rfl
theorem q3553 : (Jvm.Cond.methodLink "RoseGuildLaw" (91 : Nat) ({ cls := "RoseGuild", name := "sign", desc := "(IIII)I" } : Jvm.MethodName)) ∈ lw_all := lw_g (lw_at lw_m15 58 rfl) rfl
theorem q3597 : (Jvm.Cond.methodLink "RoseGuildLaw" (287 : Nat) ({ cls := "RoseGuildLaw", name := "cancel", desc := "(LRoseGuild;I[J)I" } : Jvm.MethodName)) ∈ lw_all := lw_g (lw_at lw_m15 102 rfl) rfl
theorem q3598 : (Jvm.Cond.static ({ cls := "RoseGuildLaw", name := "cancel", desc := "(LRoseGuild;I[J)I" } : Jvm.MethodName)) ∈ lw_all := lw_g (lw_at lw_m15 103 rfl) rfl
theorem q3599 : (Jvm.Cond.codeWith ({ cls := "RoseGuildLaw", name := "cancel", desc := "(LRoseGuild;I[J)I" } : Jvm.MethodName) method_27_code (4 : Nat) (Option.some Jvm.ClassFile.FieldType.int) [((0 : Nat), (9 : Nat), (12 : Nat), (24 : Nat)), ((0 : Nat), (9 : Nat), (15 : Nat), (13 : Nat))]) ∈ lw_all := lw_g (lw_at lw_m15 104 rfl) rfl
theorem q3600 : (Jvm.Cond.methodLink "RoseGuildLaw" (95 : Nat) ({ cls := "RoseGuild", name := "cancel", desc := "(I)I" } : Jvm.MethodName)) ∈ lw_all := lw_g (lw_at lw_m15 105 rfl) rfl
theorem q3605 : (Jvm.Cond.methodLink "RoseGuildLaw" (290 : Nat) ({ cls := "RoseGuildLaw", name := "advance", desc := "(LRoseGuild;I[J)I" } : Jvm.MethodName)) ∈ lw_all := lw_g (lw_at lw_m15 110 rfl) rfl
theorem q3606 : (Jvm.Cond.static ({ cls := "RoseGuildLaw", name := "advance", desc := "(LRoseGuild;I[J)I" } : Jvm.MethodName)) ∈ lw_all := lw_g (lw_at lw_m15 111 rfl) rfl
theorem q3607 : (Jvm.Cond.codeWith ({ cls := "RoseGuildLaw", name := "advance", desc := "(LRoseGuild;I[J)I" } : Jvm.MethodName) method_28_code (4 : Nat) (Option.some Jvm.ClassFile.FieldType.int) [((0 : Nat), (9 : Nat), (12 : Nat), (19 : Nat)), ((0 : Nat), (9 : Nat), (15 : Nat), (13 : Nat))]) ∈ lw_all := lw_g (lw_at lw_m15 112 rfl) rfl
theorem q3608 : (Jvm.Cond.methodLink "RoseGuildLaw" (98 : Nat) ({ cls := "RoseGuild", name := "advance", desc := "(I)I" } : Jvm.MethodName)) ∈ lw_all := lw_g (lw_at lw_m15 113 rfl) rfl
theorem q3613 : (Jvm.Cond.methodLink "RoseGuildLaw" (293 : Nat) ({ cls := "RoseGuildLaw", name := "setWindOffset", desc := "(LRoseGuild;I[J)I" } : Jvm.MethodName)) ∈ lw_all := lw_g (lw_at lw_m15 118 rfl) rfl
theorem q3614 : (Jvm.Cond.static ({ cls := "RoseGuildLaw", name := "setWindOffset", desc := "(LRoseGuild;I[J)I" } : Jvm.MethodName)) ∈ lw_all := lw_g (lw_at lw_m15 119 rfl) rfl
theorem q3615 : (Jvm.Cond.codeWith ({ cls := "RoseGuildLaw", name := "setWindOffset", desc := "(LRoseGuild;I[J)I" } : Jvm.MethodName) method_29_code (4 : Nat) (Option.some Jvm.ClassFile.FieldType.int) [((0 : Nat), (9 : Nat), (12 : Nat), (19 : Nat))]) ∈ lw_all := lw_g (lw_at lw_m15 120 rfl) rfl
theorem q3616 : (Jvm.Cond.methodLink "RoseGuildLaw" (101 : Nat) ({ cls := "RoseGuild", name := "setWindOffset", desc := "(I)I" } : Jvm.MethodName)) ∈ lw_all := lw_g (lw_at lw_m15 121 rfl) rfl
theorem q3621 : (Jvm.Cond.methodLink "RoseGuildLaw" (296 : Nat) ({ cls := "RoseGuildLaw", name := "setPrice", desc := "(LRoseGuild;I[J)I" } : Jvm.MethodName)) ∈ lw_all := lw_g (lw_at lw_m15 126 rfl) rfl
theorem q3622 : (Jvm.Cond.static ({ cls := "RoseGuildLaw", name := "setPrice", desc := "(LRoseGuild;I[J)I" } : Jvm.MethodName)) ∈ lw_all := lw_g (lw_at lw_m15 127 rfl) rfl
theorem q3623 : (Jvm.Cond.codeWith ({ cls := "RoseGuildLaw", name := "setPrice", desc := "(LRoseGuild;I[J)I" } : Jvm.MethodName) method_30_code (4 : Nat) (Option.some Jvm.ClassFile.FieldType.int) [((0 : Nat), (9 : Nat), (12 : Nat), (19 : Nat))]) ∈ lw_all := lw_g (lw_at lw_m15 128 rfl) rfl
theorem q3624 : (Jvm.Cond.methodLink "RoseGuildLaw" (104 : Nat) ({ cls := "RoseGuild", name := "setPrice", desc := "(I)I" } : Jvm.MethodName)) ∈ lw_all := lw_g (lw_at lw_m15 129 rfl) rfl
theorem q3629 : (Jvm.Cond.methodLink "RoseGuildLaw" (315 : Nat) ({ cls := "RoseGuildLaw", name := "undo", desc := "(LRoseGuild;[J)I" } : Jvm.MethodName)) ∈ lw_all := lw_g (lw_at lw_m15 134 rfl) rfl
theorem q3630 : (Jvm.Cond.static ({ cls := "RoseGuildLaw", name := "undo", desc := "(LRoseGuild;[J)I" } : Jvm.MethodName)) ∈ lw_all := lw_g (lw_at lw_m15 135 rfl) rfl
theorem q3631 : (Jvm.Cond.codeWith ({ cls := "RoseGuildLaw", name := "undo", desc := "(LRoseGuild;[J)I" } : Jvm.MethodName) method_31_code (3 : Nat) (Option.some Jvm.ClassFile.FieldType.int) [((0 : Nat), (8 : Nat), (11 : Nat), (13 : Nat))]) ∈ lw_all := lw_g (lw_at lw_m15 136 rfl) rfl
theorem q3632 : (Jvm.Cond.methodLink "RoseGuildLaw" (107 : Nat) ({ cls := "RoseGuild", name := "undo", desc := "()I" } : Jvm.MethodName)) ∈ lw_all := lw_g (lw_at lw_m15 137 rfl) rfl
theorem q3651 : (Jvm.Cond.methodLink "RoseGuildLaw" (319 : Nat) ({ cls := "RoseGuildLaw", name := "save", desc := "(LRoseGuild;I[J)I" } : Jvm.MethodName)) ∈ lw_all := lw_g (lw_at lw_m15 156 rfl) rfl
theorem q3652 : (Jvm.Cond.static ({ cls := "RoseGuildLaw", name := "save", desc := "(LRoseGuild;I[J)I" } : Jvm.MethodName)) ∈ lw_all := lw_g (lw_at lw_m15 157 rfl) rfl
theorem q3653 : (Jvm.Cond.codeWith ({ cls := "RoseGuildLaw", name := "save", desc := "(LRoseGuild;I[J)I" } : Jvm.MethodName) method_32_code (4 : Nat) (Option.some Jvm.ClassFile.FieldType.int) [((0 : Nat), (9 : Nat), (12 : Nat), (24 : Nat))]) ∈ lw_all := lw_g (lw_at lw_m15 158 rfl) rfl
theorem q3654 : (Jvm.Cond.methodLink "RoseGuildLaw" (111 : Nat) ({ cls := "RoseGuild", name := "save", desc := "(I)I" } : Jvm.MethodName)) ∈ lw_all := lw_g (lw_at lw_m15 159 rfl) rfl
theorem q3661 : (Jvm.Cond.methodLink "RoseGuildLaw" (322 : Nat) ({ cls := "RoseGuildLaw", name := "restore", desc := "(LRoseGuild;I[J)I" } : Jvm.MethodName)) ∈ lw_all := lw_g (lw_at lw_m15 166 rfl) rfl
theorem q3662 : (Jvm.Cond.static ({ cls := "RoseGuildLaw", name := "restore", desc := "(LRoseGuild;I[J)I" } : Jvm.MethodName)) ∈ lw_all := lw_g (lw_at lw_m15 167 rfl) rfl
theorem q3663 : (Jvm.Cond.codeWith ({ cls := "RoseGuildLaw", name := "restore", desc := "(LRoseGuild;I[J)I" } : Jvm.MethodName) method_33_code (4 : Nat) (Option.some Jvm.ClassFile.FieldType.int) [((0 : Nat), (9 : Nat), (12 : Nat), (24 : Nat)), ((0 : Nat), (9 : Nat), (15 : Nat), (117 : Nat))]) ∈ lw_all := lw_g (lw_at lw_m15 168 rfl) rfl
theorem q3664 : (Jvm.Cond.classLink "RoseGuildLaw" (117 : Nat) "java/util/NoSuchElementException") ∈ lw_all := lw_g (lw_at lw_m15 169 rfl) rfl
theorem q3665 : (Jvm.Cond.methodLink "RoseGuildLaw" (114 : Nat) ({ cls := "RoseGuild", name := "restore", desc := "(I)I" } : Jvm.MethodName)) ∈ lw_all := lw_g (lw_at lw_m15 170 rfl) rfl
theorem q3671 : (Jvm.Cond.classLink "RoseGuildLaw" (120 : Nat) "RoseGuildModel") ∈ lw_all := lw_g (lw_at lw_m15 176 rfl) rfl
theorem q3673 : (Jvm.Cond.methodLink "RoseGuildLaw" (122 : Nat) ({ cls := "RoseGuildModel", name := "<init>", desc := "()V" } : Jvm.MethodName)) ∈ lw_all := lw_g (lw_at lw_m15 178 rfl) rfl
theorem q3889 : (Jvm.Cond.methodLink "RoseGuildLaw" (129 : Nat) ({ cls := "RoseGuildModel", name := "thrown", desc := "()I" } : Jvm.MethodName)) ∈ lw_all := lw_g (lw_at lw_m16 154 rfl) rfl
theorem q3893 : (Jvm.Cond.methodLink "RoseGuildLaw" (128 : Nat) ({ cls := "RoseGuildModel", name := "append", desc := "(IIIII)I" } : Jvm.MethodName)) ∈ lw_all := lw_g (lw_at lw_m16 158 rfl) rfl
theorem q3905 : (Jvm.Cond.methodLink "RoseGuildLaw" (135 : Nat) ({ cls := "RoseGuildModel", name := "truncate", desc := "(I)I" } : Jvm.MethodName)) ∈ lw_all := lw_g (lw_at lw_m16 170 rfl) rfl
theorem q3909 : (Jvm.Cond.methodLink "RoseGuildLaw" (147 : Nat) ({ cls := "RoseGuildModel", name := "errorCode", desc := "()I" } : Jvm.MethodName)) ∈ lw_all := lw_g (lw_at lw_m16 174 rfl) rfl
theorem q3913 : (Jvm.Cond.methodLink "RoseGuildLaw" (151 : Nat) ({ cls := "RoseGuildModel", name := "errorPosition", desc := "()I" } : Jvm.MethodName)) ∈ lw_all := lw_g (lw_at lw_m16 178 rfl) rfl
theorem q3917 : (Jvm.Cond.methodLink "RoseGuildLaw" (139 : Nat) ({ cls := "RoseGuildModel", name := "load", desc := "()I" } : Jvm.MethodName)) ∈ lw_all := lw_g (lw_at lw_m16 182 rfl) rfl
theorem q3925 : (Jvm.Cond.methodLink "RoseGuildLaw" (143 : Nat) ({ cls := "RoseGuildModel", name := "runScript", desc := "()I" } : Jvm.MethodName)) ∈ lw_all := lw_g (lw_at lw_m16 190 rfl) rfl
theorem q4081 : (Jvm.Cond.methodLink "RoseGuildLaw" (155 : Nat) ({ cls := "RoseGuildModel", name := "streetCount", desc := "()I" } : Jvm.MethodName)) ∈ lw_all := lw_g (lw_at lw_m17 106 rfl) rfl
theorem q4085 : (Jvm.Cond.methodLink "RoseGuildLaw" (159 : Nat) ({ cls := "RoseGuildModel", name := "findStreet", desc := "()I" } : Jvm.MethodName)) ∈ lw_all := lw_g (lw_at lw_m17 110 rfl) rfl
theorem q4093 : (Jvm.Cond.methodLink "RoseGuildLaw" (163 : Nat) ({ cls := "RoseGuildModel", name := "streetAt", desc := "(II)I" } : Jvm.MethodName)) ∈ lw_all := lw_g (lw_at lw_m17 118 rfl) rfl
theorem q4097 : (Jvm.Cond.methodLink "RoseGuildLaw" (166 : Nat) ({ cls := "RoseGuildModel", name := "bins", desc := "(I)I" } : Jvm.MethodName)) ∈ lw_all := lw_g (lw_at lw_m17 122 rfl) rfl
theorem q4105 : (Jvm.Cond.methodLink "RoseGuildLaw" (169 : Nat) ({ cls := "RoseGuildModel", name := "spilled", desc := "(I)I" } : Jvm.MethodName)) ∈ lw_all := lw_g (lw_at lw_m17 130 rfl) rfl
theorem q4109 : (Jvm.Cond.methodLink "RoseGuildLaw" (172 : Nat) ({ cls := "RoseGuildModel", name := "complaints", desc := "(I)I" } : Jvm.MethodName)) ∈ lw_all := lw_g (lw_at lw_m17 134 rfl) rfl
theorem q4113 : (Jvm.Cond.methodLink "RoseGuildLaw" (175 : Nat) ({ cls := "RoseGuildModel", name := "wasServed", desc := "(I)Z" } : Jvm.MethodName)) ∈ lw_all := lw_g (lw_at lw_m17 138 rfl) rfl
theorem q4117 : (Jvm.Cond.methodLink "RoseGuildLaw" (179 : Nat) ({ cls := "RoseGuildModel", name := "gardenCount", desc := "()I" } : Jvm.MethodName)) ∈ lw_all := lw_g (lw_at lw_m17 142 rfl) rfl
theorem q4121 : (Jvm.Cond.methodLink "RoseGuildLaw" (183 : Nat) ({ cls := "RoseGuildModel", name := "findGarden", desc := "()I" } : Jvm.MethodName)) ∈ lw_all := lw_g (lw_at lw_m17 146 rfl) rfl
theorem q4125 : (Jvm.Cond.methodLink "RoseGuildLaw" (186 : Nat) ({ cls := "RoseGuildModel", name := "stock", desc := "(I)I" } : Jvm.MethodName)) ∈ lw_all := lw_g (lw_at lw_m17 150 rfl) rfl
theorem q4133 : (Jvm.Cond.methodLink "RoseGuildLaw" (189 : Nat) ({ cls := "RoseGuildModel", name := "petals", desc := "(I)I" } : Jvm.MethodName)) ∈ lw_all := lw_g (lw_at lw_m17 158 rfl) rfl
theorem q4137 : (Jvm.Cond.methodLink "RoseGuildLaw" (192 : Nat) ({ cls := "RoseGuildModel", name := "rotted", desc := "(I)I" } : Jvm.MethodName)) ∈ lw_all := lw_g (lw_at lw_m17 162 rfl) rfl
theorem q4141 : (Jvm.Cond.methodLink "RoseGuildLaw" (195 : Nat) ({ cls := "RoseGuildModel", name := "prizes", desc := "(I)I" } : Jvm.MethodName)) ∈ lw_all := lw_g (lw_at lw_m17 166 rfl) rfl
theorem q4145 : (Jvm.Cond.methodLink "RoseGuildLaw" (199 : Nat) ({ cls := "RoseGuildModel", name := "leadingGarden", desc := "()I" } : Jvm.MethodName)) ∈ lw_all := lw_g (lw_at lw_m17 170 rfl) rfl
theorem q4149 : (Jvm.Cond.methodLink "RoseGuildLaw" (203 : Nat) ({ cls := "RoseGuildModel", name := "cartCount", desc := "()I" } : Jvm.MethodName)) ∈ lw_all := lw_g (lw_at lw_m17 174 rfl) rfl
theorem q4153 : (Jvm.Cond.methodLink "RoseGuildLaw" (206 : Nat) ({ cls := "RoseGuildModel", name := "contractStreet", desc := "(I)I" } : Jvm.MethodName)) ∈ lw_all := lw_g (lw_at lw_m17 178 rfl) rfl
theorem q4161 : (Jvm.Cond.methodLink "RoseGuildLaw" (209 : Nat) ({ cls := "RoseGuildModel", name := "contractGarden", desc := "(I)I" } : Jvm.MethodName)) ∈ lw_all := lw_g (lw_at lw_m17 186 rfl) rfl
theorem q4165 : (Jvm.Cond.methodLink "RoseGuildLaw" (212 : Nat) ({ cls := "RoseGuildModel", name := "nightsLeft", desc := "(I)I" } : Jvm.MethodName)) ∈ lw_all := lw_g (lw_at lw_m17 190 rfl) rfl
theorem q4169 : (Jvm.Cond.methodLink "RoseGuildLaw" (216 : Nat) ({ cls := "RoseGuildModel", name := "hoursNeeded", desc := "(III)I" } : Jvm.MethodName)) ∈ lw_all := lw_g (lw_at lw_m17 194 rfl) rfl
theorem q4173 : (Jvm.Cond.methodLink "RoseGuildLaw" (219 : Nat) ({ cls := "RoseGuildModel", name := "nextLoad", desc := "(I)I" } : Jvm.MethodName)) ∈ lw_all := lw_g (lw_at lw_m17 198 rfl) rfl
theorem q4189 : (Jvm.Cond.methodLink "RoseGuildLaw" (222 : Nat) ({ cls := "RoseGuildModel", name := "outlook", desc := "(I)I" } : Jvm.MethodName)) ∈ lw_all := lw_g (lw_at lw_m17 214 rfl) rfl
theorem q4193 : (Jvm.Cond.methodLink "RoseGuildLaw" (226 : Nat) ({ cls := "RoseGuildModel", name := "quickestGarden", desc := "(II)I" } : Jvm.MethodName)) ∈ lw_all := lw_g (lw_at lw_m17 218 rfl) rfl
theorem q4197 : (Jvm.Cond.methodLink "RoseGuildLaw" (230 : Nat) ({ cls := "RoseGuildModel", name := "night", desc := "()I" } : Jvm.MethodName)) ∈ lw_all := lw_g (lw_at lw_m17 222 rfl) rfl
theorem q4201 : (Jvm.Cond.methodLink "RoseGuildLaw" (234 : Nat) ({ cls := "RoseGuildModel", name := "balance", desc := "()I" } : Jvm.MethodName)) ∈ lw_all := lw_g (lw_at lw_m17 226 rfl) rfl
theorem q4205 : (Jvm.Cond.methodLink "RoseGuildLaw" (238 : Nat) ({ cls := "RoseGuildModel", name := "price", desc := "()I" } : Jvm.MethodName)) ∈ lw_all := lw_g (lw_at lw_m17 230 rfl) rfl
theorem q4209 : (Jvm.Cond.methodLink "RoseGuildLaw" (242 : Nat) ({ cls := "RoseGuildModel", name := "wind", desc := "()I" } : Jvm.MethodName)) ∈ lw_all := lw_g (lw_at lw_m17 234 rfl) rfl
theorem q4213 : (Jvm.Cond.methodLink "RoseGuildLaw" (245 : Nat) ({ cls := "RoseGuildModel", name := "smellReaches", desc := "(III)Z" } : Jvm.MethodName)) ∈ lw_all := lw_g (lw_at lw_m17 238 rfl) rfl
theorem q4217 : (Jvm.Cond.methodLink "RoseGuildLaw" (249 : Nat) ({ cls := "RoseGuildModel", name := "deliveryCount", desc := "()I" } : Jvm.MethodName)) ∈ lw_all := lw_g (lw_at lw_m18 2 rfl) rfl
theorem q4221 : (Jvm.Cond.methodLink "RoseGuildLaw" (253 : Nat) ({ cls := "RoseGuildModel", name := "lateCount", desc := "()I" } : Jvm.MethodName)) ∈ lw_all := lw_g (lw_at lw_m18 6 rfl) rfl
theorem q4225 : (Jvm.Cond.methodLink "RoseGuildLaw" (258 : Nat) ({ cls := "RoseGuildModel", name := "meanLoad", desc := "()D" } : Jvm.MethodName)) ∈ lw_all := lw_g (lw_at lw_m18 10 rfl) rfl
theorem q4229 : (Jvm.Cond.methodLink "RoseGuildLaw" (262 : Nat) ({ cls := "RoseGuildModel", name := "petalShare", desc := "(I)F" } : Jvm.MethodName)) ∈ lw_all := lw_g (lw_at lw_m18 14 rfl) rfl
theorem q4233 : (Jvm.Cond.methodLink "RoseGuildLaw" (266 : Nat) ({ cls := "RoseGuildModel", name := "contradictions", desc := "()I" } : Jvm.MethodName)) ∈ lw_all := lw_g (lw_at lw_m18 18 rfl) rfl
theorem q4237 : (Jvm.Cond.methodLink "RoseGuildLaw" (269 : Nat) ({ cls := "RoseGuildModel", name := "binsAfter", desc := "(II)I" } : Jvm.MethodName)) ∈ lw_all := lw_g (lw_at lw_m18 22 rfl) rfl
theorem q4241 : (Jvm.Cond.methodLink "RoseGuildLaw" (272 : Nat) ({ cls := "RoseGuildModel", name := "nightsUntilSpill", desc := "(I)I" } : Jvm.MethodName)) ∈ lw_all := lw_g (lw_at lw_m18 26 rfl) rfl
theorem q4245 : (Jvm.Cond.methodLink "RoseGuildLaw" (275 : Nat) ({ cls := "RoseGuildModel", name := "petalsAfter", desc := "(II)I" } : Jvm.MethodName)) ∈ lw_all := lw_g (lw_at lw_m18 30 rfl) rfl
theorem q4249 : (Jvm.Cond.methodLink "RoseGuildLaw" (278 : Nat) ({ cls := "RoseGuildModel", name := "balanceAfter", desc := "(I)I" } : Jvm.MethodName)) ∈ lw_all := lw_g (lw_at lw_m18 34 rfl) rfl
theorem q4253 : (Jvm.Cond.methodLink "RoseGuildLaw" (282 : Nat) ({ cls := "RoseGuildModel", name := "nextWinner", desc := "()I" } : Jvm.MethodName)) ∈ lw_all := lw_g (lw_at lw_m18 38 rfl) rfl
theorem q4257 : (Jvm.Cond.methodLink "RoseGuildLaw" (286 : Nat) ({ cls := "RoseGuildModel", name := "sign", desc := "(IIII)I" } : Jvm.MethodName)) ∈ lw_all := lw_g (lw_at lw_m18 42 rfl) rfl
theorem q4261 : (Jvm.Cond.methodLink "RoseGuildLaw" (289 : Nat) ({ cls := "RoseGuildModel", name := "cancel", desc := "(I)I" } : Jvm.MethodName)) ∈ lw_all := lw_g (lw_at lw_m18 46 rfl) rfl
theorem q4265 : (Jvm.Cond.methodLink "RoseGuildLaw" (292 : Nat) ({ cls := "RoseGuildModel", name := "advance", desc := "(I)I" } : Jvm.MethodName)) ∈ lw_all := lw_g (lw_at lw_m18 50 rfl) rfl
theorem q4269 : (Jvm.Cond.methodLink "RoseGuildLaw" (295 : Nat) ({ cls := "RoseGuildModel", name := "setWindOffset", desc := "(I)I" } : Jvm.MethodName)) ∈ lw_all := lw_g (lw_at lw_m18 54 rfl) rfl
theorem q4273 : (Jvm.Cond.methodLink "RoseGuildLaw" (298 : Nat) ({ cls := "RoseGuildModel", name := "setPrice", desc := "(I)I" } : Jvm.MethodName)) ∈ lw_all := lw_g (lw_at lw_m18 58 rfl) rfl
theorem q4277 : (Jvm.Cond.methodLink "RoseGuildLaw" (302 : Nat) ({ cls := "RoseGuildModel", name := "writeContracts", desc := "()I" } : Jvm.MethodName)) ∈ lw_all := lw_g (lw_at lw_m18 62 rfl) rfl
theorem q4293 : (Jvm.Cond.methodLink "RoseGuildLaw" (306 : Nat) ({ cls := "RoseGuildModel", name := "writeDeliveries", desc := "()I" } : Jvm.MethodName)) ∈ lw_all := lw_g (lw_at lw_m18 78 rfl) rfl
theorem q4297 : (Jvm.Cond.methodLink "RoseGuildLaw" (310 : Nat) ({ cls := "RoseGuildModel", name := "outputByte", desc := "(I)I" } : Jvm.MethodName)) ∈ lw_all := lw_g (lw_at lw_m18 82 rfl) rfl
theorem q4301 : (Jvm.Cond.methodLink "RoseGuildLaw" (314 : Nat) ({ cls := "RoseGuildModel", name := "undoCount", desc := "()I" } : Jvm.MethodName)) ∈ lw_all := lw_g (lw_at lw_m18 86 rfl) rfl
theorem q4305 : (Jvm.Cond.methodLink "RoseGuildLaw" (318 : Nat) ({ cls := "RoseGuildModel", name := "undo", desc := "()I" } : Jvm.MethodName)) ∈ lw_all := lw_g (lw_at lw_m18 90 rfl) rfl
theorem q4309 : (Jvm.Cond.methodLink "RoseGuildLaw" (321 : Nat) ({ cls := "RoseGuildModel", name := "save", desc := "(I)I" } : Jvm.MethodName)) ∈ lw_all := lw_g (lw_at lw_m18 94 rfl) rfl
theorem q4313 : (Jvm.Cond.methodLink "RoseGuildLaw" (324 : Nat) ({ cls := "RoseGuildModel", name := "restore", desc := "(I)I" } : Jvm.MethodName)) ∈ lw_all := lw_g (lw_at lw_m18 98 rfl) rfl

/-! RoseGuild -/
set_option maxRecDepth 100000
def RX1 : String := "RoseGuild"
def TX1 : u_T := fun k => match k with
  | 0 => ("RoseGuild", "text", "[B", true)
  | 1 => ("RoseGuild", "textLength", "I", false)
  | 2 => ("RoseGuild", "errorCode", "I", false)
  | 3 => ("RoseGuild", "errorPosition", "I", false)
  | 4 => ("RoseGuild", "guild", "LRoseGuild$Guild;", false)
  | 5 => ("RoseGuild", "history", "Ljava/util/ArrayDeque;", true)
  | 6 => ("RoseGuild", "slots", "[LRoseGuild$Guild;", true)
  | 7 => ("RoseGuild", "output", "Ljava/lang/String;", false)
  | _ => ("RoseGuild", "executed", "I", false)
def tyX1 : Nat → FieldType := fun k => match k with
  | 0 => .array .byte
  | 1 => .int
  | 2 => .int
  | 3 => .int
  | 4 => .object "RoseGuild$Guild"
  | 5 => .object "java/util/ArrayDeque"
  | 6 => .array (.object "RoseGuild$Guild")
  | 7 => .object "java/lang/String"
  | _ => .int
abbrev wsX10 : List Cond := u_ws RX1 TX1 9
theorem nmX1 : ∀ a, a < 9 → ∀ b, b < 9 → a ≠ b → (TX1 a).2.1 ≠ (TX1 b).2.1 := by decide +kernel
theorem tyX1_ok : ∀ k, k < 9 → parseFieldDescriptor (TX1 k).2.2.1 = some (tyX1 k) := by decide +kernel
abbrev cX1_init : ByteArray := prog_1_method_2_code
def yX1_init : MethodName := ⟨RX1, "<init>", "()V"⟩
def dkwX1_init_10 : List UInt8 := [180, 0, 39, 16, 10, 8, 1, 182, 0, 76, 177]
abbrev dktX1_init_10 : List UInt8 := dkwX1_init_10 ++ []
def dkwX1_init_9 : List UInt8 := [180, 0, 39, 16, 20, 6, 1, 182, 0, 76, 42, 180, 0, 39, 16, 35, 5, 1, 182, 0, 76, 42]
abbrev dktX1_init_9 : List UInt8 := dkwX1_init_9 ++ dktX1_init_10
def dkwX1_init_8 : List UInt8 := [89, 4, 18, 74, 187, 0, 47, 89, 16, 8, 4, 183, 0, 49, 16, 14, 183, 0, 67, 182, 0, 70, 42]
abbrev dktX1_init_8 : List UInt8 := dkwX1_init_8 ++ dktX1_init_9
def dkwX1_init_7 : List UInt8 := [187, 0, 47, 89, 7, 6, 183, 0, 49, 16, 9, 183, 0, 67, 182, 0, 70, 42, 180, 0, 39, 187, 0, 63]
abbrev dktX1_init_7 : List UInt8 := dkwX1_init_7 ++ dktX1_init_8
def dkwX1_init_6 : List UInt8 := [183, 0, 49, 16, 7, 16, 50, 183, 0, 52, 182, 0, 55, 42, 180, 0, 39, 187, 0, 63, 89, 3, 18, 65]
abbrev dktX1_init_6 : List UInt8 := dkwX1_init_6 ++ dktX1_init_7
def dkwX1_init_5 : List UInt8 := [183, 0, 52, 182, 0, 55, 42, 180, 0, 39, 187, 0, 43, 89, 5, 18, 61, 187, 0, 47, 89, 5, 7]
abbrev dktX1_init_5 : List UInt8 := dkwX1_init_5 ++ dktX1_init_6
def dkwX1_init_4 : List UInt8 := [180, 0, 39, 187, 0, 43, 89, 4, 18, 59, 187, 0, 47, 89, 8, 4, 183, 0, 49, 16, 30, 16, 60]
abbrev dktX1_init_4 : List UInt8 := dkwX1_init_4 ++ dktX1_init_5
def dkwX1_init_3 : List UInt8 := [18, 45, 187, 0, 47, 89, 5, 4, 183, 0, 49, 16, 12, 16, 40, 183, 0, 52, 182, 0, 55, 42]
abbrev dktX1_init_3 : List UInt8 := dkwX1_init_3 ++ dktX1_init_4
def dkwX1_init_2 : List UInt8 := [89, 8, 5, 16, 9, 16, 30, 4, 183, 0, 36, 181, 0, 39, 42, 180, 0, 39, 187, 0, 43, 89, 3]
abbrev dktX1_init_2 : List UInt8 := dkwX1_init_2 ++ dktX1_init_3
def dkwX1_init_1 : List UInt8 := [183, 0, 19, 181, 0, 20, 42, 5, 189, 0, 24, 181, 0, 26, 42, 18, 30, 181, 0, 32, 42, 187, 0, 24]
abbrev dktX1_init_1 : List UInt8 := dkwX1_init_1 ++ dktX1_init_2
def dkwX1_init_0 : List UInt8 := [42, 183, 0, 1, 42, 17, 2, 188, 188, 8, 181, 0, 9, 42, 2, 181, 0, 13, 42, 187, 0, 17, 89]
abbrev dktX1_init_0 : List UInt8 := dkwX1_init_0 ++ dktX1_init_1
theorem dksX1_init_0 : cX1_init.data.toList.drop 0 = dktX1_init_0 := by decide +kernel
theorem dksX1_init_1 : cX1_init.data.toList.drop 23 = dktX1_init_1 := dk_seg dksX1_init_0 23 rfl rfl
theorem dksX1_init_2 : cX1_init.data.toList.drop 47 = dktX1_init_2 := dk_seg dksX1_init_1 24 rfl rfl
theorem dksX1_init_3 : cX1_init.data.toList.drop 70 = dktX1_init_3 := dk_seg dksX1_init_2 23 rfl rfl
theorem dksX1_init_4 : cX1_init.data.toList.drop 92 = dktX1_init_4 := dk_seg dksX1_init_3 22 rfl rfl
theorem dksX1_init_5 : cX1_init.data.toList.drop 115 = dktX1_init_5 := dk_seg dksX1_init_4 23 rfl rfl
theorem dksX1_init_6 : cX1_init.data.toList.drop 138 = dktX1_init_6 := dk_seg dksX1_init_5 23 rfl rfl
theorem dksX1_init_7 : cX1_init.data.toList.drop 162 = dktX1_init_7 := dk_seg dksX1_init_6 24 rfl rfl
theorem dksX1_init_8 : cX1_init.data.toList.drop 186 = dktX1_init_8 := dk_seg dksX1_init_7 24 rfl rfl
theorem dksX1_init_9 : cX1_init.data.toList.drop 209 = dktX1_init_9 := dk_seg dksX1_init_8 23 rfl rfl
theorem dksX1_init_10 : cX1_init.data.toList.drop 231 = dktX1_init_10 := dk_seg dksX1_init_9 22 rfl rfl
theorem dX1_init_0 : decode cX1_init 0 = .ok (.aload_n 0, 1) := dk_42 (dk_at dksX1_init_0 0 rfl rfl)
theorem dX1_init_1 : decode cX1_init 1 = .ok (.invokespecial 1, 3) := dk_183 0 1 (dk_at dksX1_init_0 1 rfl rfl)
theorem dX1_init_4 : decode cX1_init 4 = .ok (.aload_n 0, 1) := dk_42 (dk_at dksX1_init_0 4 rfl rfl)
theorem dX1_init_5 : decode cX1_init 5 = .ok (.sipush 700, 3) := dk_17 2 188 (dk_at dksX1_init_0 5 rfl rfl)
theorem dX1_init_8 : decode cX1_init 8 = .ok (.newarray .byte, 2) := dk_188_8 (dk_at dksX1_init_0 8 rfl rfl)
theorem dX1_init_10 : decode cX1_init 10 = .ok (.putfield 9, 3) := dk_181 0 9 (dk_at dksX1_init_0 10 rfl rfl)
theorem dX1_init_13 : decode cX1_init 13 = .ok (.aload_n 0, 1) := dk_42 (dk_at dksX1_init_0 13 rfl rfl)
theorem dX1_init_14 : decode cX1_init 14 = .ok (.iconst (-1), 1) := dk_2 (dk_at dksX1_init_0 14 rfl rfl)
theorem dX1_init_15 : decode cX1_init 15 = .ok (.putfield 13, 3) := dk_181 0 13 (dk_at dksX1_init_0 15 rfl rfl)
theorem dX1_init_18 : decode cX1_init 18 = .ok (.aload_n 0, 1) := dk_42 (dk_at dksX1_init_0 18 rfl rfl)
theorem dX1_init_19 : decode cX1_init 19 = .ok (.new 17, 3) := dk_187 0 17 (dk_at dksX1_init_0 19 rfl rfl)
theorem dX1_init_22 : decode cX1_init 22 = .ok (.dup, 1) := dk_89 (dk_at dksX1_init_0 22 rfl rfl)
theorem dX1_init_23 : decode cX1_init 23 = .ok (.invokespecial 19, 3) := dk_183 0 19 (dk_at dksX1_init_1 0 rfl rfl)
theorem dX1_init_26 : decode cX1_init 26 = .ok (.putfield 20, 3) := dk_181 0 20 (dk_at dksX1_init_1 3 rfl rfl)
theorem dX1_init_29 : decode cX1_init 29 = .ok (.aload_n 0, 1) := dk_42 (dk_at dksX1_init_1 6 rfl rfl)
theorem dX1_init_30 : decode cX1_init 30 = .ok (.iconst 2, 1) := dk_5 (dk_at dksX1_init_1 7 rfl rfl)
theorem dX1_init_31 : decode cX1_init 31 = .ok (.anewarray 24, 3) := dk_189 0 24 (dk_at dksX1_init_1 8 rfl rfl)
theorem dX1_init_34 : decode cX1_init 34 = .ok (.putfield 26, 3) := dk_181 0 26 (dk_at dksX1_init_1 11 rfl rfl)
theorem dX1_init_37 : decode cX1_init 37 = .ok (.aload_n 0, 1) := dk_42 (dk_at dksX1_init_1 14 rfl rfl)
theorem dX1_init_38 : decode cX1_init 38 = .ok (.ldc 30, 2) := dk_18 30 (dk_at dksX1_init_1 15 rfl rfl)
theorem dX1_init_40 : decode cX1_init 40 = .ok (.putfield 32, 3) := dk_181 0 32 (dk_at dksX1_init_1 17 rfl rfl)
theorem dX1_init_43 : decode cX1_init 43 = .ok (.aload_n 0, 1) := dk_42 (dk_at dksX1_init_1 20 rfl rfl)
theorem dX1_init_44 : decode cX1_init 44 = .ok (.new 24, 3) := dk_187 0 24 (dk_at dksX1_init_1 21 rfl rfl)
theorem dX1_init_47 : decode cX1_init 47 = .ok (.dup, 1) := dk_89 (dk_at dksX1_init_2 0 rfl rfl)
theorem dX1_init_48 : decode cX1_init 48 = .ok (.iconst 5, 1) := dk_8 (dk_at dksX1_init_2 1 rfl rfl)
theorem dX1_init_49 : decode cX1_init 49 = .ok (.iconst 2, 1) := dk_5 (dk_at dksX1_init_2 2 rfl rfl)
theorem dX1_init_50 : decode cX1_init 50 = .ok (.bipush 9, 2) := dk_16 9 (dk_at dksX1_init_2 3 rfl rfl)
theorem dX1_init_52 : decode cX1_init 52 = .ok (.bipush 30, 2) := dk_16 30 (dk_at dksX1_init_2 5 rfl rfl)
theorem dX1_init_54 : decode cX1_init 54 = .ok (.iconst 1, 1) := dk_4 (dk_at dksX1_init_2 7 rfl rfl)
theorem dX1_init_55 : decode cX1_init 55 = .ok (.invokespecial 36, 3) := dk_183 0 36 (dk_at dksX1_init_2 8 rfl rfl)
theorem dX1_init_58 : decode cX1_init 58 = .ok (.putfield 39, 3) := dk_181 0 39 (dk_at dksX1_init_2 11 rfl rfl)
theorem dX1_init_61 : decode cX1_init 61 = .ok (.aload_n 0, 1) := dk_42 (dk_at dksX1_init_2 14 rfl rfl)
theorem dX1_init_62 : decode cX1_init 62 = .ok (.getfield 39, 3) := dk_180 0 39 (dk_at dksX1_init_2 15 rfl rfl)
theorem dX1_init_65 : decode cX1_init 65 = .ok (.new 43, 3) := dk_187 0 43 (dk_at dksX1_init_2 18 rfl rfl)
theorem dX1_init_68 : decode cX1_init 68 = .ok (.dup, 1) := dk_89 (dk_at dksX1_init_2 21 rfl rfl)
theorem dX1_init_69 : decode cX1_init 69 = .ok (.iconst 0, 1) := dk_3 (dk_at dksX1_init_2 22 rfl rfl)
theorem dX1_init_70 : decode cX1_init 70 = .ok (.ldc 45, 2) := dk_18 45 (dk_at dksX1_init_3 0 rfl rfl)
theorem dX1_init_72 : decode cX1_init 72 = .ok (.new 47, 3) := dk_187 0 47 (dk_at dksX1_init_3 2 rfl rfl)
theorem dX1_init_75 : decode cX1_init 75 = .ok (.dup, 1) := dk_89 (dk_at dksX1_init_3 5 rfl rfl)
theorem dX1_init_76 : decode cX1_init 76 = .ok (.iconst 2, 1) := dk_5 (dk_at dksX1_init_3 6 rfl rfl)
theorem dX1_init_77 : decode cX1_init 77 = .ok (.iconst 1, 1) := dk_4 (dk_at dksX1_init_3 7 rfl rfl)
theorem dX1_init_78 : decode cX1_init 78 = .ok (.invokespecial 49, 3) := dk_183 0 49 (dk_at dksX1_init_3 8 rfl rfl)
theorem dX1_init_81 : decode cX1_init 81 = .ok (.bipush 12, 2) := dk_16 12 (dk_at dksX1_init_3 11 rfl rfl)
theorem dX1_init_83 : decode cX1_init 83 = .ok (.bipush 40, 2) := dk_16 40 (dk_at dksX1_init_3 13 rfl rfl)
theorem dX1_init_85 : decode cX1_init 85 = .ok (.invokespecial 52, 3) := dk_183 0 52 (dk_at dksX1_init_3 15 rfl rfl)
theorem dX1_init_88 : decode cX1_init 88 = .ok (.invokevirtual 55, 3) := dk_182 0 55 (dk_at dksX1_init_3 18 rfl rfl)
theorem dX1_init_91 : decode cX1_init 91 = .ok (.aload_n 0, 1) := dk_42 (dk_at dksX1_init_3 21 rfl rfl)
theorem dX1_init_92 : decode cX1_init 92 = .ok (.getfield 39, 3) := dk_180 0 39 (dk_at dksX1_init_4 0 rfl rfl)
theorem dX1_init_95 : decode cX1_init 95 = .ok (.new 43, 3) := dk_187 0 43 (dk_at dksX1_init_4 3 rfl rfl)
theorem dX1_init_98 : decode cX1_init 98 = .ok (.dup, 1) := dk_89 (dk_at dksX1_init_4 6 rfl rfl)
theorem dX1_init_99 : decode cX1_init 99 = .ok (.iconst 1, 1) := dk_4 (dk_at dksX1_init_4 7 rfl rfl)
theorem dX1_init_100 : decode cX1_init 100 = .ok (.ldc 59, 2) := dk_18 59 (dk_at dksX1_init_4 8 rfl rfl)
theorem dX1_init_102 : decode cX1_init 102 = .ok (.new 47, 3) := dk_187 0 47 (dk_at dksX1_init_4 10 rfl rfl)
theorem dX1_init_105 : decode cX1_init 105 = .ok (.dup, 1) := dk_89 (dk_at dksX1_init_4 13 rfl rfl)
theorem dX1_init_106 : decode cX1_init 106 = .ok (.iconst 5, 1) := dk_8 (dk_at dksX1_init_4 14 rfl rfl)
theorem dX1_init_107 : decode cX1_init 107 = .ok (.iconst 1, 1) := dk_4 (dk_at dksX1_init_4 15 rfl rfl)
theorem dX1_init_108 : decode cX1_init 108 = .ok (.invokespecial 49, 3) := dk_183 0 49 (dk_at dksX1_init_4 16 rfl rfl)
theorem dX1_init_111 : decode cX1_init 111 = .ok (.bipush 30, 2) := dk_16 30 (dk_at dksX1_init_4 19 rfl rfl)
theorem dX1_init_113 : decode cX1_init 113 = .ok (.bipush 60, 2) := dk_16 60 (dk_at dksX1_init_4 21 rfl rfl)
theorem dX1_init_115 : decode cX1_init 115 = .ok (.invokespecial 52, 3) := dk_183 0 52 (dk_at dksX1_init_5 0 rfl rfl)
theorem dX1_init_118 : decode cX1_init 118 = .ok (.invokevirtual 55, 3) := dk_182 0 55 (dk_at dksX1_init_5 3 rfl rfl)
theorem dX1_init_121 : decode cX1_init 121 = .ok (.aload_n 0, 1) := dk_42 (dk_at dksX1_init_5 6 rfl rfl)
theorem dX1_init_122 : decode cX1_init 122 = .ok (.getfield 39, 3) := dk_180 0 39 (dk_at dksX1_init_5 7 rfl rfl)
theorem dX1_init_125 : decode cX1_init 125 = .ok (.new 43, 3) := dk_187 0 43 (dk_at dksX1_init_5 10 rfl rfl)
theorem dX1_init_128 : decode cX1_init 128 = .ok (.dup, 1) := dk_89 (dk_at dksX1_init_5 13 rfl rfl)
theorem dX1_init_129 : decode cX1_init 129 = .ok (.iconst 2, 1) := dk_5 (dk_at dksX1_init_5 14 rfl rfl)
theorem dX1_init_130 : decode cX1_init 130 = .ok (.ldc 61, 2) := dk_18 61 (dk_at dksX1_init_5 15 rfl rfl)
theorem dX1_init_132 : decode cX1_init 132 = .ok (.new 47, 3) := dk_187 0 47 (dk_at dksX1_init_5 17 rfl rfl)
theorem dX1_init_135 : decode cX1_init 135 = .ok (.dup, 1) := dk_89 (dk_at dksX1_init_5 20 rfl rfl)
theorem dX1_init_136 : decode cX1_init 136 = .ok (.iconst 2, 1) := dk_5 (dk_at dksX1_init_5 21 rfl rfl)
theorem dX1_init_137 : decode cX1_init 137 = .ok (.iconst 4, 1) := dk_7 (dk_at dksX1_init_5 22 rfl rfl)
theorem dX1_init_138 : decode cX1_init 138 = .ok (.invokespecial 49, 3) := dk_183 0 49 (dk_at dksX1_init_6 0 rfl rfl)
theorem dX1_init_141 : decode cX1_init 141 = .ok (.bipush 7, 2) := dk_16 7 (dk_at dksX1_init_6 3 rfl rfl)
theorem dX1_init_143 : decode cX1_init 143 = .ok (.bipush 50, 2) := dk_16 50 (dk_at dksX1_init_6 5 rfl rfl)
theorem dX1_init_145 : decode cX1_init 145 = .ok (.invokespecial 52, 3) := dk_183 0 52 (dk_at dksX1_init_6 7 rfl rfl)
theorem dX1_init_148 : decode cX1_init 148 = .ok (.invokevirtual 55, 3) := dk_182 0 55 (dk_at dksX1_init_6 10 rfl rfl)
theorem dX1_init_151 : decode cX1_init 151 = .ok (.aload_n 0, 1) := dk_42 (dk_at dksX1_init_6 13 rfl rfl)
theorem dX1_init_152 : decode cX1_init 152 = .ok (.getfield 39, 3) := dk_180 0 39 (dk_at dksX1_init_6 14 rfl rfl)
theorem dX1_init_155 : decode cX1_init 155 = .ok (.new 63, 3) := dk_187 0 63 (dk_at dksX1_init_6 17 rfl rfl)
theorem dX1_init_158 : decode cX1_init 158 = .ok (.dup, 1) := dk_89 (dk_at dksX1_init_6 20 rfl rfl)
theorem dX1_init_159 : decode cX1_init 159 = .ok (.iconst 0, 1) := dk_3 (dk_at dksX1_init_6 21 rfl rfl)
theorem dX1_init_160 : decode cX1_init 160 = .ok (.ldc 65, 2) := dk_18 65 (dk_at dksX1_init_6 22 rfl rfl)
theorem dX1_init_162 : decode cX1_init 162 = .ok (.new 47, 3) := dk_187 0 47 (dk_at dksX1_init_7 0 rfl rfl)
theorem dX1_init_165 : decode cX1_init 165 = .ok (.dup, 1) := dk_89 (dk_at dksX1_init_7 3 rfl rfl)
theorem dX1_init_166 : decode cX1_init 166 = .ok (.iconst 4, 1) := dk_7 (dk_at dksX1_init_7 4 rfl rfl)
theorem dX1_init_167 : decode cX1_init 167 = .ok (.iconst 3, 1) := dk_6 (dk_at dksX1_init_7 5 rfl rfl)
theorem dX1_init_168 : decode cX1_init 168 = .ok (.invokespecial 49, 3) := dk_183 0 49 (dk_at dksX1_init_7 6 rfl rfl)
theorem dX1_init_171 : decode cX1_init 171 = .ok (.bipush 9, 2) := dk_16 9 (dk_at dksX1_init_7 9 rfl rfl)
theorem dX1_init_173 : decode cX1_init 173 = .ok (.invokespecial 67, 3) := dk_183 0 67 (dk_at dksX1_init_7 11 rfl rfl)
theorem dX1_init_176 : decode cX1_init 176 = .ok (.invokevirtual 70, 3) := dk_182 0 70 (dk_at dksX1_init_7 14 rfl rfl)
theorem dX1_init_179 : decode cX1_init 179 = .ok (.aload_n 0, 1) := dk_42 (dk_at dksX1_init_7 17 rfl rfl)
theorem dX1_init_180 : decode cX1_init 180 = .ok (.getfield 39, 3) := dk_180 0 39 (dk_at dksX1_init_7 18 rfl rfl)
theorem dX1_init_183 : decode cX1_init 183 = .ok (.new 63, 3) := dk_187 0 63 (dk_at dksX1_init_7 21 rfl rfl)
theorem dX1_init_186 : decode cX1_init 186 = .ok (.dup, 1) := dk_89 (dk_at dksX1_init_8 0 rfl rfl)
theorem dX1_init_187 : decode cX1_init 187 = .ok (.iconst 1, 1) := dk_4 (dk_at dksX1_init_8 1 rfl rfl)
theorem dX1_init_188 : decode cX1_init 188 = .ok (.ldc 74, 2) := dk_18 74 (dk_at dksX1_init_8 2 rfl rfl)
theorem dX1_init_190 : decode cX1_init 190 = .ok (.new 47, 3) := dk_187 0 47 (dk_at dksX1_init_8 4 rfl rfl)
theorem dX1_init_193 : decode cX1_init 193 = .ok (.dup, 1) := dk_89 (dk_at dksX1_init_8 7 rfl rfl)
theorem dX1_init_194 : decode cX1_init 194 = .ok (.bipush 8, 2) := dk_16 8 (dk_at dksX1_init_8 8 rfl rfl)
theorem dX1_init_196 : decode cX1_init 196 = .ok (.iconst 1, 1) := dk_4 (dk_at dksX1_init_8 10 rfl rfl)
theorem dX1_init_197 : decode cX1_init 197 = .ok (.invokespecial 49, 3) := dk_183 0 49 (dk_at dksX1_init_8 11 rfl rfl)
theorem dX1_init_200 : decode cX1_init 200 = .ok (.bipush 14, 2) := dk_16 14 (dk_at dksX1_init_8 14 rfl rfl)
theorem dX1_init_202 : decode cX1_init 202 = .ok (.invokespecial 67, 3) := dk_183 0 67 (dk_at dksX1_init_8 16 rfl rfl)
theorem dX1_init_205 : decode cX1_init 205 = .ok (.invokevirtual 70, 3) := dk_182 0 70 (dk_at dksX1_init_8 19 rfl rfl)
theorem dX1_init_208 : decode cX1_init 208 = .ok (.aload_n 0, 1) := dk_42 (dk_at dksX1_init_8 22 rfl rfl)
theorem dX1_init_209 : decode cX1_init 209 = .ok (.getfield 39, 3) := dk_180 0 39 (dk_at dksX1_init_9 0 rfl rfl)
theorem dX1_init_212 : decode cX1_init 212 = .ok (.bipush 20, 2) := dk_16 20 (dk_at dksX1_init_9 3 rfl rfl)
theorem dX1_init_214 : decode cX1_init 214 = .ok (.iconst 3, 1) := dk_6 (dk_at dksX1_init_9 5 rfl rfl)
theorem dX1_init_215 : decode cX1_init 215 = .ok (.aconst_null, 1) := dk_1 (dk_at dksX1_init_9 6 rfl rfl)
theorem dX1_init_216 : decode cX1_init 216 = .ok (.invokevirtual 76, 3) := dk_182 0 76 (dk_at dksX1_init_9 7 rfl rfl)
theorem dX1_init_219 : decode cX1_init 219 = .ok (.aload_n 0, 1) := dk_42 (dk_at dksX1_init_9 10 rfl rfl)
theorem dX1_init_220 : decode cX1_init 220 = .ok (.getfield 39, 3) := dk_180 0 39 (dk_at dksX1_init_9 11 rfl rfl)
theorem dX1_init_223 : decode cX1_init 223 = .ok (.bipush 35, 2) := dk_16 35 (dk_at dksX1_init_9 14 rfl rfl)
theorem dX1_init_225 : decode cX1_init 225 = .ok (.iconst 2, 1) := dk_5 (dk_at dksX1_init_9 16 rfl rfl)
theorem dX1_init_226 : decode cX1_init 226 = .ok (.aconst_null, 1) := dk_1 (dk_at dksX1_init_9 17 rfl rfl)
theorem dX1_init_227 : decode cX1_init 227 = .ok (.invokevirtual 76, 3) := dk_182 0 76 (dk_at dksX1_init_9 18 rfl rfl)
theorem dX1_init_230 : decode cX1_init 230 = .ok (.aload_n 0, 1) := dk_42 (dk_at dksX1_init_9 21 rfl rfl)
theorem dX1_init_231 : decode cX1_init 231 = .ok (.getfield 39, 3) := dk_180 0 39 (dk_at dksX1_init_10 0 rfl rfl)
theorem dX1_init_234 : decode cX1_init 234 = .ok (.bipush 10, 2) := dk_16 10 (dk_at dksX1_init_10 3 rfl rfl)
theorem dX1_init_236 : decode cX1_init 236 = .ok (.iconst 5, 1) := dk_8 (dk_at dksX1_init_10 5 rfl rfl)
theorem dX1_init_237 : decode cX1_init 237 = .ok (.aconst_null, 1) := dk_1 (dk_at dksX1_init_10 6 rfl rfl)
theorem dX1_init_238 : decode cX1_init 238 = .ok (.invokevirtual 76, 3) := dk_182 0 76 (dk_at dksX1_init_10 7 rfl rfl)
theorem dX1_init_241 : decode cX1_init 241 = .ok (.return_, 1) := dk_177 (dk_at dksX1_init_10 10 rfl rfl)
abbrev cX1_load : ByteArray := prog_1_method_15_code
def yX1_load : MethodName := ⟨RX1, "load", "()I"⟩
def dkwX1_load_3 : List UInt8 := [27, 5, 162, 0, 16, 42, 180, 0, 26, 27, 1, 83, 132, 1, 1, 167, 255, 241, 3, 172]
abbrev dktX1_load_3 : List UInt8 := dkwX1_load_3 ++ []
def dkwX1_load_2 : List UInt8 := [42, 3, 181, 0, 128, 28, 172, 78, 42, 3, 181, 0, 128, 45, 191, 42, 180, 0, 20, 182, 0, 168, 3, 60]
abbrev dktX1_load_2 : List UInt8 := dkwX1_load_2 ++ dktX1_load_3
def dkwX1_load_1 : List UInt8 := [181, 0, 128, 167, 0, 36, 76, 42, 43, 180, 0, 162, 43, 180, 0, 165, 182, 0, 148, 42, 180, 0, 145, 61]
abbrev dktX1_load_1 : List UInt8 := dkwX1_load_1 ++ dktX1_load_2
def dkwX1_load_0 : List UInt8 := [42, 3, 2, 182, 0, 148, 42, 187, 0, 151, 89, 42, 183, 0, 153, 182, 0, 156, 181, 0, 39, 42, 3]
abbrev dktX1_load_0 : List UInt8 := dkwX1_load_0 ++ dktX1_load_1
theorem dksX1_load_0 : cX1_load.data.toList.drop 0 = dktX1_load_0 := by decide +kernel
theorem dksX1_load_1 : cX1_load.data.toList.drop 23 = dktX1_load_1 := dk_seg dksX1_load_0 23 rfl rfl
theorem dksX1_load_2 : cX1_load.data.toList.drop 47 = dktX1_load_2 := dk_seg dksX1_load_1 24 rfl rfl
theorem dksX1_load_3 : cX1_load.data.toList.drop 71 = dktX1_load_3 := dk_seg dksX1_load_2 24 rfl rfl
theorem dX1_load_0 : decode cX1_load 0 = .ok (.aload_n 0, 1) := dk_42 (dk_at dksX1_load_0 0 rfl rfl)
theorem dX1_load_1 : decode cX1_load 1 = .ok (.iconst 0, 1) := dk_3 (dk_at dksX1_load_0 1 rfl rfl)
theorem dX1_load_2 : decode cX1_load 2 = .ok (.iconst (-1), 1) := dk_2 (dk_at dksX1_load_0 2 rfl rfl)
theorem dX1_load_3 : decode cX1_load 3 = .ok (.invokevirtual 148, 3) := dk_182 0 148 (dk_at dksX1_load_0 3 rfl rfl)
theorem dX1_load_6 : decode cX1_load 6 = .ok (.aload_n 0, 1) := dk_42 (dk_at dksX1_load_0 6 rfl rfl)
theorem dX1_load_7 : decode cX1_load 7 = .ok (.new 151, 3) := dk_187 0 151 (dk_at dksX1_load_0 7 rfl rfl)
theorem dX1_load_10 : decode cX1_load 10 = .ok (.dup, 1) := dk_89 (dk_at dksX1_load_0 10 rfl rfl)
theorem dX1_load_11 : decode cX1_load 11 = .ok (.aload_n 0, 1) := dk_42 (dk_at dksX1_load_0 11 rfl rfl)
theorem dX1_load_12 : decode cX1_load 12 = .ok (.invokespecial 153, 3) := dk_183 0 153 (dk_at dksX1_load_0 12 rfl rfl)
theorem dX1_load_15 : decode cX1_load 15 = .ok (.invokevirtual 156, 3) := dk_182 0 156 (dk_at dksX1_load_0 15 rfl rfl)
theorem dX1_load_18 : decode cX1_load 18 = .ok (.putfield 39, 3) := dk_181 0 39 (dk_at dksX1_load_0 18 rfl rfl)
theorem dX1_load_21 : decode cX1_load 21 = .ok (.aload_n 0, 1) := dk_42 (dk_at dksX1_load_0 21 rfl rfl)
theorem dX1_load_22 : decode cX1_load 22 = .ok (.iconst 0, 1) := dk_3 (dk_at dksX1_load_0 22 rfl rfl)
theorem dX1_load_23 : decode cX1_load 23 = .ok (.putfield 128, 3) := dk_181 0 128 (dk_at dksX1_load_1 0 rfl rfl)
theorem dX1_load_26 : decode cX1_load 26 = .ok (.goto 36, 3) := dk_167 0 36 (dk_at dksX1_load_1 3 rfl rfl)
theorem dX1_load_29 : decode cX1_load 29 = .ok (.astore_n 1, 1) := dk_76 (dk_at dksX1_load_1 6 rfl rfl)
theorem dX1_load_30 : decode cX1_load 30 = .ok (.aload_n 0, 1) := dk_42 (dk_at dksX1_load_1 7 rfl rfl)
theorem dX1_load_31 : decode cX1_load 31 = .ok (.aload_n 1, 1) := dk_43 (dk_at dksX1_load_1 8 rfl rfl)
theorem dX1_load_32 : decode cX1_load 32 = .ok (.getfield 162, 3) := dk_180 0 162 (dk_at dksX1_load_1 9 rfl rfl)
theorem dX1_load_35 : decode cX1_load 35 = .ok (.aload_n 1, 1) := dk_43 (dk_at dksX1_load_1 12 rfl rfl)
theorem dX1_load_36 : decode cX1_load 36 = .ok (.getfield 165, 3) := dk_180 0 165 (dk_at dksX1_load_1 13 rfl rfl)
theorem dX1_load_39 : decode cX1_load 39 = .ok (.invokevirtual 148, 3) := dk_182 0 148 (dk_at dksX1_load_1 16 rfl rfl)
theorem dX1_load_42 : decode cX1_load 42 = .ok (.aload_n 0, 1) := dk_42 (dk_at dksX1_load_1 19 rfl rfl)
theorem dX1_load_43 : decode cX1_load 43 = .ok (.getfield 145, 3) := dk_180 0 145 (dk_at dksX1_load_1 20 rfl rfl)
theorem dX1_load_46 : decode cX1_load 46 = .ok (.istore_n 2, 1) := dk_61 (dk_at dksX1_load_1 23 rfl rfl)
theorem dX1_load_47 : decode cX1_load 47 = .ok (.aload_n 0, 1) := dk_42 (dk_at dksX1_load_2 0 rfl rfl)
theorem dX1_load_48 : decode cX1_load 48 = .ok (.iconst 0, 1) := dk_3 (dk_at dksX1_load_2 1 rfl rfl)
theorem dX1_load_49 : decode cX1_load 49 = .ok (.putfield 128, 3) := dk_181 0 128 (dk_at dksX1_load_2 2 rfl rfl)
theorem dX1_load_52 : decode cX1_load 52 = .ok (.iload_n 2, 1) := dk_28 (dk_at dksX1_load_2 5 rfl rfl)
theorem dX1_load_53 : decode cX1_load 53 = .ok (.ireturn, 1) := dk_172 (dk_at dksX1_load_2 6 rfl rfl)
theorem dX1_load_54 : decode cX1_load 54 = .ok (.astore_n 3, 1) := dk_78 (dk_at dksX1_load_2 7 rfl rfl)
theorem dX1_load_55 : decode cX1_load 55 = .ok (.aload_n 0, 1) := dk_42 (dk_at dksX1_load_2 8 rfl rfl)
theorem dX1_load_56 : decode cX1_load 56 = .ok (.iconst 0, 1) := dk_3 (dk_at dksX1_load_2 9 rfl rfl)
theorem dX1_load_57 : decode cX1_load 57 = .ok (.putfield 128, 3) := dk_181 0 128 (dk_at dksX1_load_2 10 rfl rfl)
theorem dX1_load_60 : decode cX1_load 60 = .ok (.aload_n 3, 1) := dk_45 (dk_at dksX1_load_2 13 rfl rfl)
theorem dX1_load_61 : decode cX1_load 61 = .ok (.athrow, 1) := dk_191 (dk_at dksX1_load_2 14 rfl rfl)
theorem dX1_load_62 : decode cX1_load 62 = .ok (.aload_n 0, 1) := dk_42 (dk_at dksX1_load_2 15 rfl rfl)
theorem dX1_load_63 : decode cX1_load 63 = .ok (.getfield 20, 3) := dk_180 0 20 (dk_at dksX1_load_2 16 rfl rfl)
theorem dX1_load_66 : decode cX1_load 66 = .ok (.invokevirtual 168, 3) := dk_182 0 168 (dk_at dksX1_load_2 19 rfl rfl)
theorem dX1_load_69 : decode cX1_load 69 = .ok (.iconst 0, 1) := dk_3 (dk_at dksX1_load_2 22 rfl rfl)
theorem dX1_load_70 : decode cX1_load 70 = .ok (.istore_n 1, 1) := dk_60 (dk_at dksX1_load_2 23 rfl rfl)
theorem dX1_load_71 : decode cX1_load 71 = .ok (.iload_n 1, 1) := dk_27 (dk_at dksX1_load_3 0 rfl rfl)
theorem dX1_load_72 : decode cX1_load 72 = .ok (.iconst 2, 1) := dk_5 (dk_at dksX1_load_3 1 rfl rfl)
theorem dX1_load_73 : decode cX1_load 73 = .ok (.if_icmp .ge 16, 3) := dk_162 0 16 (dk_at dksX1_load_3 2 rfl rfl)
theorem dX1_load_76 : decode cX1_load 76 = .ok (.aload_n 0, 1) := dk_42 (dk_at dksX1_load_3 5 rfl rfl)
theorem dX1_load_77 : decode cX1_load 77 = .ok (.getfield 26, 3) := dk_180 0 26 (dk_at dksX1_load_3 6 rfl rfl)
theorem dX1_load_80 : decode cX1_load 80 = .ok (.iload_n 1, 1) := dk_27 (dk_at dksX1_load_3 9 rfl rfl)
theorem dX1_load_81 : decode cX1_load 81 = .ok (.aconst_null, 1) := dk_1 (dk_at dksX1_load_3 10 rfl rfl)
theorem dX1_load_82 : decode cX1_load 82 = .ok (.aastore, 1) := dk_83 (dk_at dksX1_load_3 11 rfl rfl)
theorem dX1_load_83 : decode cX1_load 83 = .ok (.iinc 1 1, 3) := dk_132 1 1 (dk_at dksX1_load_3 12 rfl rfl)
theorem dX1_load_86 : decode cX1_load 86 = .ok (.goto (-15), 3) := dk_167 255 241 (dk_at dksX1_load_3 15 rfl rfl)
theorem dX1_load_89 : decode cX1_load 89 = .ok (.iconst 0, 1) := dk_3 (dk_at dksX1_load_3 18 rfl rfl)
theorem dX1_load_90 : decode cX1_load 90 = .ok (.ireturn, 1) := dk_172 (dk_at dksX1_load_3 19 rfl rfl)
abbrev cX1_setError : ByteArray := prog_1_method_14_code
def yX1_setError : MethodName := ⟨RX1, "setError", "(II)V"⟩
def dkwX1_setError_0 : List UInt8 := [42, 27, 181, 0, 145, 42, 28, 181, 0, 13, 177]
abbrev dktX1_setError_0 : List UInt8 := dkwX1_setError_0 ++ []
theorem dksX1_setError_0 : cX1_setError.data.toList.drop 0 = dktX1_setError_0 := by decide +kernel
theorem dX1_setError_0 : decode cX1_setError 0 = .ok (.aload_n 0, 1) := dk_42 (dk_at dksX1_setError_0 0 rfl rfl)
theorem dX1_setError_1 : decode cX1_setError 1 = .ok (.iload_n 1, 1) := dk_27 (dk_at dksX1_setError_0 1 rfl rfl)
theorem dX1_setError_2 : decode cX1_setError 2 = .ok (.putfield 145, 3) := dk_181 0 145 (dk_at dksX1_setError_0 2 rfl rfl)
theorem dX1_setError_5 : decode cX1_setError 5 = .ok (.aload_n 0, 1) := dk_42 (dk_at dksX1_setError_0 5 rfl rfl)
theorem dX1_setError_6 : decode cX1_setError 6 = .ok (.iload_n 2, 1) := dk_28 (dk_at dksX1_setError_0 6 rfl rfl)
theorem dX1_setError_7 : decode cX1_setError 7 = .ok (.putfield 13, 3) := dk_181 0 13 (dk_at dksX1_setError_0 7 rfl rfl)
theorem dX1_setError_10 : decode cX1_setError 10 = .ok (.return_, 1) := dk_177 (dk_at dksX1_setError_0 10 rfl rfl)
abbrev cX1_isBetween : ByteArray := prog_1_method_1_code
def yX1_isBetween : MethodName := ⟨RX1, "isBetween", "(III)Z"⟩
def dkwX1_isBetween_0 : List UInt8 := [26, 27, 161, 0, 12, 26, 28, 163, 0, 7, 4, 167, 0, 4, 3, 172]
abbrev dktX1_isBetween_0 : List UInt8 := dkwX1_isBetween_0 ++ []
theorem dksX1_isBetween_0 : cX1_isBetween.data.toList.drop 0 = dktX1_isBetween_0 := by decide +kernel
theorem dX1_isBetween_0 : decode cX1_isBetween 0 = .ok (.iload_n 0, 1) := dk_26 (dk_at dksX1_isBetween_0 0 rfl rfl)
theorem dX1_isBetween_1 : decode cX1_isBetween 1 = .ok (.iload_n 1, 1) := dk_27 (dk_at dksX1_isBetween_0 1 rfl rfl)
theorem dX1_isBetween_2 : decode cX1_isBetween 2 = .ok (.if_icmp .lt 12, 3) := dk_161 0 12 (dk_at dksX1_isBetween_0 2 rfl rfl)
theorem dX1_isBetween_5 : decode cX1_isBetween 5 = .ok (.iload_n 0, 1) := dk_26 (dk_at dksX1_isBetween_0 5 rfl rfl)
theorem dX1_isBetween_6 : decode cX1_isBetween 6 = .ok (.iload_n 2, 1) := dk_28 (dk_at dksX1_isBetween_0 6 rfl rfl)
theorem dX1_isBetween_7 : decode cX1_isBetween 7 = .ok (.if_icmp .gt 7, 3) := dk_163 0 7 (dk_at dksX1_isBetween_0 7 rfl rfl)
theorem dX1_isBetween_10 : decode cX1_isBetween 10 = .ok (.iconst 1, 1) := dk_4 (dk_at dksX1_isBetween_0 10 rfl rfl)
theorem dX1_isBetween_11 : decode cX1_isBetween 11 = .ok (.goto 4, 3) := dk_167 0 4 (dk_at dksX1_isBetween_0 11 rfl rfl)
theorem dX1_isBetween_14 : decode cX1_isBetween 14 = .ok (.iconst 0, 1) := dk_3 (dk_at dksX1_isBetween_0 14 rfl rfl)
theorem dX1_isBetween_15 : decode cX1_isBetween 15 = .ok (.ireturn, 1) := dk_172 (dk_at dksX1_isBetween_0 15 rfl rfl)
abbrev cX1_runScript : ByteArray := prog_1_method_18_code
def yX1_runScript : MethodName := ⟨RX1, "runScript", "()I"⟩
def dkwX1_runScript_3 : List UInt8 := [181, 0, 179, 42, 43, 182, 0, 215, 61, 42, 180, 0, 179, 172]
abbrev dktX1_runScript_3 : List UInt8 := dkwX1_runScript_3 ++ []
def dkwX1_runScript_2 : List UInt8 := [172, 58, 4, 42, 3, 181, 0, 128, 25, 4, 191, 42, 42, 180, 0, 39, 182, 0, 224, 182, 0, 227, 42, 3]
abbrev dktX1_runScript_2 : List UInt8 := dkwX1_runScript_2 ++ dktX1_runScript_3
def dkwX1_runScript_1 : List UInt8 := [167, 0, 35, 77, 42, 44, 180, 0, 162, 44, 180, 0, 165, 182, 0, 148, 2, 62, 42, 3, 181, 0, 128, 29]
abbrev dktX1_runScript_1 : List UInt8 := dkwX1_runScript_1 ++ dktX1_runScript_2
def dkwX1_runScript_0 : List UInt8 := [42, 3, 2, 182, 0, 148, 187, 0, 218, 89, 42, 183, 0, 220, 182, 0, 221, 76, 42, 3, 181, 0, 128]
abbrev dktX1_runScript_0 : List UInt8 := dkwX1_runScript_0 ++ dktX1_runScript_1
theorem dksX1_runScript_0 : cX1_runScript.data.toList.drop 0 = dktX1_runScript_0 := by decide +kernel
theorem dksX1_runScript_1 : cX1_runScript.data.toList.drop 23 = dktX1_runScript_1 := dk_seg dksX1_runScript_0 23 rfl rfl
theorem dksX1_runScript_2 : cX1_runScript.data.toList.drop 47 = dktX1_runScript_2 := dk_seg dksX1_runScript_1 24 rfl rfl
theorem dksX1_runScript_3 : cX1_runScript.data.toList.drop 71 = dktX1_runScript_3 := dk_seg dksX1_runScript_2 24 rfl rfl
theorem dX1_runScript_0 : decode cX1_runScript 0 = .ok (.aload_n 0, 1) := dk_42 (dk_at dksX1_runScript_0 0 rfl rfl)
theorem dX1_runScript_1 : decode cX1_runScript 1 = .ok (.iconst 0, 1) := dk_3 (dk_at dksX1_runScript_0 1 rfl rfl)
theorem dX1_runScript_2 : decode cX1_runScript 2 = .ok (.iconst (-1), 1) := dk_2 (dk_at dksX1_runScript_0 2 rfl rfl)
theorem dX1_runScript_3 : decode cX1_runScript 3 = .ok (.invokevirtual 148, 3) := dk_182 0 148 (dk_at dksX1_runScript_0 3 rfl rfl)
theorem dX1_runScript_6 : decode cX1_runScript 6 = .ok (.new 218, 3) := dk_187 0 218 (dk_at dksX1_runScript_0 6 rfl rfl)
theorem dX1_runScript_9 : decode cX1_runScript 9 = .ok (.dup, 1) := dk_89 (dk_at dksX1_runScript_0 9 rfl rfl)
theorem dX1_runScript_10 : decode cX1_runScript 10 = .ok (.aload_n 0, 1) := dk_42 (dk_at dksX1_runScript_0 10 rfl rfl)
theorem dX1_runScript_11 : decode cX1_runScript 11 = .ok (.invokespecial 220, 3) := dk_183 0 220 (dk_at dksX1_runScript_0 11 rfl rfl)
theorem dX1_runScript_14 : decode cX1_runScript 14 = .ok (.invokevirtual 221, 3) := dk_182 0 221 (dk_at dksX1_runScript_0 14 rfl rfl)
theorem dX1_runScript_17 : decode cX1_runScript 17 = .ok (.astore_n 1, 1) := dk_76 (dk_at dksX1_runScript_0 17 rfl rfl)
theorem dX1_runScript_18 : decode cX1_runScript 18 = .ok (.aload_n 0, 1) := dk_42 (dk_at dksX1_runScript_0 18 rfl rfl)
theorem dX1_runScript_19 : decode cX1_runScript 19 = .ok (.iconst 0, 1) := dk_3 (dk_at dksX1_runScript_0 19 rfl rfl)
theorem dX1_runScript_20 : decode cX1_runScript 20 = .ok (.putfield 128, 3) := dk_181 0 128 (dk_at dksX1_runScript_0 20 rfl rfl)
theorem dX1_runScript_23 : decode cX1_runScript 23 = .ok (.goto 35, 3) := dk_167 0 35 (dk_at dksX1_runScript_1 0 rfl rfl)
theorem dX1_runScript_26 : decode cX1_runScript 26 = .ok (.astore_n 2, 1) := dk_77 (dk_at dksX1_runScript_1 3 rfl rfl)
theorem dX1_runScript_27 : decode cX1_runScript 27 = .ok (.aload_n 0, 1) := dk_42 (dk_at dksX1_runScript_1 4 rfl rfl)
theorem dX1_runScript_28 : decode cX1_runScript 28 = .ok (.aload_n 2, 1) := dk_44 (dk_at dksX1_runScript_1 5 rfl rfl)
theorem dX1_runScript_29 : decode cX1_runScript 29 = .ok (.getfield 162, 3) := dk_180 0 162 (dk_at dksX1_runScript_1 6 rfl rfl)
theorem dX1_runScript_32 : decode cX1_runScript 32 = .ok (.aload_n 2, 1) := dk_44 (dk_at dksX1_runScript_1 9 rfl rfl)
theorem dX1_runScript_33 : decode cX1_runScript 33 = .ok (.getfield 165, 3) := dk_180 0 165 (dk_at dksX1_runScript_1 10 rfl rfl)
theorem dX1_runScript_36 : decode cX1_runScript 36 = .ok (.invokevirtual 148, 3) := dk_182 0 148 (dk_at dksX1_runScript_1 13 rfl rfl)
theorem dX1_runScript_39 : decode cX1_runScript 39 = .ok (.iconst (-1), 1) := dk_2 (dk_at dksX1_runScript_1 16 rfl rfl)
theorem dX1_runScript_40 : decode cX1_runScript 40 = .ok (.istore_n 3, 1) := dk_62 (dk_at dksX1_runScript_1 17 rfl rfl)
theorem dX1_runScript_41 : decode cX1_runScript 41 = .ok (.aload_n 0, 1) := dk_42 (dk_at dksX1_runScript_1 18 rfl rfl)
theorem dX1_runScript_42 : decode cX1_runScript 42 = .ok (.iconst 0, 1) := dk_3 (dk_at dksX1_runScript_1 19 rfl rfl)
theorem dX1_runScript_43 : decode cX1_runScript 43 = .ok (.putfield 128, 3) := dk_181 0 128 (dk_at dksX1_runScript_1 20 rfl rfl)
theorem dX1_runScript_46 : decode cX1_runScript 46 = .ok (.iload_n 3, 1) := dk_29 (dk_at dksX1_runScript_1 23 rfl rfl)
theorem dX1_runScript_47 : decode cX1_runScript 47 = .ok (.ireturn, 1) := dk_172 (dk_at dksX1_runScript_2 0 rfl rfl)
theorem dX1_runScript_48 : decode cX1_runScript 48 = .ok (.astore 4, 2) := dk_58 4 (dk_at dksX1_runScript_2 1 rfl rfl)
theorem dX1_runScript_50 : decode cX1_runScript 50 = .ok (.aload_n 0, 1) := dk_42 (dk_at dksX1_runScript_2 3 rfl rfl)
theorem dX1_runScript_51 : decode cX1_runScript 51 = .ok (.iconst 0, 1) := dk_3 (dk_at dksX1_runScript_2 4 rfl rfl)
theorem dX1_runScript_52 : decode cX1_runScript 52 = .ok (.putfield 128, 3) := dk_181 0 128 (dk_at dksX1_runScript_2 5 rfl rfl)
theorem dX1_runScript_55 : decode cX1_runScript 55 = .ok (.aload 4, 2) := dk_25 4 (dk_at dksX1_runScript_2 8 rfl rfl)
theorem dX1_runScript_57 : decode cX1_runScript 57 = .ok (.athrow, 1) := dk_191 (dk_at dksX1_runScript_2 10 rfl rfl)
theorem dX1_runScript_58 : decode cX1_runScript 58 = .ok (.aload_n 0, 1) := dk_42 (dk_at dksX1_runScript_2 11 rfl rfl)
theorem dX1_runScript_59 : decode cX1_runScript 59 = .ok (.aload_n 0, 1) := dk_42 (dk_at dksX1_runScript_2 12 rfl rfl)
theorem dX1_runScript_60 : decode cX1_runScript 60 = .ok (.getfield 39, 3) := dk_180 0 39 (dk_at dksX1_runScript_2 13 rfl rfl)
theorem dX1_runScript_63 : decode cX1_runScript 63 = .ok (.invokevirtual 224, 3) := dk_182 0 224 (dk_at dksX1_runScript_2 16 rfl rfl)
theorem dX1_runScript_66 : decode cX1_runScript 66 = .ok (.invokevirtual 227, 3) := dk_182 0 227 (dk_at dksX1_runScript_2 19 rfl rfl)
theorem dX1_runScript_69 : decode cX1_runScript 69 = .ok (.aload_n 0, 1) := dk_42 (dk_at dksX1_runScript_2 22 rfl rfl)
theorem dX1_runScript_70 : decode cX1_runScript 70 = .ok (.iconst 0, 1) := dk_3 (dk_at dksX1_runScript_2 23 rfl rfl)
theorem dX1_runScript_71 : decode cX1_runScript 71 = .ok (.putfield 179, 3) := dk_181 0 179 (dk_at dksX1_runScript_3 0 rfl rfl)
theorem dX1_runScript_74 : decode cX1_runScript 74 = .ok (.aload_n 0, 1) := dk_42 (dk_at dksX1_runScript_3 3 rfl rfl)
theorem dX1_runScript_75 : decode cX1_runScript 75 = .ok (.aload_n 1, 1) := dk_43 (dk_at dksX1_runScript_3 4 rfl rfl)
theorem dX1_runScript_76 : decode cX1_runScript 76 = .ok (.invokevirtual 215, 3) := dk_182 0 215 (dk_at dksX1_runScript_3 5 rfl rfl)
theorem dX1_runScript_79 : decode cX1_runScript 79 = .ok (.istore_n 2, 1) := dk_61 (dk_at dksX1_runScript_3 8 rfl rfl)
theorem dX1_runScript_80 : decode cX1_runScript 80 = .ok (.aload_n 0, 1) := dk_42 (dk_at dksX1_runScript_3 9 rfl rfl)
theorem dX1_runScript_81 : decode cX1_runScript 81 = .ok (.getfield 179, 3) := dk_180 0 179 (dk_at dksX1_runScript_3 10 rfl rfl)
theorem dX1_runScript_84 : decode cX1_runScript 84 = .ok (.ireturn, 1) := dk_172 (dk_at dksX1_runScript_3 13 rfl rfl)
abbrev cX1_record : ByteArray := prog_1_method_3_code
def yX1_record : MethodName := ⟨RX1, "record", "(LRoseGuild$Guild;)V"⟩
def dkwX1_record_1 : List UInt8 := [180, 0, 20, 43, 182, 0, 88, 177]
abbrev dktX1_record_1 : List UInt8 := dkwX1_record_1 ++ []
def dkwX1_record_0 : List UInt8 := [42, 180, 0, 20, 182, 0, 80, 16, 8, 160, 0, 14, 42, 180, 0, 20, 182, 0, 84, 192, 0, 24, 77, 42]
abbrev dktX1_record_0 : List UInt8 := dkwX1_record_0 ++ dktX1_record_1
theorem dksX1_record_0 : cX1_record.data.toList.drop 0 = dktX1_record_0 := by decide +kernel
theorem dksX1_record_1 : cX1_record.data.toList.drop 24 = dktX1_record_1 := dk_seg dksX1_record_0 24 rfl rfl
theorem dX1_record_0 : decode cX1_record 0 = .ok (.aload_n 0, 1) := dk_42 (dk_at dksX1_record_0 0 rfl rfl)
theorem dX1_record_1 : decode cX1_record 1 = .ok (.getfield 20, 3) := dk_180 0 20 (dk_at dksX1_record_0 1 rfl rfl)
theorem dX1_record_4 : decode cX1_record 4 = .ok (.invokevirtual 80, 3) := dk_182 0 80 (dk_at dksX1_record_0 4 rfl rfl)
theorem dX1_record_7 : decode cX1_record 7 = .ok (.bipush 8, 2) := dk_16 8 (dk_at dksX1_record_0 7 rfl rfl)
theorem dX1_record_9 : decode cX1_record 9 = .ok (.if_icmp .ne 14, 3) := dk_160 0 14 (dk_at dksX1_record_0 9 rfl rfl)
theorem dX1_record_12 : decode cX1_record 12 = .ok (.aload_n 0, 1) := dk_42 (dk_at dksX1_record_0 12 rfl rfl)
theorem dX1_record_13 : decode cX1_record 13 = .ok (.getfield 20, 3) := dk_180 0 20 (dk_at dksX1_record_0 13 rfl rfl)
theorem dX1_record_16 : decode cX1_record 16 = .ok (.invokevirtual 84, 3) := dk_182 0 84 (dk_at dksX1_record_0 16 rfl rfl)
theorem dX1_record_19 : decode cX1_record 19 = .ok (.checkcast 24, 3) := dk_192 0 24 (dk_at dksX1_record_0 19 rfl rfl)
theorem dX1_record_22 : decode cX1_record 22 = .ok (.astore_n 2, 1) := dk_77 (dk_at dksX1_record_0 22 rfl rfl)
theorem dX1_record_23 : decode cX1_record 23 = .ok (.aload_n 0, 1) := dk_42 (dk_at dksX1_record_0 23 rfl rfl)
theorem dX1_record_24 : decode cX1_record 24 = .ok (.getfield 20, 3) := dk_180 0 20 (dk_at dksX1_record_1 0 rfl rfl)
theorem dX1_record_27 : decode cX1_record 27 = .ok (.aload_n 1, 1) := dk_43 (dk_at dksX1_record_1 3 rfl rfl)
theorem dX1_record_28 : decode cX1_record 28 = .ok (.invokevirtual 88, 3) := dk_182 0 88 (dk_at dksX1_record_1 4 rfl rfl)
theorem dX1_record_31 : decode cX1_record 31 = .ok (.return_, 1) := dk_177 (dk_at dksX1_record_1 7 rfl rfl)
abbrev cX1_execute : ByteArray := prog_1_method_17_code
def yX1_execute : MethodName := ⟨RX1, "execute", "(LRoseGuild$Block;)Z"⟩
def dkwX1_execute_5 : List UInt8 := [132, 2, 1, 167, 255, 152, 4, 172]
abbrev dktX1_execute_5 : List UInt8 := dkwX1_execute_5 ++ []
def dkwX1_execute_4 : List UInt8 := [182, 0, 215, 153, 0, 7, 4, 167, 0, 4, 3, 54, 5, 21, 5, 154, 0, 5, 3, 172, 167, 255, 174]
abbrev dktX1_execute_4 : List UInt8 := dkwX1_execute_4 ++ dktX1_execute_5
def dkwX1_execute_3 : List UInt8 := [182, 0, 211, 167, 0, 32, 25, 4, 193, 0, 183, 153, 0, 23, 25, 4, 192, 0, 183, 58, 6, 42, 25, 6]
abbrev dktX1_execute_3 : List UInt8 := dkwX1_execute_3 ++ dktX1_execute_4
def dkwX1_execute_2 : List UInt8 := [192, 0, 209, 58, 4, 25, 4, 193, 0, 172, 153, 0, 19, 25, 4, 192, 0, 172, 58, 7, 42, 25, 7]
abbrev dktX1_execute_2 : List UInt8 := dkwX1_execute_2 ++ dktX1_execute_3
def dkwX1_execute_1 : List UInt8 := [180, 0, 182, 182, 0, 197, 78, 45, 185, 0, 201, 1, 0, 153, 0, 79, 45, 185, 0, 206, 1, 0]
abbrev dktX1_execute_1 : List UInt8 := dkwX1_execute_1 ++ dktX1_execute_2
def dkwX1_execute_0 : List UInt8 := [43, 180, 0, 182, 182, 0, 188, 153, 0, 5, 4, 172, 3, 61, 28, 43, 180, 0, 194, 162, 0, 102, 43]
abbrev dktX1_execute_0 : List UInt8 := dkwX1_execute_0 ++ dktX1_execute_1
theorem dksX1_execute_0 : cX1_execute.data.toList.drop 0 = dktX1_execute_0 := by decide +kernel
theorem dksX1_execute_1 : cX1_execute.data.toList.drop 23 = dktX1_execute_1 := dk_seg dksX1_execute_0 23 rfl rfl
theorem dksX1_execute_2 : cX1_execute.data.toList.drop 45 = dktX1_execute_2 := dk_seg dksX1_execute_1 22 rfl rfl
theorem dksX1_execute_3 : cX1_execute.data.toList.drop 68 = dktX1_execute_3 := dk_seg dksX1_execute_2 23 rfl rfl
theorem dksX1_execute_4 : cX1_execute.data.toList.drop 92 = dktX1_execute_4 := dk_seg dksX1_execute_3 24 rfl rfl
theorem dksX1_execute_5 : cX1_execute.data.toList.drop 115 = dktX1_execute_5 := dk_seg dksX1_execute_4 23 rfl rfl
theorem dX1_execute_0 : decode cX1_execute 0 = .ok (.aload_n 1, 1) := dk_43 (dk_at dksX1_execute_0 0 rfl rfl)
theorem dX1_execute_1 : decode cX1_execute 1 = .ok (.getfield 182, 3) := dk_180 0 182 (dk_at dksX1_execute_0 1 rfl rfl)
theorem dX1_execute_4 : decode cX1_execute 4 = .ok (.invokevirtual 188, 3) := dk_182 0 188 (dk_at dksX1_execute_0 4 rfl rfl)
theorem dX1_execute_7 : decode cX1_execute 7 = .ok (.ifCond .eq 5, 3) := dk_153 0 5 (dk_at dksX1_execute_0 7 rfl rfl)
theorem dX1_execute_10 : decode cX1_execute 10 = .ok (.iconst 1, 1) := dk_4 (dk_at dksX1_execute_0 10 rfl rfl)
theorem dX1_execute_11 : decode cX1_execute 11 = .ok (.ireturn, 1) := dk_172 (dk_at dksX1_execute_0 11 rfl rfl)
theorem dX1_execute_12 : decode cX1_execute 12 = .ok (.iconst 0, 1) := dk_3 (dk_at dksX1_execute_0 12 rfl rfl)
theorem dX1_execute_13 : decode cX1_execute 13 = .ok (.istore_n 2, 1) := dk_61 (dk_at dksX1_execute_0 13 rfl rfl)
theorem dX1_execute_14 : decode cX1_execute 14 = .ok (.iload_n 2, 1) := dk_28 (dk_at dksX1_execute_0 14 rfl rfl)
theorem dX1_execute_15 : decode cX1_execute 15 = .ok (.aload_n 1, 1) := dk_43 (dk_at dksX1_execute_0 15 rfl rfl)
theorem dX1_execute_16 : decode cX1_execute 16 = .ok (.getfield 194, 3) := dk_180 0 194 (dk_at dksX1_execute_0 16 rfl rfl)
theorem dX1_execute_19 : decode cX1_execute 19 = .ok (.if_icmp .ge 102, 3) := dk_162 0 102 (dk_at dksX1_execute_0 19 rfl rfl)
theorem dX1_execute_22 : decode cX1_execute 22 = .ok (.aload_n 1, 1) := dk_43 (dk_at dksX1_execute_0 22 rfl rfl)
theorem dX1_execute_23 : decode cX1_execute 23 = .ok (.getfield 182, 3) := dk_180 0 182 (dk_at dksX1_execute_1 0 rfl rfl)
theorem dX1_execute_26 : decode cX1_execute 26 = .ok (.invokevirtual 197, 3) := dk_182 0 197 (dk_at dksX1_execute_1 3 rfl rfl)
theorem dX1_execute_29 : decode cX1_execute 29 = .ok (.astore_n 3, 1) := dk_78 (dk_at dksX1_execute_1 6 rfl rfl)
theorem dX1_execute_30 : decode cX1_execute 30 = .ok (.aload_n 3, 1) := dk_45 (dk_at dksX1_execute_1 7 rfl rfl)
theorem dX1_execute_31 : decode cX1_execute 31 = .ok (.invokeinterface 201 1, 5) := by decide +kernel
theorem dX1_execute_36 : decode cX1_execute 36 = .ok (.ifCond .eq 79, 3) := dk_153 0 79 (dk_at dksX1_execute_1 13 rfl rfl)
theorem dX1_execute_39 : decode cX1_execute 39 = .ok (.aload_n 3, 1) := dk_45 (dk_at dksX1_execute_1 16 rfl rfl)
theorem dX1_execute_40 : decode cX1_execute 40 = .ok (.invokeinterface 206 1, 5) := by decide +kernel
theorem dX1_execute_45 : decode cX1_execute 45 = .ok (.checkcast 209, 3) := dk_192 0 209 (dk_at dksX1_execute_2 0 rfl rfl)
theorem dX1_execute_48 : decode cX1_execute 48 = .ok (.astore 4, 2) := dk_58 4 (dk_at dksX1_execute_2 3 rfl rfl)
theorem dX1_execute_50 : decode cX1_execute 50 = .ok (.aload 4, 2) := dk_25 4 (dk_at dksX1_execute_2 5 rfl rfl)
theorem dX1_execute_52 : decode cX1_execute 52 = .ok (.instanceof 172, 3) := dk_193 0 172 (dk_at dksX1_execute_2 7 rfl rfl)
theorem dX1_execute_55 : decode cX1_execute 55 = .ok (.ifCond .eq 19, 3) := dk_153 0 19 (dk_at dksX1_execute_2 10 rfl rfl)
theorem dX1_execute_58 : decode cX1_execute 58 = .ok (.aload 4, 2) := dk_25 4 (dk_at dksX1_execute_2 13 rfl rfl)
theorem dX1_execute_60 : decode cX1_execute 60 = .ok (.checkcast 172, 3) := dk_192 0 172 (dk_at dksX1_execute_2 15 rfl rfl)
theorem dX1_execute_63 : decode cX1_execute 63 = .ok (.astore 7, 2) := dk_58 7 (dk_at dksX1_execute_2 18 rfl rfl)
theorem dX1_execute_65 : decode cX1_execute 65 = .ok (.aload_n 0, 1) := dk_42 (dk_at dksX1_execute_2 20 rfl rfl)
theorem dX1_execute_66 : decode cX1_execute 66 = .ok (.aload 7, 2) := dk_25 7 (dk_at dksX1_execute_2 21 rfl rfl)
theorem dX1_execute_68 : decode cX1_execute 68 = .ok (.invokevirtual 211, 3) := dk_182 0 211 (dk_at dksX1_execute_3 0 rfl rfl)
theorem dX1_execute_71 : decode cX1_execute 71 = .ok (.goto 32, 3) := dk_167 0 32 (dk_at dksX1_execute_3 3 rfl rfl)
theorem dX1_execute_74 : decode cX1_execute 74 = .ok (.aload 4, 2) := dk_25 4 (dk_at dksX1_execute_3 6 rfl rfl)
theorem dX1_execute_76 : decode cX1_execute 76 = .ok (.instanceof 183, 3) := dk_193 0 183 (dk_at dksX1_execute_3 8 rfl rfl)
theorem dX1_execute_79 : decode cX1_execute 79 = .ok (.ifCond .eq 23, 3) := dk_153 0 23 (dk_at dksX1_execute_3 11 rfl rfl)
theorem dX1_execute_82 : decode cX1_execute 82 = .ok (.aload 4, 2) := dk_25 4 (dk_at dksX1_execute_3 14 rfl rfl)
theorem dX1_execute_84 : decode cX1_execute 84 = .ok (.checkcast 183, 3) := dk_192 0 183 (dk_at dksX1_execute_3 16 rfl rfl)
theorem dX1_execute_87 : decode cX1_execute 87 = .ok (.astore 6, 2) := dk_58 6 (dk_at dksX1_execute_3 19 rfl rfl)
theorem dX1_execute_89 : decode cX1_execute 89 = .ok (.aload_n 0, 1) := dk_42 (dk_at dksX1_execute_3 21 rfl rfl)
theorem dX1_execute_90 : decode cX1_execute 90 = .ok (.aload 6, 2) := dk_25 6 (dk_at dksX1_execute_3 22 rfl rfl)
theorem dX1_execute_92 : decode cX1_execute 92 = .ok (.invokevirtual 215, 3) := dk_182 0 215 (dk_at dksX1_execute_4 0 rfl rfl)
theorem dX1_execute_95 : decode cX1_execute 95 = .ok (.ifCond .eq 7, 3) := dk_153 0 7 (dk_at dksX1_execute_4 3 rfl rfl)
theorem dX1_execute_98 : decode cX1_execute 98 = .ok (.iconst 1, 1) := dk_4 (dk_at dksX1_execute_4 6 rfl rfl)
theorem dX1_execute_99 : decode cX1_execute 99 = .ok (.goto 4, 3) := dk_167 0 4 (dk_at dksX1_execute_4 7 rfl rfl)
theorem dX1_execute_102 : decode cX1_execute 102 = .ok (.iconst 0, 1) := dk_3 (dk_at dksX1_execute_4 10 rfl rfl)
theorem dX1_execute_103 : decode cX1_execute 103 = .ok (.istore 5, 2) := dk_54 5 (dk_at dksX1_execute_4 11 rfl rfl)
theorem dX1_execute_105 : decode cX1_execute 105 = .ok (.iload 5, 2) := dk_21 5 (dk_at dksX1_execute_4 13 rfl rfl)
theorem dX1_execute_107 : decode cX1_execute 107 = .ok (.ifCond .ne 5, 3) := dk_154 0 5 (dk_at dksX1_execute_4 15 rfl rfl)
theorem dX1_execute_110 : decode cX1_execute 110 = .ok (.iconst 0, 1) := dk_3 (dk_at dksX1_execute_4 18 rfl rfl)
theorem dX1_execute_111 : decode cX1_execute 111 = .ok (.ireturn, 1) := dk_172 (dk_at dksX1_execute_4 19 rfl rfl)
theorem dX1_execute_112 : decode cX1_execute 112 = .ok (.goto (-82), 3) := dk_167 255 174 (dk_at dksX1_execute_4 20 rfl rfl)
theorem dX1_execute_115 : decode cX1_execute 115 = .ok (.iinc 2 1, 3) := dk_132 2 1 (dk_at dksX1_execute_5 0 rfl rfl)
theorem dX1_execute_118 : decode cX1_execute 118 = .ok (.goto (-104), 3) := dk_167 255 152 (dk_at dksX1_execute_5 3 rfl rfl)
theorem dX1_execute_121 : decode cX1_execute 121 = .ok (.iconst 1, 1) := dk_4 (dk_at dksX1_execute_5 6 rfl rfl)
theorem dX1_execute_122 : decode cX1_execute 122 = .ok (.ireturn, 1) := dk_172 (dk_at dksX1_execute_5 7 rfl rfl)
abbrev cX1_execute_2 : ByteArray := prog_1_method_16_code
def yX1_execute_2 : MethodName := ⟨RX1, "execute", "(LRoseGuild$Single;)Z"⟩
def dkwX1_execute_2_1 : List UInt8 := [181, 0, 179, 42, 180, 0, 179, 16, 40, 162, 0, 7, 4, 167, 0, 4, 3, 172]
abbrev dktX1_execute_2_1 : List UInt8 := dkwX1_execute_2_1 ++ []
def dkwX1_execute_2_0 : List UInt8 := [43, 42, 180, 0, 39, 182, 0, 171, 61, 167, 0, 6, 77, 3, 172, 42, 89, 180, 0, 179, 4, 96]
abbrev dktX1_execute_2_0 : List UInt8 := dkwX1_execute_2_0 ++ dktX1_execute_2_1
theorem dksX1_execute_2_0 : cX1_execute_2.data.toList.drop 0 = dktX1_execute_2_0 := by decide +kernel
theorem dksX1_execute_2_1 : cX1_execute_2.data.toList.drop 22 = dktX1_execute_2_1 := dk_seg dksX1_execute_2_0 22 rfl rfl
theorem dX1_execute_2_0 : decode cX1_execute_2 0 = .ok (.aload_n 1, 1) := dk_43 (dk_at dksX1_execute_2_0 0 rfl rfl)
theorem dX1_execute_2_1 : decode cX1_execute_2 1 = .ok (.aload_n 0, 1) := dk_42 (dk_at dksX1_execute_2_0 1 rfl rfl)
theorem dX1_execute_2_2 : decode cX1_execute_2 2 = .ok (.getfield 39, 3) := dk_180 0 39 (dk_at dksX1_execute_2_0 2 rfl rfl)
theorem dX1_execute_2_5 : decode cX1_execute_2 5 = .ok (.invokevirtual 171, 3) := dk_182 0 171 (dk_at dksX1_execute_2_0 5 rfl rfl)
theorem dX1_execute_2_8 : decode cX1_execute_2 8 = .ok (.istore_n 2, 1) := dk_61 (dk_at dksX1_execute_2_0 8 rfl rfl)
theorem dX1_execute_2_9 : decode cX1_execute_2 9 = .ok (.goto 6, 3) := dk_167 0 6 (dk_at dksX1_execute_2_0 9 rfl rfl)
theorem dX1_execute_2_12 : decode cX1_execute_2 12 = .ok (.astore_n 2, 1) := dk_77 (dk_at dksX1_execute_2_0 12 rfl rfl)
theorem dX1_execute_2_13 : decode cX1_execute_2 13 = .ok (.iconst 0, 1) := dk_3 (dk_at dksX1_execute_2_0 13 rfl rfl)
theorem dX1_execute_2_14 : decode cX1_execute_2 14 = .ok (.ireturn, 1) := dk_172 (dk_at dksX1_execute_2_0 14 rfl rfl)
theorem dX1_execute_2_15 : decode cX1_execute_2 15 = .ok (.aload_n 0, 1) := dk_42 (dk_at dksX1_execute_2_0 15 rfl rfl)
theorem dX1_execute_2_16 : decode cX1_execute_2 16 = .ok (.dup, 1) := dk_89 (dk_at dksX1_execute_2_0 16 rfl rfl)
theorem dX1_execute_2_17 : decode cX1_execute_2 17 = .ok (.getfield 179, 3) := dk_180 0 179 (dk_at dksX1_execute_2_0 17 rfl rfl)
theorem dX1_execute_2_20 : decode cX1_execute_2 20 = .ok (.iconst 1, 1) := dk_4 (dk_at dksX1_execute_2_0 20 rfl rfl)
theorem dX1_execute_2_21 : decode cX1_execute_2 21 = .ok (.iadd, 1) := dk_96 (dk_at dksX1_execute_2_0 21 rfl rfl)
theorem dX1_execute_2_22 : decode cX1_execute_2 22 = .ok (.putfield 179, 3) := dk_181 0 179 (dk_at dksX1_execute_2_1 0 rfl rfl)
theorem dX1_execute_2_25 : decode cX1_execute_2 25 = .ok (.aload_n 0, 1) := dk_42 (dk_at dksX1_execute_2_1 3 rfl rfl)
theorem dX1_execute_2_26 : decode cX1_execute_2 26 = .ok (.getfield 179, 3) := dk_180 0 179 (dk_at dksX1_execute_2_1 4 rfl rfl)
theorem dX1_execute_2_29 : decode cX1_execute_2 29 = .ok (.bipush 40, 2) := dk_16 40 (dk_at dksX1_execute_2_1 7 rfl rfl)
theorem dX1_execute_2_31 : decode cX1_execute_2 31 = .ok (.if_icmp .ge 7, 3) := dk_162 0 7 (dk_at dksX1_execute_2_1 9 rfl rfl)
theorem dX1_execute_2_34 : decode cX1_execute_2 34 = .ok (.iconst 1, 1) := dk_4 (dk_at dksX1_execute_2_1 12 rfl rfl)
theorem dX1_execute_2_35 : decode cX1_execute_2 35 = .ok (.goto 4, 3) := dk_167 0 4 (dk_at dksX1_execute_2_1 13 rfl rfl)
theorem dX1_execute_2_38 : decode cX1_execute_2 38 = .ok (.iconst 0, 1) := dk_3 (dk_at dksX1_execute_2_1 16 rfl rfl)
theorem dX1_execute_2_39 : decode cX1_execute_2 39 = .ok (.ireturn, 1) := dk_172 (dk_at dksX1_execute_2_1 17 rfl rfl)
abbrev cX1_errorCode : ByteArray := prog_1_method_19_code
def yX1_errorCode : MethodName := ⟨RX1, "errorCode", "()I"⟩
theorem dX1_errorCode_0 : decode cX1_errorCode 0 = .ok (.aload_n 0, 1) := by decide +kernel
theorem dX1_errorCode_1 : decode cX1_errorCode 1 = .ok (.getfield 145, 3) := by decide +kernel
theorem dX1_errorCode_4 : decode cX1_errorCode 4 = .ok (.ireturn, 1) := by decide +kernel
abbrev cX1_errorPosition : ByteArray := prog_1_method_20_code
def yX1_errorPosition : MethodName := ⟨RX1, "errorPosition", "()I"⟩
theorem dX1_errorPosition_0 : decode cX1_errorPosition 0 = .ok (.aload_n 0, 1) := by decide +kernel
theorem dX1_errorPosition_1 : decode cX1_errorPosition 1 = .ok (.getfield 13, 3) := by decide +kernel
theorem dX1_errorPosition_4 : decode cX1_errorPosition 4 = .ok (.ireturn, 1) := by decide +kernel
abbrev cX1_streetCount : ByteArray := prog_1_method_22_code
def yX1_streetCount : MethodName := ⟨RX1, "streetCount", "()I"⟩
def dkwX1_streetCount_0 : List UInt8 := [42, 180, 0, 39, 180, 0, 101, 185, 0, 105, 1, 0, 172]
abbrev dktX1_streetCount_0 : List UInt8 := dkwX1_streetCount_0 ++ []
theorem dksX1_streetCount_0 : cX1_streetCount.data.toList.drop 0 = dktX1_streetCount_0 := by decide +kernel
theorem dX1_streetCount_0 : decode cX1_streetCount 0 = .ok (.aload_n 0, 1) := dk_42 (dk_at dksX1_streetCount_0 0 rfl rfl)
theorem dX1_streetCount_1 : decode cX1_streetCount 1 = .ok (.getfield 39, 3) := dk_180 0 39 (dk_at dksX1_streetCount_0 1 rfl rfl)
theorem dX1_streetCount_4 : decode cX1_streetCount 4 = .ok (.getfield 101, 3) := dk_180 0 101 (dk_at dksX1_streetCount_0 4 rfl rfl)
theorem dX1_streetCount_7 : decode cX1_streetCount 7 = .ok (.invokeinterface 105 1, 5) := by decide +kernel
theorem dX1_streetCount_12 : decode cX1_streetCount 12 = .ok (.ireturn, 1) := dk_172 (dk_at dksX1_streetCount_0 12 rfl rfl)
abbrev cX1_findStreet : ByteArray := prog_1_method_23_code
def yX1_findStreet : MethodName := ⟨RX1, "findStreet", "()I"⟩
def dkwX1_findStreet_0 : List UInt8 := [42, 180, 0, 39, 180, 0, 101, 42, 182, 0, 242, 184, 0, 245, 172]
abbrev dktX1_findStreet_0 : List UInt8 := dkwX1_findStreet_0 ++ []
theorem dksX1_findStreet_0 : cX1_findStreet.data.toList.drop 0 = dktX1_findStreet_0 := by decide +kernel
theorem dX1_findStreet_0 : decode cX1_findStreet 0 = .ok (.aload_n 0, 1) := dk_42 (dk_at dksX1_findStreet_0 0 rfl rfl)
theorem dX1_findStreet_1 : decode cX1_findStreet 1 = .ok (.getfield 39, 3) := dk_180 0 39 (dk_at dksX1_findStreet_0 1 rfl rfl)
theorem dX1_findStreet_4 : decode cX1_findStreet 4 = .ok (.getfield 101, 3) := dk_180 0 101 (dk_at dksX1_findStreet_0 4 rfl rfl)
theorem dX1_findStreet_7 : decode cX1_findStreet 7 = .ok (.aload_n 0, 1) := dk_42 (dk_at dksX1_findStreet_0 7 rfl rfl)
theorem dX1_findStreet_8 : decode cX1_findStreet 8 = .ok (.invokevirtual 242, 3) := dk_182 0 242 (dk_at dksX1_findStreet_0 8 rfl rfl)
theorem dX1_findStreet_11 : decode cX1_findStreet 11 = .ok (.invokestatic 245, 3) := dk_184 0 245 (dk_at dksX1_findStreet_0 11 rfl rfl)
theorem dX1_findStreet_14 : decode cX1_findStreet 14 = .ok (.ireturn, 1) := dk_172 (dk_at dksX1_findStreet_0 14 rfl rfl)
abbrev cX1_textInBuffer : ByteArray := prog_1_method_21_code
def yX1_textInBuffer : MethodName := ⟨RX1, "textInBuffer", "()Ljava/lang/String;"⟩
def dkwX1_textInBuffer_1 : List UInt8 := [51, 17, 0, 255, 126, 146, 182, 0, 234, 87, 132, 2, 1, 167, 255, 229, 43, 182, 0, 238, 176]
abbrev dktX1_textInBuffer_1 : List UInt8 := dkwX1_textInBuffer_1 ++ []
def dkwX1_textInBuffer_0 : List UInt8 := [187, 0, 231, 89, 183, 0, 233, 76, 3, 61, 28, 42, 180, 0, 128, 162, 0, 25, 43, 42, 180, 0, 9, 28]
abbrev dktX1_textInBuffer_0 : List UInt8 := dkwX1_textInBuffer_0 ++ dktX1_textInBuffer_1
theorem dksX1_textInBuffer_0 : cX1_textInBuffer.data.toList.drop 0 = dktX1_textInBuffer_0 := by decide +kernel
theorem dksX1_textInBuffer_1 : cX1_textInBuffer.data.toList.drop 24 = dktX1_textInBuffer_1 := dk_seg dksX1_textInBuffer_0 24 rfl rfl
theorem dX1_textInBuffer_0 : decode cX1_textInBuffer 0 = .ok (.new 231, 3) := dk_187 0 231 (dk_at dksX1_textInBuffer_0 0 rfl rfl)
theorem dX1_textInBuffer_3 : decode cX1_textInBuffer 3 = .ok (.dup, 1) := dk_89 (dk_at dksX1_textInBuffer_0 3 rfl rfl)
theorem dX1_textInBuffer_4 : decode cX1_textInBuffer 4 = .ok (.invokespecial 233, 3) := dk_183 0 233 (dk_at dksX1_textInBuffer_0 4 rfl rfl)
theorem dX1_textInBuffer_7 : decode cX1_textInBuffer 7 = .ok (.astore_n 1, 1) := dk_76 (dk_at dksX1_textInBuffer_0 7 rfl rfl)
theorem dX1_textInBuffer_8 : decode cX1_textInBuffer 8 = .ok (.iconst 0, 1) := dk_3 (dk_at dksX1_textInBuffer_0 8 rfl rfl)
theorem dX1_textInBuffer_9 : decode cX1_textInBuffer 9 = .ok (.istore_n 2, 1) := dk_61 (dk_at dksX1_textInBuffer_0 9 rfl rfl)
theorem dX1_textInBuffer_10 : decode cX1_textInBuffer 10 = .ok (.iload_n 2, 1) := dk_28 (dk_at dksX1_textInBuffer_0 10 rfl rfl)
theorem dX1_textInBuffer_11 : decode cX1_textInBuffer 11 = .ok (.aload_n 0, 1) := dk_42 (dk_at dksX1_textInBuffer_0 11 rfl rfl)
theorem dX1_textInBuffer_12 : decode cX1_textInBuffer 12 = .ok (.getfield 128, 3) := dk_180 0 128 (dk_at dksX1_textInBuffer_0 12 rfl rfl)
theorem dX1_textInBuffer_15 : decode cX1_textInBuffer 15 = .ok (.if_icmp .ge 25, 3) := dk_162 0 25 (dk_at dksX1_textInBuffer_0 15 rfl rfl)
theorem dX1_textInBuffer_18 : decode cX1_textInBuffer 18 = .ok (.aload_n 1, 1) := dk_43 (dk_at dksX1_textInBuffer_0 18 rfl rfl)
theorem dX1_textInBuffer_19 : decode cX1_textInBuffer 19 = .ok (.aload_n 0, 1) := dk_42 (dk_at dksX1_textInBuffer_0 19 rfl rfl)
theorem dX1_textInBuffer_20 : decode cX1_textInBuffer 20 = .ok (.getfield 9, 3) := dk_180 0 9 (dk_at dksX1_textInBuffer_0 20 rfl rfl)
theorem dX1_textInBuffer_23 : decode cX1_textInBuffer 23 = .ok (.iload_n 2, 1) := dk_28 (dk_at dksX1_textInBuffer_0 23 rfl rfl)
theorem dX1_textInBuffer_24 : decode cX1_textInBuffer 24 = .ok (.baload, 1) := dk_51 (dk_at dksX1_textInBuffer_1 0 rfl rfl)
theorem dX1_textInBuffer_25 : decode cX1_textInBuffer 25 = .ok (.sipush 255, 3) := dk_17 0 255 (dk_at dksX1_textInBuffer_1 1 rfl rfl)
theorem dX1_textInBuffer_28 : decode cX1_textInBuffer 28 = .ok (.iand, 1) := dk_126 (dk_at dksX1_textInBuffer_1 4 rfl rfl)
theorem dX1_textInBuffer_29 : decode cX1_textInBuffer 29 = .ok (.i2c, 1) := dk_146 (dk_at dksX1_textInBuffer_1 5 rfl rfl)
theorem dX1_textInBuffer_30 : decode cX1_textInBuffer 30 = .ok (.invokevirtual 234, 3) := dk_182 0 234 (dk_at dksX1_textInBuffer_1 6 rfl rfl)
theorem dX1_textInBuffer_33 : decode cX1_textInBuffer 33 = .ok (.pop, 1) := dk_87 (dk_at dksX1_textInBuffer_1 9 rfl rfl)
theorem dX1_textInBuffer_34 : decode cX1_textInBuffer 34 = .ok (.iinc 2 1, 3) := dk_132 2 1 (dk_at dksX1_textInBuffer_1 10 rfl rfl)
theorem dX1_textInBuffer_37 : decode cX1_textInBuffer 37 = .ok (.goto (-27), 3) := dk_167 255 229 (dk_at dksX1_textInBuffer_1 13 rfl rfl)
theorem dX1_textInBuffer_40 : decode cX1_textInBuffer 40 = .ok (.aload_n 1, 1) := dk_43 (dk_at dksX1_textInBuffer_1 16 rfl rfl)
theorem dX1_textInBuffer_41 : decode cX1_textInBuffer 41 = .ok (.invokevirtual 238, 3) := dk_182 0 238 (dk_at dksX1_textInBuffer_1 17 rfl rfl)
theorem dX1_textInBuffer_44 : decode cX1_textInBuffer 44 = .ok (.areturn, 1) := dk_176 (dk_at dksX1_textInBuffer_1 20 rfl rfl)
abbrev cX1_streetAt : ByteArray := prog_1_method_24_code
def yX1_streetAt : MethodName := ⟨RX1, "streetAt", "(II)I"⟩
def dkwX1_streetAt_2 : List UInt8 := [199, 0, 7, 2, 167, 0, 7, 45, 180, 1, 2, 172]
abbrev dktX1_streetAt_2 : List UInt8 := dkwX1_streetAt_2 ++ []
def dkwX1_streetAt_1 : List UInt8 := [180, 0, 39, 180, 0, 249, 187, 0, 47, 89, 27, 28, 183, 0, 49, 182, 0, 253, 192, 0, 43, 78, 45]
abbrev dktX1_streetAt_1 : List UInt8 := dkwX1_streetAt_1 ++ dktX1_streetAt_2
def dkwX1_streetAt_0 : List UInt8 := [27, 3, 16, 9, 184, 0, 108, 153, 0, 13, 28, 3, 16, 9, 184, 0, 108, 154, 0, 5, 2, 172, 42]
abbrev dktX1_streetAt_0 : List UInt8 := dkwX1_streetAt_0 ++ dktX1_streetAt_1
theorem dksX1_streetAt_0 : cX1_streetAt.data.toList.drop 0 = dktX1_streetAt_0 := by decide +kernel
theorem dksX1_streetAt_1 : cX1_streetAt.data.toList.drop 23 = dktX1_streetAt_1 := dk_seg dksX1_streetAt_0 23 rfl rfl
theorem dksX1_streetAt_2 : cX1_streetAt.data.toList.drop 46 = dktX1_streetAt_2 := dk_seg dksX1_streetAt_1 23 rfl rfl
theorem dX1_streetAt_0 : decode cX1_streetAt 0 = .ok (.iload_n 1, 1) := dk_27 (dk_at dksX1_streetAt_0 0 rfl rfl)
theorem dX1_streetAt_1 : decode cX1_streetAt 1 = .ok (.iconst 0, 1) := dk_3 (dk_at dksX1_streetAt_0 1 rfl rfl)
theorem dX1_streetAt_2 : decode cX1_streetAt 2 = .ok (.bipush 9, 2) := dk_16 9 (dk_at dksX1_streetAt_0 2 rfl rfl)
theorem dX1_streetAt_4 : decode cX1_streetAt 4 = .ok (.invokestatic 108, 3) := dk_184 0 108 (dk_at dksX1_streetAt_0 4 rfl rfl)
theorem dX1_streetAt_7 : decode cX1_streetAt 7 = .ok (.ifCond .eq 13, 3) := dk_153 0 13 (dk_at dksX1_streetAt_0 7 rfl rfl)
theorem dX1_streetAt_10 : decode cX1_streetAt 10 = .ok (.iload_n 2, 1) := dk_28 (dk_at dksX1_streetAt_0 10 rfl rfl)
theorem dX1_streetAt_11 : decode cX1_streetAt 11 = .ok (.iconst 0, 1) := dk_3 (dk_at dksX1_streetAt_0 11 rfl rfl)
theorem dX1_streetAt_12 : decode cX1_streetAt 12 = .ok (.bipush 9, 2) := dk_16 9 (dk_at dksX1_streetAt_0 12 rfl rfl)
theorem dX1_streetAt_14 : decode cX1_streetAt 14 = .ok (.invokestatic 108, 3) := dk_184 0 108 (dk_at dksX1_streetAt_0 14 rfl rfl)
theorem dX1_streetAt_17 : decode cX1_streetAt 17 = .ok (.ifCond .ne 5, 3) := dk_154 0 5 (dk_at dksX1_streetAt_0 17 rfl rfl)
theorem dX1_streetAt_20 : decode cX1_streetAt 20 = .ok (.iconst (-1), 1) := dk_2 (dk_at dksX1_streetAt_0 20 rfl rfl)
theorem dX1_streetAt_21 : decode cX1_streetAt 21 = .ok (.ireturn, 1) := dk_172 (dk_at dksX1_streetAt_0 21 rfl rfl)
theorem dX1_streetAt_22 : decode cX1_streetAt 22 = .ok (.aload_n 0, 1) := dk_42 (dk_at dksX1_streetAt_0 22 rfl rfl)
theorem dX1_streetAt_23 : decode cX1_streetAt 23 = .ok (.getfield 39, 3) := dk_180 0 39 (dk_at dksX1_streetAt_1 0 rfl rfl)
theorem dX1_streetAt_26 : decode cX1_streetAt 26 = .ok (.getfield 249, 3) := dk_180 0 249 (dk_at dksX1_streetAt_1 3 rfl rfl)
theorem dX1_streetAt_29 : decode cX1_streetAt 29 = .ok (.new 47, 3) := dk_187 0 47 (dk_at dksX1_streetAt_1 6 rfl rfl)
theorem dX1_streetAt_32 : decode cX1_streetAt 32 = .ok (.dup, 1) := dk_89 (dk_at dksX1_streetAt_1 9 rfl rfl)
theorem dX1_streetAt_33 : decode cX1_streetAt 33 = .ok (.iload_n 1, 1) := dk_27 (dk_at dksX1_streetAt_1 10 rfl rfl)
theorem dX1_streetAt_34 : decode cX1_streetAt 34 = .ok (.iload_n 2, 1) := dk_28 (dk_at dksX1_streetAt_1 11 rfl rfl)
theorem dX1_streetAt_35 : decode cX1_streetAt 35 = .ok (.invokespecial 49, 3) := dk_183 0 49 (dk_at dksX1_streetAt_1 12 rfl rfl)
theorem dX1_streetAt_38 : decode cX1_streetAt 38 = .ok (.invokevirtual 253, 3) := dk_182 0 253 (dk_at dksX1_streetAt_1 15 rfl rfl)
theorem dX1_streetAt_41 : decode cX1_streetAt 41 = .ok (.checkcast 43, 3) := dk_192 0 43 (dk_at dksX1_streetAt_1 18 rfl rfl)
theorem dX1_streetAt_44 : decode cX1_streetAt 44 = .ok (.astore_n 3, 1) := dk_78 (dk_at dksX1_streetAt_1 21 rfl rfl)
theorem dX1_streetAt_45 : decode cX1_streetAt 45 = .ok (.aload_n 3, 1) := dk_45 (dk_at dksX1_streetAt_1 22 rfl rfl)
theorem dX1_streetAt_46 : decode cX1_streetAt 46 = .ok (.ifnonnull 7, 3) := dk_199 0 7 (dk_at dksX1_streetAt_2 0 rfl rfl)
theorem dX1_streetAt_49 : decode cX1_streetAt 49 = .ok (.iconst (-1), 1) := dk_2 (dk_at dksX1_streetAt_2 3 rfl rfl)
theorem dX1_streetAt_50 : decode cX1_streetAt 50 = .ok (.goto 7, 3) := dk_167 0 7 (dk_at dksX1_streetAt_2 4 rfl rfl)
theorem dX1_streetAt_53 : decode cX1_streetAt 53 = .ok (.aload_n 3, 1) := dk_45 (dk_at dksX1_streetAt_2 7 rfl rfl)
theorem dX1_streetAt_54 : decode cX1_streetAt 54 = .ok (.getfield 258, 3) := dk_180 1 2 (dk_at dksX1_streetAt_2 8 rfl rfl)
theorem dX1_streetAt_57 : decode cX1_streetAt 57 = .ok (.ireturn, 1) := dk_172 (dk_at dksX1_streetAt_2 11 rfl rfl)
abbrev cX1_gardenCount : ByteArray := prog_1_method_29_code
def yX1_gardenCount : MethodName := ⟨RX1, "gardenCount", "()I"⟩
def dkwX1_gardenCount_0 : List UInt8 := [42, 180, 0, 39, 180, 0, 120, 185, 0, 105, 1, 0, 172]
abbrev dktX1_gardenCount_0 : List UInt8 := dkwX1_gardenCount_0 ++ []
theorem dksX1_gardenCount_0 : cX1_gardenCount.data.toList.drop 0 = dktX1_gardenCount_0 := by decide +kernel
theorem dX1_gardenCount_0 : decode cX1_gardenCount 0 = .ok (.aload_n 0, 1) := dk_42 (dk_at dksX1_gardenCount_0 0 rfl rfl)
theorem dX1_gardenCount_1 : decode cX1_gardenCount 1 = .ok (.getfield 39, 3) := dk_180 0 39 (dk_at dksX1_gardenCount_0 1 rfl rfl)
theorem dX1_gardenCount_4 : decode cX1_gardenCount 4 = .ok (.getfield 120, 3) := dk_180 0 120 (dk_at dksX1_gardenCount_0 4 rfl rfl)
theorem dX1_gardenCount_7 : decode cX1_gardenCount 7 = .ok (.invokeinterface 105 1, 5) := by decide +kernel
theorem dX1_gardenCount_12 : decode cX1_gardenCount 12 = .ok (.ireturn, 1) := dk_172 (dk_at dksX1_gardenCount_0 12 rfl rfl)
abbrev cX1_findGarden : ByteArray := prog_1_method_30_code
def yX1_findGarden : MethodName := ⟨RX1, "findGarden", "()I"⟩
def dkwX1_findGarden_0 : List UInt8 := [42, 180, 0, 39, 180, 0, 120, 42, 182, 0, 242, 184, 0, 245, 172]
abbrev dktX1_findGarden_0 : List UInt8 := dkwX1_findGarden_0 ++ []
theorem dksX1_findGarden_0 : cX1_findGarden.data.toList.drop 0 = dktX1_findGarden_0 := by decide +kernel
theorem dX1_findGarden_0 : decode cX1_findGarden 0 = .ok (.aload_n 0, 1) := dk_42 (dk_at dksX1_findGarden_0 0 rfl rfl)
theorem dX1_findGarden_1 : decode cX1_findGarden 1 = .ok (.getfield 39, 3) := dk_180 0 39 (dk_at dksX1_findGarden_0 1 rfl rfl)
theorem dX1_findGarden_4 : decode cX1_findGarden 4 = .ok (.getfield 120, 3) := dk_180 0 120 (dk_at dksX1_findGarden_0 4 rfl rfl)
theorem dX1_findGarden_7 : decode cX1_findGarden 7 = .ok (.aload_n 0, 1) := dk_42 (dk_at dksX1_findGarden_0 7 rfl rfl)
theorem dX1_findGarden_8 : decode cX1_findGarden 8 = .ok (.invokevirtual 242, 3) := dk_182 0 242 (dk_at dksX1_findGarden_0 8 rfl rfl)
theorem dX1_findGarden_11 : decode cX1_findGarden 11 = .ok (.invokestatic 245, 3) := dk_184 0 245 (dk_at dksX1_findGarden_0 11 rfl rfl)
theorem dX1_findGarden_14 : decode cX1_findGarden 14 = .ok (.ireturn, 1) := dk_172 (dk_at dksX1_findGarden_0 14 rfl rfl)
abbrev cX1_leadingGarden : ByteArray := prog_1_method_35_code
def yX1_leadingGarden : MethodName := ⟨RX1, "leadingGarden", "()I"⟩
def dkwX1_leadingGarden_0 : List UInt8 := [42, 180, 0, 39, 182, 1, 43, 172]
abbrev dktX1_leadingGarden_0 : List UInt8 := dkwX1_leadingGarden_0 ++ []
theorem dksX1_leadingGarden_0 : cX1_leadingGarden.data.toList.drop 0 = dktX1_leadingGarden_0 := by decide +kernel
theorem dX1_leadingGarden_0 : decode cX1_leadingGarden 0 = .ok (.aload_n 0, 1) := dk_42 (dk_at dksX1_leadingGarden_0 0 rfl rfl)
theorem dX1_leadingGarden_1 : decode cX1_leadingGarden 1 = .ok (.getfield 39, 3) := dk_180 0 39 (dk_at dksX1_leadingGarden_0 1 rfl rfl)
theorem dX1_leadingGarden_4 : decode cX1_leadingGarden 4 = .ok (.invokevirtual 299, 3) := dk_182 1 43 (dk_at dksX1_leadingGarden_0 4 rfl rfl)
theorem dX1_leadingGarden_7 : decode cX1_leadingGarden 7 = .ok (.ireturn, 1) := dk_172 (dk_at dksX1_leadingGarden_0 7 rfl rfl)
abbrev cX1_cartCount : ByteArray := prog_1_method_36_code
def yX1_cartCount : MethodName := ⟨RX1, "cartCount", "()I"⟩
def dkwX1_cartCount_0 : List UInt8 := [42, 180, 0, 39, 180, 0, 123, 185, 0, 105, 1, 0, 172]
abbrev dktX1_cartCount_0 : List UInt8 := dkwX1_cartCount_0 ++ []
theorem dksX1_cartCount_0 : cX1_cartCount.data.toList.drop 0 = dktX1_cartCount_0 := by decide +kernel
theorem dX1_cartCount_0 : decode cX1_cartCount 0 = .ok (.aload_n 0, 1) := dk_42 (dk_at dksX1_cartCount_0 0 rfl rfl)
theorem dX1_cartCount_1 : decode cX1_cartCount 1 = .ok (.getfield 39, 3) := dk_180 0 39 (dk_at dksX1_cartCount_0 1 rfl rfl)
theorem dX1_cartCount_4 : decode cX1_cartCount 4 = .ok (.getfield 123, 3) := dk_180 0 123 (dk_at dksX1_cartCount_0 4 rfl rfl)
theorem dX1_cartCount_7 : decode cX1_cartCount 7 = .ok (.invokeinterface 105 1, 5) := by decide +kernel
theorem dX1_cartCount_12 : decode cX1_cartCount 12 = .ok (.ireturn, 1) := dk_172 (dk_at dksX1_cartCount_0 12 rfl rfl)
abbrev cX1_night : ByteArray := prog_1_method_44_code
def yX1_night : MethodName := ⟨RX1, "night", "()I"⟩
def dkwX1_night_0 : List UInt8 := [42, 180, 0, 39, 180, 1, 78, 172]
abbrev dktX1_night_0 : List UInt8 := dkwX1_night_0 ++ []
theorem dksX1_night_0 : cX1_night.data.toList.drop 0 = dktX1_night_0 := by decide +kernel
theorem dX1_night_0 : decode cX1_night 0 = .ok (.aload_n 0, 1) := dk_42 (dk_at dksX1_night_0 0 rfl rfl)
theorem dX1_night_1 : decode cX1_night 1 = .ok (.getfield 39, 3) := dk_180 0 39 (dk_at dksX1_night_0 1 rfl rfl)
theorem dX1_night_4 : decode cX1_night 4 = .ok (.getfield 334, 3) := dk_180 1 78 (dk_at dksX1_night_0 4 rfl rfl)
theorem dX1_night_7 : decode cX1_night 7 = .ok (.ireturn, 1) := dk_172 (dk_at dksX1_night_0 7 rfl rfl)
abbrev cX1_balance : ByteArray := prog_1_method_45_code
def yX1_balance : MethodName := ⟨RX1, "balance", "()I"⟩
def dkwX1_balance_0 : List UInt8 := [42, 180, 0, 39, 180, 1, 81, 172]
abbrev dktX1_balance_0 : List UInt8 := dkwX1_balance_0 ++ []
theorem dksX1_balance_0 : cX1_balance.data.toList.drop 0 = dktX1_balance_0 := by decide +kernel
theorem dX1_balance_0 : decode cX1_balance 0 = .ok (.aload_n 0, 1) := dk_42 (dk_at dksX1_balance_0 0 rfl rfl)
theorem dX1_balance_1 : decode cX1_balance 1 = .ok (.getfield 39, 3) := dk_180 0 39 (dk_at dksX1_balance_0 1 rfl rfl)
theorem dX1_balance_4 : decode cX1_balance 4 = .ok (.getfield 337, 3) := dk_180 1 81 (dk_at dksX1_balance_0 4 rfl rfl)
theorem dX1_balance_7 : decode cX1_balance 7 = .ok (.ireturn, 1) := dk_172 (dk_at dksX1_balance_0 7 rfl rfl)
abbrev cX1_price : ByteArray := prog_1_method_46_code
def yX1_price : MethodName := ⟨RX1, "price", "()I"⟩
def dkwX1_price_0 : List UInt8 := [42, 180, 0, 39, 180, 1, 84, 172]
abbrev dktX1_price_0 : List UInt8 := dkwX1_price_0 ++ []
theorem dksX1_price_0 : cX1_price.data.toList.drop 0 = dktX1_price_0 := by decide +kernel
theorem dX1_price_0 : decode cX1_price 0 = .ok (.aload_n 0, 1) := dk_42 (dk_at dksX1_price_0 0 rfl rfl)
theorem dX1_price_1 : decode cX1_price 1 = .ok (.getfield 39, 3) := dk_180 0 39 (dk_at dksX1_price_0 1 rfl rfl)
theorem dX1_price_4 : decode cX1_price 4 = .ok (.getfield 340, 3) := dk_180 1 84 (dk_at dksX1_price_0 4 rfl rfl)
theorem dX1_price_7 : decode cX1_price 7 = .ok (.ireturn, 1) := dk_172 (dk_at dksX1_price_0 7 rfl rfl)
abbrev cX1_wind : ByteArray := prog_1_method_47_code
def yX1_wind : MethodName := ⟨RX1, "wind", "()I"⟩
def dkwX1_wind_0 : List UInt8 := [42, 180, 0, 39, 182, 1, 87, 172]
abbrev dktX1_wind_0 : List UInt8 := dkwX1_wind_0 ++ []
theorem dksX1_wind_0 : cX1_wind.data.toList.drop 0 = dktX1_wind_0 := by decide +kernel
theorem dX1_wind_0 : decode cX1_wind 0 = .ok (.aload_n 0, 1) := dk_42 (dk_at dksX1_wind_0 0 rfl rfl)
theorem dX1_wind_1 : decode cX1_wind 1 = .ok (.getfield 39, 3) := dk_180 0 39 (dk_at dksX1_wind_0 1 rfl rfl)
theorem dX1_wind_4 : decode cX1_wind 4 = .ok (.invokevirtual 343, 3) := dk_182 1 87 (dk_at dksX1_wind_0 4 rfl rfl)
theorem dX1_wind_7 : decode cX1_wind 7 = .ok (.ireturn, 1) := dk_172 (dk_at dksX1_wind_0 7 rfl rfl)
abbrev cX1_deliveryCount : ByteArray := prog_1_method_49_code
def yX1_deliveryCount : MethodName := ⟨RX1, "deliveryCount", "()I"⟩
def dkwX1_deliveryCount_0 : List UInt8 := [42, 180, 0, 39, 180, 1, 94, 172]
abbrev dktX1_deliveryCount_0 : List UInt8 := dkwX1_deliveryCount_0 ++ []
theorem dksX1_deliveryCount_0 : cX1_deliveryCount.data.toList.drop 0 = dktX1_deliveryCount_0 := by decide +kernel
theorem dX1_deliveryCount_0 : decode cX1_deliveryCount 0 = .ok (.aload_n 0, 1) := dk_42 (dk_at dksX1_deliveryCount_0 0 rfl rfl)
theorem dX1_deliveryCount_1 : decode cX1_deliveryCount 1 = .ok (.getfield 39, 3) := dk_180 0 39 (dk_at dksX1_deliveryCount_0 1 rfl rfl)
theorem dX1_deliveryCount_4 : decode cX1_deliveryCount 4 = .ok (.getfield 350, 3) := dk_180 1 94 (dk_at dksX1_deliveryCount_0 4 rfl rfl)
theorem dX1_deliveryCount_7 : decode cX1_deliveryCount 7 = .ok (.ireturn, 1) := dk_172 (dk_at dksX1_deliveryCount_0 7 rfl rfl)
abbrev cX1_lateCount : ByteArray := prog_1_method_50_code
def yX1_lateCount : MethodName := ⟨RX1, "lateCount", "()I"⟩
def dkwX1_lateCount_0 : List UInt8 := [42, 180, 0, 39, 180, 1, 97, 172]
abbrev dktX1_lateCount_0 : List UInt8 := dkwX1_lateCount_0 ++ []
theorem dksX1_lateCount_0 : cX1_lateCount.data.toList.drop 0 = dktX1_lateCount_0 := by decide +kernel
theorem dX1_lateCount_0 : decode cX1_lateCount 0 = .ok (.aload_n 0, 1) := dk_42 (dk_at dksX1_lateCount_0 0 rfl rfl)
theorem dX1_lateCount_1 : decode cX1_lateCount 1 = .ok (.getfield 39, 3) := dk_180 0 39 (dk_at dksX1_lateCount_0 1 rfl rfl)
theorem dX1_lateCount_4 : decode cX1_lateCount 4 = .ok (.getfield 353, 3) := dk_180 1 97 (dk_at dksX1_lateCount_0 4 rfl rfl)
theorem dX1_lateCount_7 : decode cX1_lateCount 7 = .ok (.ireturn, 1) := dk_172 (dk_at dksX1_lateCount_0 7 rfl rfl)
abbrev cX1_meanLoad : ByteArray := prog_1_method_51_code
def yX1_meanLoad : MethodName := ⟨RX1, "meanLoad", "()D"⟩
def dkwX1_meanLoad_1 : List UInt8 := [180, 0, 39, 180, 1, 94, 135, 111, 175]
abbrev dktX1_meanLoad_1 : List UInt8 := dkwX1_meanLoad_1 ++ []
def dkwX1_meanLoad_0 : List UInt8 := [42, 180, 0, 39, 180, 1, 94, 154, 0, 7, 14, 167, 0, 20, 42, 180, 0, 39, 180, 1, 100, 135, 42]
abbrev dktX1_meanLoad_0 : List UInt8 := dkwX1_meanLoad_0 ++ dktX1_meanLoad_1
theorem dksX1_meanLoad_0 : cX1_meanLoad.data.toList.drop 0 = dktX1_meanLoad_0 := by decide +kernel
theorem dksX1_meanLoad_1 : cX1_meanLoad.data.toList.drop 23 = dktX1_meanLoad_1 := dk_seg dksX1_meanLoad_0 23 rfl rfl
theorem dX1_meanLoad_0 : decode cX1_meanLoad 0 = .ok (.aload_n 0, 1) := dk_42 (dk_at dksX1_meanLoad_0 0 rfl rfl)
theorem dX1_meanLoad_1 : decode cX1_meanLoad 1 = .ok (.getfield 39, 3) := dk_180 0 39 (dk_at dksX1_meanLoad_0 1 rfl rfl)
theorem dX1_meanLoad_4 : decode cX1_meanLoad 4 = .ok (.getfield 350, 3) := dk_180 1 94 (dk_at dksX1_meanLoad_0 4 rfl rfl)
theorem dX1_meanLoad_7 : decode cX1_meanLoad 7 = .ok (.ifCond .ne 7, 3) := dk_154 0 7 (dk_at dksX1_meanLoad_0 7 rfl rfl)
theorem dX1_meanLoad_10 : decode cX1_meanLoad 10 = .ok (.dconst 0, 1) := dk_14 (dk_at dksX1_meanLoad_0 10 rfl rfl)
theorem dX1_meanLoad_11 : decode cX1_meanLoad 11 = .ok (.goto 20, 3) := dk_167 0 20 (dk_at dksX1_meanLoad_0 11 rfl rfl)
theorem dX1_meanLoad_14 : decode cX1_meanLoad 14 = .ok (.aload_n 0, 1) := dk_42 (dk_at dksX1_meanLoad_0 14 rfl rfl)
theorem dX1_meanLoad_15 : decode cX1_meanLoad 15 = .ok (.getfield 39, 3) := dk_180 0 39 (dk_at dksX1_meanLoad_0 15 rfl rfl)
theorem dX1_meanLoad_18 : decode cX1_meanLoad 18 = .ok (.getfield 356, 3) := dk_180 1 100 (dk_at dksX1_meanLoad_0 18 rfl rfl)
theorem dX1_meanLoad_21 : decode cX1_meanLoad 21 = .ok (.i2d, 1) := dk_135 (dk_at dksX1_meanLoad_0 21 rfl rfl)
theorem dX1_meanLoad_22 : decode cX1_meanLoad 22 = .ok (.aload_n 0, 1) := dk_42 (dk_at dksX1_meanLoad_0 22 rfl rfl)
theorem dX1_meanLoad_23 : decode cX1_meanLoad 23 = .ok (.getfield 39, 3) := dk_180 0 39 (dk_at dksX1_meanLoad_1 0 rfl rfl)
theorem dX1_meanLoad_26 : decode cX1_meanLoad 26 = .ok (.getfield 350, 3) := dk_180 1 94 (dk_at dksX1_meanLoad_1 3 rfl rfl)
theorem dX1_meanLoad_29 : decode cX1_meanLoad 29 = .ok (.i2d, 1) := dk_135 (dk_at dksX1_meanLoad_1 6 rfl rfl)
theorem dX1_meanLoad_30 : decode cX1_meanLoad 30 = .ok (.ddiv, 1) := dk_111 (dk_at dksX1_meanLoad_1 7 rfl rfl)
theorem dX1_meanLoad_31 : decode cX1_meanLoad 31 = .ok (.dreturn, 1) := dk_175 (dk_at dksX1_meanLoad_1 8 rfl rfl)
abbrev cX1_contradictions : ByteArray := prog_1_method_53_code
def yX1_contradictions : MethodName := ⟨RX1, "contradictions", "()I"⟩
def dkwX1_contradictions_0 : List UInt8 := [42, 180, 0, 39, 182, 1, 106, 172]
abbrev dktX1_contradictions_0 : List UInt8 := dkwX1_contradictions_0 ++ []
theorem dksX1_contradictions_0 : cX1_contradictions.data.toList.drop 0 = dktX1_contradictions_0 := by decide +kernel
theorem dX1_contradictions_0 : decode cX1_contradictions 0 = .ok (.aload_n 0, 1) := dk_42 (dk_at dksX1_contradictions_0 0 rfl rfl)
theorem dX1_contradictions_1 : decode cX1_contradictions 1 = .ok (.getfield 39, 3) := dk_180 0 39 (dk_at dksX1_contradictions_0 1 rfl rfl)
theorem dX1_contradictions_4 : decode cX1_contradictions 4 = .ok (.invokevirtual 362, 3) := dk_182 1 106 (dk_at dksX1_contradictions_0 4 rfl rfl)
theorem dX1_contradictions_7 : decode cX1_contradictions 7 = .ok (.ireturn, 1) := dk_172 (dk_at dksX1_contradictions_0 7 rfl rfl)
abbrev cX1_nextWinner : ByteArray := prog_1_method_58_code
def yX1_nextWinner : MethodName := ⟨RX1, "nextWinner", "()I"⟩
def dkwX1_nextWinner_3 : List UInt8 := [180, 1, 40, 164, 0, 5, 28, 172, 132, 2, 1, 167, 255, 200, 2, 172]
abbrev dktX1_nextWinner_3 : List UInt8 := dkwX1_nextWinner_3 ++ []
def dkwX1_nextWinner_2 : List UInt8 := [192, 0, 63, 180, 1, 40, 42, 180, 0, 39, 180, 0, 120, 28, 185, 0, 116, 2, 0, 192, 0, 63]
abbrev dktX1_nextWinner_2 : List UInt8 := dkwX1_nextWinner_2 ++ dktX1_nextWinner_3
def dkwX1_nextWinner_1 : List UInt8 := [43, 180, 0, 120, 185, 0, 105, 1, 0, 162, 0, 49, 43, 180, 0, 120, 28, 185, 0, 116, 2, 0]
abbrev dktX1_nextWinner_1 : List UInt8 := dkwX1_nextWinner_1 ++ dktX1_nextWinner_2
def dkwX1_nextWinner_0 : List UInt8 := [42, 180, 0, 39, 16, 7, 42, 180, 0, 39, 180, 1, 78, 16, 7, 112, 100, 182, 1, 109, 76, 3, 61, 28]
abbrev dktX1_nextWinner_0 : List UInt8 := dkwX1_nextWinner_0 ++ dktX1_nextWinner_1
theorem dksX1_nextWinner_0 : cX1_nextWinner.data.toList.drop 0 = dktX1_nextWinner_0 := by decide +kernel
theorem dksX1_nextWinner_1 : cX1_nextWinner.data.toList.drop 24 = dktX1_nextWinner_1 := dk_seg dksX1_nextWinner_0 24 rfl rfl
theorem dksX1_nextWinner_2 : cX1_nextWinner.data.toList.drop 46 = dktX1_nextWinner_2 := dk_seg dksX1_nextWinner_1 22 rfl rfl
theorem dksX1_nextWinner_3 : cX1_nextWinner.data.toList.drop 68 = dktX1_nextWinner_3 := dk_seg dksX1_nextWinner_2 22 rfl rfl
theorem dX1_nextWinner_0 : decode cX1_nextWinner 0 = .ok (.aload_n 0, 1) := dk_42 (dk_at dksX1_nextWinner_0 0 rfl rfl)
theorem dX1_nextWinner_1 : decode cX1_nextWinner 1 = .ok (.getfield 39, 3) := dk_180 0 39 (dk_at dksX1_nextWinner_0 1 rfl rfl)
theorem dX1_nextWinner_4 : decode cX1_nextWinner 4 = .ok (.bipush 7, 2) := dk_16 7 (dk_at dksX1_nextWinner_0 4 rfl rfl)
theorem dX1_nextWinner_6 : decode cX1_nextWinner 6 = .ok (.aload_n 0, 1) := dk_42 (dk_at dksX1_nextWinner_0 6 rfl rfl)
theorem dX1_nextWinner_7 : decode cX1_nextWinner 7 = .ok (.getfield 39, 3) := dk_180 0 39 (dk_at dksX1_nextWinner_0 7 rfl rfl)
theorem dX1_nextWinner_10 : decode cX1_nextWinner 10 = .ok (.getfield 334, 3) := dk_180 1 78 (dk_at dksX1_nextWinner_0 10 rfl rfl)
theorem dX1_nextWinner_13 : decode cX1_nextWinner 13 = .ok (.bipush 7, 2) := dk_16 7 (dk_at dksX1_nextWinner_0 13 rfl rfl)
theorem dX1_nextWinner_15 : decode cX1_nextWinner 15 = .ok (.irem, 1) := dk_112 (dk_at dksX1_nextWinner_0 15 rfl rfl)
theorem dX1_nextWinner_16 : decode cX1_nextWinner 16 = .ok (.isub, 1) := dk_100 (dk_at dksX1_nextWinner_0 16 rfl rfl)
theorem dX1_nextWinner_17 : decode cX1_nextWinner 17 = .ok (.invokevirtual 365, 3) := dk_182 1 109 (dk_at dksX1_nextWinner_0 17 rfl rfl)
theorem dX1_nextWinner_20 : decode cX1_nextWinner 20 = .ok (.astore_n 1, 1) := dk_76 (dk_at dksX1_nextWinner_0 20 rfl rfl)
theorem dX1_nextWinner_21 : decode cX1_nextWinner 21 = .ok (.iconst 0, 1) := dk_3 (dk_at dksX1_nextWinner_0 21 rfl rfl)
theorem dX1_nextWinner_22 : decode cX1_nextWinner 22 = .ok (.istore_n 2, 1) := dk_61 (dk_at dksX1_nextWinner_0 22 rfl rfl)
theorem dX1_nextWinner_23 : decode cX1_nextWinner 23 = .ok (.iload_n 2, 1) := dk_28 (dk_at dksX1_nextWinner_0 23 rfl rfl)
theorem dX1_nextWinner_24 : decode cX1_nextWinner 24 = .ok (.aload_n 1, 1) := dk_43 (dk_at dksX1_nextWinner_1 0 rfl rfl)
theorem dX1_nextWinner_25 : decode cX1_nextWinner 25 = .ok (.getfield 120, 3) := dk_180 0 120 (dk_at dksX1_nextWinner_1 1 rfl rfl)
theorem dX1_nextWinner_28 : decode cX1_nextWinner 28 = .ok (.invokeinterface 105 1, 5) := by decide +kernel
theorem dX1_nextWinner_33 : decode cX1_nextWinner 33 = .ok (.if_icmp .ge 49, 3) := dk_162 0 49 (dk_at dksX1_nextWinner_1 9 rfl rfl)
theorem dX1_nextWinner_36 : decode cX1_nextWinner 36 = .ok (.aload_n 1, 1) := dk_43 (dk_at dksX1_nextWinner_1 12 rfl rfl)
theorem dX1_nextWinner_37 : decode cX1_nextWinner 37 = .ok (.getfield 120, 3) := dk_180 0 120 (dk_at dksX1_nextWinner_1 13 rfl rfl)
theorem dX1_nextWinner_40 : decode cX1_nextWinner 40 = .ok (.iload_n 2, 1) := dk_28 (dk_at dksX1_nextWinner_1 16 rfl rfl)
theorem dX1_nextWinner_41 : decode cX1_nextWinner 41 = .ok (.invokeinterface 116 2, 5) := by decide +kernel
theorem dX1_nextWinner_46 : decode cX1_nextWinner 46 = .ok (.checkcast 63, 3) := dk_192 0 63 (dk_at dksX1_nextWinner_2 0 rfl rfl)
theorem dX1_nextWinner_49 : decode cX1_nextWinner 49 = .ok (.getfield 296, 3) := dk_180 1 40 (dk_at dksX1_nextWinner_2 3 rfl rfl)
theorem dX1_nextWinner_52 : decode cX1_nextWinner 52 = .ok (.aload_n 0, 1) := dk_42 (dk_at dksX1_nextWinner_2 6 rfl rfl)
theorem dX1_nextWinner_53 : decode cX1_nextWinner 53 = .ok (.getfield 39, 3) := dk_180 0 39 (dk_at dksX1_nextWinner_2 7 rfl rfl)
theorem dX1_nextWinner_56 : decode cX1_nextWinner 56 = .ok (.getfield 120, 3) := dk_180 0 120 (dk_at dksX1_nextWinner_2 10 rfl rfl)
theorem dX1_nextWinner_59 : decode cX1_nextWinner 59 = .ok (.iload_n 2, 1) := dk_28 (dk_at dksX1_nextWinner_2 13 rfl rfl)
theorem dX1_nextWinner_60 : decode cX1_nextWinner 60 = .ok (.invokeinterface 116 2, 5) := by decide +kernel
theorem dX1_nextWinner_65 : decode cX1_nextWinner 65 = .ok (.checkcast 63, 3) := dk_192 0 63 (dk_at dksX1_nextWinner_2 19 rfl rfl)
theorem dX1_nextWinner_68 : decode cX1_nextWinner 68 = .ok (.getfield 296, 3) := dk_180 1 40 (dk_at dksX1_nextWinner_3 0 rfl rfl)
theorem dX1_nextWinner_71 : decode cX1_nextWinner 71 = .ok (.if_icmp .le 5, 3) := dk_164 0 5 (dk_at dksX1_nextWinner_3 3 rfl rfl)
theorem dX1_nextWinner_74 : decode cX1_nextWinner 74 = .ok (.iload_n 2, 1) := dk_28 (dk_at dksX1_nextWinner_3 6 rfl rfl)
theorem dX1_nextWinner_75 : decode cX1_nextWinner 75 = .ok (.ireturn, 1) := dk_172 (dk_at dksX1_nextWinner_3 7 rfl rfl)
theorem dX1_nextWinner_76 : decode cX1_nextWinner 76 = .ok (.iinc 2 1, 3) := dk_132 2 1 (dk_at dksX1_nextWinner_3 8 rfl rfl)
theorem dX1_nextWinner_79 : decode cX1_nextWinner 79 = .ok (.goto (-56), 3) := dk_167 255 200 (dk_at dksX1_nextWinner_3 11 rfl rfl)
theorem dX1_nextWinner_82 : decode cX1_nextWinner 82 = .ok (.iconst (-1), 1) := dk_2 (dk_at dksX1_nextWinner_3 14 rfl rfl)
theorem dX1_nextWinner_83 : decode cX1_nextWinner 83 = .ok (.ireturn, 1) := dk_172 (dk_at dksX1_nextWinner_3 15 rfl rfl)
abbrev cX1_writeContracts : ByteArray := prog_1_method_64_code
def yX1_writeContracts : MethodName := ⟨RX1, "writeContracts", "()I"⟩
def dkwX1_writeContracts_0 : List UInt8 := [42, 42, 180, 0, 39, 182, 1, 137, 181, 0, 32, 42, 180, 0, 32, 182, 1, 140, 172]
abbrev dktX1_writeContracts_0 : List UInt8 := dkwX1_writeContracts_0 ++ []
theorem dksX1_writeContracts_0 : cX1_writeContracts.data.toList.drop 0 = dktX1_writeContracts_0 := by decide +kernel
theorem dX1_writeContracts_0 : decode cX1_writeContracts 0 = .ok (.aload_n 0, 1) := dk_42 (dk_at dksX1_writeContracts_0 0 rfl rfl)
theorem dX1_writeContracts_1 : decode cX1_writeContracts 1 = .ok (.aload_n 0, 1) := dk_42 (dk_at dksX1_writeContracts_0 1 rfl rfl)
theorem dX1_writeContracts_2 : decode cX1_writeContracts 2 = .ok (.getfield 39, 3) := dk_180 0 39 (dk_at dksX1_writeContracts_0 2 rfl rfl)
theorem dX1_writeContracts_5 : decode cX1_writeContracts 5 = .ok (.invokevirtual 393, 3) := dk_182 1 137 (dk_at dksX1_writeContracts_0 5 rfl rfl)
theorem dX1_writeContracts_8 : decode cX1_writeContracts 8 = .ok (.putfield 32, 3) := dk_181 0 32 (dk_at dksX1_writeContracts_0 8 rfl rfl)
theorem dX1_writeContracts_11 : decode cX1_writeContracts 11 = .ok (.aload_n 0, 1) := dk_42 (dk_at dksX1_writeContracts_0 11 rfl rfl)
theorem dX1_writeContracts_12 : decode cX1_writeContracts 12 = .ok (.getfield 32, 3) := dk_180 0 32 (dk_at dksX1_writeContracts_0 12 rfl rfl)
theorem dX1_writeContracts_15 : decode cX1_writeContracts 15 = .ok (.invokevirtual 396, 3) := dk_182 1 140 (dk_at dksX1_writeContracts_0 15 rfl rfl)
theorem dX1_writeContracts_18 : decode cX1_writeContracts 18 = .ok (.ireturn, 1) := dk_172 (dk_at dksX1_writeContracts_0 18 rfl rfl)
abbrev cX1_writeDeliveries : ByteArray := prog_1_method_65_code
def yX1_writeDeliveries : MethodName := ⟨RX1, "writeDeliveries", "()I"⟩
def dkwX1_writeDeliveries_0 : List UInt8 := [42, 42, 180, 0, 39, 182, 1, 145, 181, 0, 32, 42, 180, 0, 32, 182, 1, 140, 172]
abbrev dktX1_writeDeliveries_0 : List UInt8 := dkwX1_writeDeliveries_0 ++ []
theorem dksX1_writeDeliveries_0 : cX1_writeDeliveries.data.toList.drop 0 = dktX1_writeDeliveries_0 := by decide +kernel
theorem dX1_writeDeliveries_0 : decode cX1_writeDeliveries 0 = .ok (.aload_n 0, 1) := dk_42 (dk_at dksX1_writeDeliveries_0 0 rfl rfl)
theorem dX1_writeDeliveries_1 : decode cX1_writeDeliveries 1 = .ok (.aload_n 0, 1) := dk_42 (dk_at dksX1_writeDeliveries_0 1 rfl rfl)
theorem dX1_writeDeliveries_2 : decode cX1_writeDeliveries 2 = .ok (.getfield 39, 3) := dk_180 0 39 (dk_at dksX1_writeDeliveries_0 2 rfl rfl)
theorem dX1_writeDeliveries_5 : decode cX1_writeDeliveries 5 = .ok (.invokevirtual 401, 3) := dk_182 1 145 (dk_at dksX1_writeDeliveries_0 5 rfl rfl)
theorem dX1_writeDeliveries_8 : decode cX1_writeDeliveries 8 = .ok (.putfield 32, 3) := dk_181 0 32 (dk_at dksX1_writeDeliveries_0 8 rfl rfl)
theorem dX1_writeDeliveries_11 : decode cX1_writeDeliveries 11 = .ok (.aload_n 0, 1) := dk_42 (dk_at dksX1_writeDeliveries_0 11 rfl rfl)
theorem dX1_writeDeliveries_12 : decode cX1_writeDeliveries 12 = .ok (.getfield 32, 3) := dk_180 0 32 (dk_at dksX1_writeDeliveries_0 12 rfl rfl)
theorem dX1_writeDeliveries_15 : decode cX1_writeDeliveries 15 = .ok (.invokevirtual 396, 3) := dk_182 1 140 (dk_at dksX1_writeDeliveries_0 15 rfl rfl)
theorem dX1_writeDeliveries_18 : decode cX1_writeDeliveries 18 = .ok (.ireturn, 1) := dk_172 (dk_at dksX1_writeDeliveries_0 18 rfl rfl)
abbrev cX1_outputByte : ByteArray := prog_1_method_66_code
def yX1_outputByte : MethodName := ⟨RX1, "outputByte", "(I)I"⟩
def dkwX1_outputByte_1 : List UInt8 := [182, 1, 148, 167, 0, 4, 2, 172]
abbrev dktX1_outputByte_1 : List UInt8 := dkwX1_outputByte_1 ++ []
def dkwX1_outputByte_0 : List UInt8 := [27, 3, 42, 180, 0, 32, 182, 1, 140, 4, 100, 184, 0, 108, 153, 0, 14, 42, 180, 0, 32, 27]
abbrev dktX1_outputByte_0 : List UInt8 := dkwX1_outputByte_0 ++ dktX1_outputByte_1
theorem dksX1_outputByte_0 : cX1_outputByte.data.toList.drop 0 = dktX1_outputByte_0 := by decide +kernel
theorem dksX1_outputByte_1 : cX1_outputByte.data.toList.drop 22 = dktX1_outputByte_1 := dk_seg dksX1_outputByte_0 22 rfl rfl
theorem dX1_outputByte_0 : decode cX1_outputByte 0 = .ok (.iload_n 1, 1) := dk_27 (dk_at dksX1_outputByte_0 0 rfl rfl)
theorem dX1_outputByte_1 : decode cX1_outputByte 1 = .ok (.iconst 0, 1) := dk_3 (dk_at dksX1_outputByte_0 1 rfl rfl)
theorem dX1_outputByte_2 : decode cX1_outputByte 2 = .ok (.aload_n 0, 1) := dk_42 (dk_at dksX1_outputByte_0 2 rfl rfl)
theorem dX1_outputByte_3 : decode cX1_outputByte 3 = .ok (.getfield 32, 3) := dk_180 0 32 (dk_at dksX1_outputByte_0 3 rfl rfl)
theorem dX1_outputByte_6 : decode cX1_outputByte 6 = .ok (.invokevirtual 396, 3) := dk_182 1 140 (dk_at dksX1_outputByte_0 6 rfl rfl)
theorem dX1_outputByte_9 : decode cX1_outputByte 9 = .ok (.iconst 1, 1) := dk_4 (dk_at dksX1_outputByte_0 9 rfl rfl)
theorem dX1_outputByte_10 : decode cX1_outputByte 10 = .ok (.isub, 1) := dk_100 (dk_at dksX1_outputByte_0 10 rfl rfl)
theorem dX1_outputByte_11 : decode cX1_outputByte 11 = .ok (.invokestatic 108, 3) := dk_184 0 108 (dk_at dksX1_outputByte_0 11 rfl rfl)
theorem dX1_outputByte_14 : decode cX1_outputByte 14 = .ok (.ifCond .eq 14, 3) := dk_153 0 14 (dk_at dksX1_outputByte_0 14 rfl rfl)
theorem dX1_outputByte_17 : decode cX1_outputByte 17 = .ok (.aload_n 0, 1) := dk_42 (dk_at dksX1_outputByte_0 17 rfl rfl)
theorem dX1_outputByte_18 : decode cX1_outputByte 18 = .ok (.getfield 32, 3) := dk_180 0 32 (dk_at dksX1_outputByte_0 18 rfl rfl)
theorem dX1_outputByte_21 : decode cX1_outputByte 21 = .ok (.iload_n 1, 1) := dk_27 (dk_at dksX1_outputByte_0 21 rfl rfl)
theorem dX1_outputByte_22 : decode cX1_outputByte 22 = .ok (.invokevirtual 404, 3) := dk_182 1 148 (dk_at dksX1_outputByte_1 0 rfl rfl)
theorem dX1_outputByte_25 : decode cX1_outputByte 25 = .ok (.goto 4, 3) := dk_167 0 4 (dk_at dksX1_outputByte_1 3 rfl rfl)
theorem dX1_outputByte_28 : decode cX1_outputByte 28 = .ok (.iconst (-1), 1) := dk_2 (dk_at dksX1_outputByte_1 6 rfl rfl)
theorem dX1_outputByte_29 : decode cX1_outputByte 29 = .ok (.ireturn, 1) := dk_172 (dk_at dksX1_outputByte_1 7 rfl rfl)
abbrev cX1_undoCount : ByteArray := prog_1_method_67_code
def yX1_undoCount : MethodName := ⟨RX1, "undoCount", "()I"⟩
def dkwX1_undoCount_0 : List UInt8 := [42, 180, 0, 20, 182, 0, 80, 172]
abbrev dktX1_undoCount_0 : List UInt8 := dkwX1_undoCount_0 ++ []
theorem dksX1_undoCount_0 : cX1_undoCount.data.toList.drop 0 = dktX1_undoCount_0 := by decide +kernel
theorem dX1_undoCount_0 : decode cX1_undoCount 0 = .ok (.aload_n 0, 1) := dk_42 (dk_at dksX1_undoCount_0 0 rfl rfl)
theorem dX1_undoCount_1 : decode cX1_undoCount 1 = .ok (.getfield 20, 3) := dk_180 0 20 (dk_at dksX1_undoCount_0 1 rfl rfl)
theorem dX1_undoCount_4 : decode cX1_undoCount 4 = .ok (.invokevirtual 80, 3) := dk_182 0 80 (dk_at dksX1_undoCount_0 4 rfl rfl)
theorem dX1_undoCount_7 : decode cX1_undoCount 7 = .ok (.ireturn, 1) := dk_172 (dk_at dksX1_undoCount_0 7 rfl rfl)
abbrev cX1_append : ByteArray := prog_1_method_12_code
def yX1_append : MethodName := ⟨RX1, "append", "(IIIII)I"⟩
def dkwX1_append_3 : List UInt8 := [79, 182, 0, 138, 42, 180, 0, 128, 172]
abbrev dktX1_append_3 : List UInt8 := dkwX1_append_3 ++ []
def dkwX1_append_2 : List UInt8 := [8, 188, 10, 89, 3, 27, 79, 89, 4, 28, 79, 89, 5, 29, 79, 89, 6, 21, 4, 79, 89, 7, 21, 5]
abbrev dktX1_append_2 : List UInt8 := dkwX1_append_2 ++ dktX1_append_3
def dkwX1_append_1 : List UInt8 := [89, 7, 21, 5, 79, 184, 0, 131, 96, 17, 2, 188, 163, 0, 7, 4, 167, 0, 4, 3, 184, 0, 135, 42]
abbrev dktX1_append_1 : List UInt8 := dkwX1_append_1 ++ dktX1_append_2
def dkwX1_append_0 : List UInt8 := [42, 180, 0, 128, 8, 188, 10, 89, 3, 27, 79, 89, 4, 28, 79, 89, 5, 29, 79, 89, 6, 21, 4, 79]
abbrev dktX1_append_0 : List UInt8 := dkwX1_append_0 ++ dktX1_append_1
theorem dksX1_append_0 : cX1_append.data.toList.drop 0 = dktX1_append_0 := by decide +kernel
theorem dksX1_append_1 : cX1_append.data.toList.drop 24 = dktX1_append_1 := dk_seg dksX1_append_0 24 rfl rfl
theorem dksX1_append_2 : cX1_append.data.toList.drop 48 = dktX1_append_2 := dk_seg dksX1_append_1 24 rfl rfl
theorem dksX1_append_3 : cX1_append.data.toList.drop 72 = dktX1_append_3 := dk_seg dksX1_append_2 24 rfl rfl
theorem dX1_append_0 : decode cX1_append 0 = .ok (.aload_n 0, 1) := dk_42 (dk_at dksX1_append_0 0 rfl rfl)
theorem dX1_append_1 : decode cX1_append 1 = .ok (.getfield 128, 3) := dk_180 0 128 (dk_at dksX1_append_0 1 rfl rfl)
theorem dX1_append_4 : decode cX1_append 4 = .ok (.iconst 5, 1) := dk_8 (dk_at dksX1_append_0 4 rfl rfl)
theorem dX1_append_5 : decode cX1_append 5 = .ok (.newarray .int, 2) := dk_188_10 (dk_at dksX1_append_0 5 rfl rfl)
theorem dX1_append_7 : decode cX1_append 7 = .ok (.dup, 1) := dk_89 (dk_at dksX1_append_0 7 rfl rfl)
theorem dX1_append_8 : decode cX1_append 8 = .ok (.iconst 0, 1) := dk_3 (dk_at dksX1_append_0 8 rfl rfl)
theorem dX1_append_9 : decode cX1_append 9 = .ok (.iload_n 1, 1) := dk_27 (dk_at dksX1_append_0 9 rfl rfl)
theorem dX1_append_10 : decode cX1_append 10 = .ok (.iastore, 1) := dk_79 (dk_at dksX1_append_0 10 rfl rfl)
theorem dX1_append_11 : decode cX1_append 11 = .ok (.dup, 1) := dk_89 (dk_at dksX1_append_0 11 rfl rfl)
theorem dX1_append_12 : decode cX1_append 12 = .ok (.iconst 1, 1) := dk_4 (dk_at dksX1_append_0 12 rfl rfl)
theorem dX1_append_13 : decode cX1_append 13 = .ok (.iload_n 2, 1) := dk_28 (dk_at dksX1_append_0 13 rfl rfl)
theorem dX1_append_14 : decode cX1_append 14 = .ok (.iastore, 1) := dk_79 (dk_at dksX1_append_0 14 rfl rfl)
theorem dX1_append_15 : decode cX1_append 15 = .ok (.dup, 1) := dk_89 (dk_at dksX1_append_0 15 rfl rfl)
theorem dX1_append_16 : decode cX1_append 16 = .ok (.iconst 2, 1) := dk_5 (dk_at dksX1_append_0 16 rfl rfl)
theorem dX1_append_17 : decode cX1_append 17 = .ok (.iload_n 3, 1) := dk_29 (dk_at dksX1_append_0 17 rfl rfl)
theorem dX1_append_18 : decode cX1_append 18 = .ok (.iastore, 1) := dk_79 (dk_at dksX1_append_0 18 rfl rfl)
theorem dX1_append_19 : decode cX1_append 19 = .ok (.dup, 1) := dk_89 (dk_at dksX1_append_0 19 rfl rfl)
theorem dX1_append_20 : decode cX1_append 20 = .ok (.iconst 3, 1) := dk_6 (dk_at dksX1_append_0 20 rfl rfl)
theorem dX1_append_21 : decode cX1_append 21 = .ok (.iload 4, 2) := dk_21 4 (dk_at dksX1_append_0 21 rfl rfl)
theorem dX1_append_23 : decode cX1_append 23 = .ok (.iastore, 1) := dk_79 (dk_at dksX1_append_0 23 rfl rfl)
theorem dX1_append_24 : decode cX1_append 24 = .ok (.dup, 1) := dk_89 (dk_at dksX1_append_1 0 rfl rfl)
theorem dX1_append_25 : decode cX1_append 25 = .ok (.iconst 4, 1) := dk_7 (dk_at dksX1_append_1 1 rfl rfl)
theorem dX1_append_26 : decode cX1_append 26 = .ok (.iload 5, 2) := dk_21 5 (dk_at dksX1_append_1 2 rfl rfl)
theorem dX1_append_28 : decode cX1_append 28 = .ok (.iastore, 1) := dk_79 (dk_at dksX1_append_1 4 rfl rfl)
theorem dX1_append_29 : decode cX1_append 29 = .ok (.invokestatic 131, 3) := dk_184 0 131 (dk_at dksX1_append_1 5 rfl rfl)
theorem dX1_append_32 : decode cX1_append 32 = .ok (.iadd, 1) := dk_96 (dk_at dksX1_append_1 8 rfl rfl)
theorem dX1_append_33 : decode cX1_append 33 = .ok (.sipush 700, 3) := dk_17 2 188 (dk_at dksX1_append_1 9 rfl rfl)
theorem dX1_append_36 : decode cX1_append 36 = .ok (.if_icmp .gt 7, 3) := dk_163 0 7 (dk_at dksX1_append_1 12 rfl rfl)
theorem dX1_append_39 : decode cX1_append 39 = .ok (.iconst 1, 1) := dk_4 (dk_at dksX1_append_1 15 rfl rfl)
theorem dX1_append_40 : decode cX1_append 40 = .ok (.goto 4, 3) := dk_167 0 4 (dk_at dksX1_append_1 16 rfl rfl)
theorem dX1_append_43 : decode cX1_append 43 = .ok (.iconst 0, 1) := dk_3 (dk_at dksX1_append_1 19 rfl rfl)
theorem dX1_append_44 : decode cX1_append 44 = .ok (.invokestatic 135, 3) := dk_184 0 135 (dk_at dksX1_append_1 20 rfl rfl)
theorem dX1_append_47 : decode cX1_append 47 = .ok (.aload_n 0, 1) := dk_42 (dk_at dksX1_append_1 23 rfl rfl)
theorem dX1_append_48 : decode cX1_append 48 = .ok (.iconst 5, 1) := dk_8 (dk_at dksX1_append_2 0 rfl rfl)
theorem dX1_append_49 : decode cX1_append 49 = .ok (.newarray .int, 2) := dk_188_10 (dk_at dksX1_append_2 1 rfl rfl)
theorem dX1_append_51 : decode cX1_append 51 = .ok (.dup, 1) := dk_89 (dk_at dksX1_append_2 3 rfl rfl)
theorem dX1_append_52 : decode cX1_append 52 = .ok (.iconst 0, 1) := dk_3 (dk_at dksX1_append_2 4 rfl rfl)
theorem dX1_append_53 : decode cX1_append 53 = .ok (.iload_n 1, 1) := dk_27 (dk_at dksX1_append_2 5 rfl rfl)
theorem dX1_append_54 : decode cX1_append 54 = .ok (.iastore, 1) := dk_79 (dk_at dksX1_append_2 6 rfl rfl)
theorem dX1_append_55 : decode cX1_append 55 = .ok (.dup, 1) := dk_89 (dk_at dksX1_append_2 7 rfl rfl)
theorem dX1_append_56 : decode cX1_append 56 = .ok (.iconst 1, 1) := dk_4 (dk_at dksX1_append_2 8 rfl rfl)
theorem dX1_append_57 : decode cX1_append 57 = .ok (.iload_n 2, 1) := dk_28 (dk_at dksX1_append_2 9 rfl rfl)
theorem dX1_append_58 : decode cX1_append 58 = .ok (.iastore, 1) := dk_79 (dk_at dksX1_append_2 10 rfl rfl)
theorem dX1_append_59 : decode cX1_append 59 = .ok (.dup, 1) := dk_89 (dk_at dksX1_append_2 11 rfl rfl)
theorem dX1_append_60 : decode cX1_append 60 = .ok (.iconst 2, 1) := dk_5 (dk_at dksX1_append_2 12 rfl rfl)
theorem dX1_append_61 : decode cX1_append 61 = .ok (.iload_n 3, 1) := dk_29 (dk_at dksX1_append_2 13 rfl rfl)
theorem dX1_append_62 : decode cX1_append 62 = .ok (.iastore, 1) := dk_79 (dk_at dksX1_append_2 14 rfl rfl)
theorem dX1_append_63 : decode cX1_append 63 = .ok (.dup, 1) := dk_89 (dk_at dksX1_append_2 15 rfl rfl)
theorem dX1_append_64 : decode cX1_append 64 = .ok (.iconst 3, 1) := dk_6 (dk_at dksX1_append_2 16 rfl rfl)
theorem dX1_append_65 : decode cX1_append 65 = .ok (.iload 4, 2) := dk_21 4 (dk_at dksX1_append_2 17 rfl rfl)
theorem dX1_append_67 : decode cX1_append 67 = .ok (.iastore, 1) := dk_79 (dk_at dksX1_append_2 19 rfl rfl)
theorem dX1_append_68 : decode cX1_append 68 = .ok (.dup, 1) := dk_89 (dk_at dksX1_append_2 20 rfl rfl)
theorem dX1_append_69 : decode cX1_append 69 = .ok (.iconst 4, 1) := dk_7 (dk_at dksX1_append_2 21 rfl rfl)
theorem dX1_append_70 : decode cX1_append 70 = .ok (.iload 5, 2) := dk_21 5 (dk_at dksX1_append_2 22 rfl rfl)
theorem dX1_append_72 : decode cX1_append 72 = .ok (.iastore, 1) := dk_79 (dk_at dksX1_append_3 0 rfl rfl)
theorem dX1_append_73 : decode cX1_append 73 = .ok (.invokevirtual 138, 3) := dk_182 0 138 (dk_at dksX1_append_3 1 rfl rfl)
theorem dX1_append_76 : decode cX1_append 76 = .ok (.aload_n 0, 1) := dk_42 (dk_at dksX1_append_3 4 rfl rfl)
theorem dX1_append_77 : decode cX1_append 77 = .ok (.getfield 128, 3) := dk_180 0 128 (dk_at dksX1_append_3 5 rfl rfl)
theorem dX1_append_80 : decode cX1_append 80 = .ok (.ireturn, 1) := dk_172 (dk_at dksX1_append_3 8 rfl rfl)
abbrev cX1_bytesIn : ByteArray := prog_1_method_10_code
def yX1_bytesIn : MethodName := ⟨RX1, "bytesIn", "([I)I"⟩
def dkwX1_bytesIn_2 : List UInt8 := [3, 96, 60, 132, 6, 248, 167, 255, 228, 132, 4, 1, 167, 255, 206, 27, 172]
abbrev dktX1_bytesIn_2 : List UInt8 := dkwX1_bytesIn_2 ++ []
def dkwX1_bytesIn_1 : List UInt8 := [54, 6, 21, 6, 155, 0, 29, 27, 21, 5, 21, 6, 122, 17, 0, 255, 126, 153, 0, 7, 4, 167, 0, 4]
abbrev dktX1_bytesIn_1 : List UInt8 := dkwX1_bytesIn_1 ++ dktX1_bytesIn_2
def dkwX1_bytesIn_0 : List UInt8 := [3, 60, 42, 77, 44, 190, 62, 3, 54, 4, 21, 4, 29, 162, 0, 50, 44, 21, 4, 46, 54, 5, 16, 24]
abbrev dktX1_bytesIn_0 : List UInt8 := dkwX1_bytesIn_0 ++ dktX1_bytesIn_1
theorem dksX1_bytesIn_0 : cX1_bytesIn.data.toList.drop 0 = dktX1_bytesIn_0 := by decide +kernel
theorem dksX1_bytesIn_1 : cX1_bytesIn.data.toList.drop 24 = dktX1_bytesIn_1 := dk_seg dksX1_bytesIn_0 24 rfl rfl
theorem dksX1_bytesIn_2 : cX1_bytesIn.data.toList.drop 48 = dktX1_bytesIn_2 := dk_seg dksX1_bytesIn_1 24 rfl rfl
theorem dX1_bytesIn_0 : decode cX1_bytesIn 0 = .ok (.iconst 0, 1) := dk_3 (dk_at dksX1_bytesIn_0 0 rfl rfl)
theorem dX1_bytesIn_1 : decode cX1_bytesIn 1 = .ok (.istore_n 1, 1) := dk_60 (dk_at dksX1_bytesIn_0 1 rfl rfl)
theorem dX1_bytesIn_2 : decode cX1_bytesIn 2 = .ok (.aload_n 0, 1) := dk_42 (dk_at dksX1_bytesIn_0 2 rfl rfl)
theorem dX1_bytesIn_3 : decode cX1_bytesIn 3 = .ok (.astore_n 2, 1) := dk_77 (dk_at dksX1_bytesIn_0 3 rfl rfl)
theorem dX1_bytesIn_4 : decode cX1_bytesIn 4 = .ok (.aload_n 2, 1) := dk_44 (dk_at dksX1_bytesIn_0 4 rfl rfl)
theorem dX1_bytesIn_5 : decode cX1_bytesIn 5 = .ok (.arraylength, 1) := dk_190 (dk_at dksX1_bytesIn_0 5 rfl rfl)
theorem dX1_bytesIn_6 : decode cX1_bytesIn 6 = .ok (.istore_n 3, 1) := dk_62 (dk_at dksX1_bytesIn_0 6 rfl rfl)
theorem dX1_bytesIn_7 : decode cX1_bytesIn 7 = .ok (.iconst 0, 1) := dk_3 (dk_at dksX1_bytesIn_0 7 rfl rfl)
theorem dX1_bytesIn_8 : decode cX1_bytesIn 8 = .ok (.istore 4, 2) := dk_54 4 (dk_at dksX1_bytesIn_0 8 rfl rfl)
theorem dX1_bytesIn_10 : decode cX1_bytesIn 10 = .ok (.iload 4, 2) := dk_21 4 (dk_at dksX1_bytesIn_0 10 rfl rfl)
theorem dX1_bytesIn_12 : decode cX1_bytesIn 12 = .ok (.iload_n 3, 1) := dk_29 (dk_at dksX1_bytesIn_0 12 rfl rfl)
theorem dX1_bytesIn_13 : decode cX1_bytesIn 13 = .ok (.if_icmp .ge 50, 3) := dk_162 0 50 (dk_at dksX1_bytesIn_0 13 rfl rfl)
theorem dX1_bytesIn_16 : decode cX1_bytesIn 16 = .ok (.aload_n 2, 1) := dk_44 (dk_at dksX1_bytesIn_0 16 rfl rfl)
theorem dX1_bytesIn_17 : decode cX1_bytesIn 17 = .ok (.iload 4, 2) := dk_21 4 (dk_at dksX1_bytesIn_0 17 rfl rfl)
theorem dX1_bytesIn_19 : decode cX1_bytesIn 19 = .ok (.iaload, 1) := dk_46 (dk_at dksX1_bytesIn_0 19 rfl rfl)
theorem dX1_bytesIn_20 : decode cX1_bytesIn 20 = .ok (.istore 5, 2) := dk_54 5 (dk_at dksX1_bytesIn_0 20 rfl rfl)
theorem dX1_bytesIn_22 : decode cX1_bytesIn 22 = .ok (.bipush 24, 2) := dk_16 24 (dk_at dksX1_bytesIn_0 22 rfl rfl)
theorem dX1_bytesIn_24 : decode cX1_bytesIn 24 = .ok (.istore 6, 2) := dk_54 6 (dk_at dksX1_bytesIn_1 0 rfl rfl)
theorem dX1_bytesIn_26 : decode cX1_bytesIn 26 = .ok (.iload 6, 2) := dk_21 6 (dk_at dksX1_bytesIn_1 2 rfl rfl)
theorem dX1_bytesIn_28 : decode cX1_bytesIn 28 = .ok (.ifCond .lt 29, 3) := dk_155 0 29 (dk_at dksX1_bytesIn_1 4 rfl rfl)
theorem dX1_bytesIn_31 : decode cX1_bytesIn 31 = .ok (.iload_n 1, 1) := dk_27 (dk_at dksX1_bytesIn_1 7 rfl rfl)
theorem dX1_bytesIn_32 : decode cX1_bytesIn 32 = .ok (.iload 5, 2) := dk_21 5 (dk_at dksX1_bytesIn_1 8 rfl rfl)
theorem dX1_bytesIn_34 : decode cX1_bytesIn 34 = .ok (.iload 6, 2) := dk_21 6 (dk_at dksX1_bytesIn_1 10 rfl rfl)
theorem dX1_bytesIn_36 : decode cX1_bytesIn 36 = .ok (.ishr, 1) := dk_122 (dk_at dksX1_bytesIn_1 12 rfl rfl)
theorem dX1_bytesIn_37 : decode cX1_bytesIn 37 = .ok (.sipush 255, 3) := dk_17 0 255 (dk_at dksX1_bytesIn_1 13 rfl rfl)
theorem dX1_bytesIn_40 : decode cX1_bytesIn 40 = .ok (.iand, 1) := dk_126 (dk_at dksX1_bytesIn_1 16 rfl rfl)
theorem dX1_bytesIn_41 : decode cX1_bytesIn 41 = .ok (.ifCond .eq 7, 3) := dk_153 0 7 (dk_at dksX1_bytesIn_1 17 rfl rfl)
theorem dX1_bytesIn_44 : decode cX1_bytesIn 44 = .ok (.iconst 1, 1) := dk_4 (dk_at dksX1_bytesIn_1 20 rfl rfl)
theorem dX1_bytesIn_45 : decode cX1_bytesIn 45 = .ok (.goto 4, 3) := dk_167 0 4 (dk_at dksX1_bytesIn_1 21 rfl rfl)
theorem dX1_bytesIn_48 : decode cX1_bytesIn 48 = .ok (.iconst 0, 1) := dk_3 (dk_at dksX1_bytesIn_2 0 rfl rfl)
theorem dX1_bytesIn_49 : decode cX1_bytesIn 49 = .ok (.iadd, 1) := dk_96 (dk_at dksX1_bytesIn_2 1 rfl rfl)
theorem dX1_bytesIn_50 : decode cX1_bytesIn 50 = .ok (.istore_n 1, 1) := dk_60 (dk_at dksX1_bytesIn_2 2 rfl rfl)
theorem dX1_bytesIn_51 : decode cX1_bytesIn 51 = .ok (.iinc 6 (-8), 3) := dk_132 6 248 (dk_at dksX1_bytesIn_2 3 rfl rfl)
theorem dX1_bytesIn_54 : decode cX1_bytesIn 54 = .ok (.goto (-28), 3) := dk_167 255 228 (dk_at dksX1_bytesIn_2 6 rfl rfl)
theorem dX1_bytesIn_57 : decode cX1_bytesIn 57 = .ok (.iinc 4 1, 3) := dk_132 4 1 (dk_at dksX1_bytesIn_2 9 rfl rfl)
theorem dX1_bytesIn_60 : decode cX1_bytesIn 60 = .ok (.goto (-50), 3) := dk_167 255 206 (dk_at dksX1_bytesIn_2 12 rfl rfl)
theorem dX1_bytesIn_63 : decode cX1_bytesIn 63 = .ok (.iload_n 1, 1) := dk_27 (dk_at dksX1_bytesIn_2 15 rfl rfl)
theorem dX1_bytesIn_64 : decode cX1_bytesIn 64 = .ok (.ireturn, 1) := dk_172 (dk_at dksX1_bytesIn_2 16 rfl rfl)
abbrev cX1_requireState : ByteArray := prog_1_method_6_code
def yX1_requireState : MethodName := ⟨RX1, "requireState", "(Z)V"⟩
def dkwX1_requireState_0 : List UInt8 := [26, 154, 0, 11, 187, 0, 98, 89, 183, 0, 100, 191, 177]
abbrev dktX1_requireState_0 : List UInt8 := dkwX1_requireState_0 ++ []
theorem dksX1_requireState_0 : cX1_requireState.data.toList.drop 0 = dktX1_requireState_0 := by decide +kernel
theorem dX1_requireState_0 : decode cX1_requireState 0 = .ok (.iload_n 0, 1) := dk_26 (dk_at dksX1_requireState_0 0 rfl rfl)
theorem dX1_requireState_1 : decode cX1_requireState 1 = .ok (.ifCond .ne 11, 3) := dk_154 0 11 (dk_at dksX1_requireState_0 1 rfl rfl)
theorem dX1_requireState_4 : decode cX1_requireState 4 = .ok (.new 98, 3) := dk_187 0 98 (dk_at dksX1_requireState_0 4 rfl rfl)
theorem dX1_requireState_7 : decode cX1_requireState 7 = .ok (.dup, 1) := dk_89 (dk_at dksX1_requireState_0 7 rfl rfl)
theorem dX1_requireState_8 : decode cX1_requireState 8 = .ok (.invokespecial 100, 3) := dk_183 0 100 (dk_at dksX1_requireState_0 8 rfl rfl)
theorem dX1_requireState_11 : decode cX1_requireState 11 = .ok (.athrow, 1) := dk_191 (dk_at dksX1_requireState_0 11 rfl rfl)
theorem dX1_requireState_12 : decode cX1_requireState 12 = .ok (.return_, 1) := dk_177 (dk_at dksX1_requireState_0 12 rfl rfl)
abbrev cX1_appendAll : ByteArray := prog_1_method_11_code
def yX1_appendAll : MethodName := ⟨RX1, "appendAll", "([I)V"⟩
def dkwX1_appendAll_3 : List UInt8 := [132, 6, 248, 167, 255, 207, 132, 4, 1, 167, 255, 185, 177]
abbrev dktX1_appendAll_3 : List UInt8 := dkwX1_appendAll_3 ++ []
def dkwX1_appendAll_2 : List UInt8 := [42, 180, 0, 9, 42, 180, 0, 128, 21, 7, 145, 84, 42, 89, 180, 0, 128, 4, 96, 181, 0, 128]
abbrev dktX1_appendAll_2 : List UInt8 := dkwX1_appendAll_2 ++ dktX1_appendAll_3
def dkwX1_appendAll_1 : List UInt8 := [21, 6, 155, 0, 50, 21, 5, 21, 6, 122, 17, 0, 255, 126, 54, 7, 21, 7, 154, 0, 6, 167, 0, 25]
abbrev dktX1_appendAll_1 : List UInt8 := dkwX1_appendAll_1 ++ dktX1_appendAll_2
def dkwX1_appendAll_0 : List UInt8 := [43, 77, 44, 190, 62, 3, 54, 4, 21, 4, 29, 162, 0, 71, 44, 21, 4, 46, 54, 5, 16, 24, 54, 6]
abbrev dktX1_appendAll_0 : List UInt8 := dkwX1_appendAll_0 ++ dktX1_appendAll_1
theorem dksX1_appendAll_0 : cX1_appendAll.data.toList.drop 0 = dktX1_appendAll_0 := by decide +kernel
theorem dksX1_appendAll_1 : cX1_appendAll.data.toList.drop 24 = dktX1_appendAll_1 := dk_seg dksX1_appendAll_0 24 rfl rfl
theorem dksX1_appendAll_2 : cX1_appendAll.data.toList.drop 48 = dktX1_appendAll_2 := dk_seg dksX1_appendAll_1 24 rfl rfl
theorem dksX1_appendAll_3 : cX1_appendAll.data.toList.drop 70 = dktX1_appendAll_3 := dk_seg dksX1_appendAll_2 22 rfl rfl
theorem dX1_appendAll_0 : decode cX1_appendAll 0 = .ok (.aload_n 1, 1) := dk_43 (dk_at dksX1_appendAll_0 0 rfl rfl)
theorem dX1_appendAll_1 : decode cX1_appendAll 1 = .ok (.astore_n 2, 1) := dk_77 (dk_at dksX1_appendAll_0 1 rfl rfl)
theorem dX1_appendAll_2 : decode cX1_appendAll 2 = .ok (.aload_n 2, 1) := dk_44 (dk_at dksX1_appendAll_0 2 rfl rfl)
theorem dX1_appendAll_3 : decode cX1_appendAll 3 = .ok (.arraylength, 1) := dk_190 (dk_at dksX1_appendAll_0 3 rfl rfl)
theorem dX1_appendAll_4 : decode cX1_appendAll 4 = .ok (.istore_n 3, 1) := dk_62 (dk_at dksX1_appendAll_0 4 rfl rfl)
theorem dX1_appendAll_5 : decode cX1_appendAll 5 = .ok (.iconst 0, 1) := dk_3 (dk_at dksX1_appendAll_0 5 rfl rfl)
theorem dX1_appendAll_6 : decode cX1_appendAll 6 = .ok (.istore 4, 2) := dk_54 4 (dk_at dksX1_appendAll_0 6 rfl rfl)
theorem dX1_appendAll_8 : decode cX1_appendAll 8 = .ok (.iload 4, 2) := dk_21 4 (dk_at dksX1_appendAll_0 8 rfl rfl)
theorem dX1_appendAll_10 : decode cX1_appendAll 10 = .ok (.iload_n 3, 1) := dk_29 (dk_at dksX1_appendAll_0 10 rfl rfl)
theorem dX1_appendAll_11 : decode cX1_appendAll 11 = .ok (.if_icmp .ge 71, 3) := dk_162 0 71 (dk_at dksX1_appendAll_0 11 rfl rfl)
theorem dX1_appendAll_14 : decode cX1_appendAll 14 = .ok (.aload_n 2, 1) := dk_44 (dk_at dksX1_appendAll_0 14 rfl rfl)
theorem dX1_appendAll_15 : decode cX1_appendAll 15 = .ok (.iload 4, 2) := dk_21 4 (dk_at dksX1_appendAll_0 15 rfl rfl)
theorem dX1_appendAll_17 : decode cX1_appendAll 17 = .ok (.iaload, 1) := dk_46 (dk_at dksX1_appendAll_0 17 rfl rfl)
theorem dX1_appendAll_18 : decode cX1_appendAll 18 = .ok (.istore 5, 2) := dk_54 5 (dk_at dksX1_appendAll_0 18 rfl rfl)
theorem dX1_appendAll_20 : decode cX1_appendAll 20 = .ok (.bipush 24, 2) := dk_16 24 (dk_at dksX1_appendAll_0 20 rfl rfl)
theorem dX1_appendAll_22 : decode cX1_appendAll 22 = .ok (.istore 6, 2) := dk_54 6 (dk_at dksX1_appendAll_0 22 rfl rfl)
theorem dX1_appendAll_24 : decode cX1_appendAll 24 = .ok (.iload 6, 2) := dk_21 6 (dk_at dksX1_appendAll_1 0 rfl rfl)
theorem dX1_appendAll_26 : decode cX1_appendAll 26 = .ok (.ifCond .lt 50, 3) := dk_155 0 50 (dk_at dksX1_appendAll_1 2 rfl rfl)
theorem dX1_appendAll_29 : decode cX1_appendAll 29 = .ok (.iload 5, 2) := dk_21 5 (dk_at dksX1_appendAll_1 5 rfl rfl)
theorem dX1_appendAll_31 : decode cX1_appendAll 31 = .ok (.iload 6, 2) := dk_21 6 (dk_at dksX1_appendAll_1 7 rfl rfl)
theorem dX1_appendAll_33 : decode cX1_appendAll 33 = .ok (.ishr, 1) := dk_122 (dk_at dksX1_appendAll_1 9 rfl rfl)
theorem dX1_appendAll_34 : decode cX1_appendAll 34 = .ok (.sipush 255, 3) := dk_17 0 255 (dk_at dksX1_appendAll_1 10 rfl rfl)
theorem dX1_appendAll_37 : decode cX1_appendAll 37 = .ok (.iand, 1) := dk_126 (dk_at dksX1_appendAll_1 13 rfl rfl)
theorem dX1_appendAll_38 : decode cX1_appendAll 38 = .ok (.istore 7, 2) := dk_54 7 (dk_at dksX1_appendAll_1 14 rfl rfl)
theorem dX1_appendAll_40 : decode cX1_appendAll 40 = .ok (.iload 7, 2) := dk_21 7 (dk_at dksX1_appendAll_1 16 rfl rfl)
theorem dX1_appendAll_42 : decode cX1_appendAll 42 = .ok (.ifCond .ne 6, 3) := dk_154 0 6 (dk_at dksX1_appendAll_1 18 rfl rfl)
theorem dX1_appendAll_45 : decode cX1_appendAll 45 = .ok (.goto 25, 3) := dk_167 0 25 (dk_at dksX1_appendAll_1 21 rfl rfl)
theorem dX1_appendAll_48 : decode cX1_appendAll 48 = .ok (.aload_n 0, 1) := dk_42 (dk_at dksX1_appendAll_2 0 rfl rfl)
theorem dX1_appendAll_49 : decode cX1_appendAll 49 = .ok (.getfield 9, 3) := dk_180 0 9 (dk_at dksX1_appendAll_2 1 rfl rfl)
theorem dX1_appendAll_52 : decode cX1_appendAll 52 = .ok (.aload_n 0, 1) := dk_42 (dk_at dksX1_appendAll_2 4 rfl rfl)
theorem dX1_appendAll_53 : decode cX1_appendAll 53 = .ok (.getfield 128, 3) := dk_180 0 128 (dk_at dksX1_appendAll_2 5 rfl rfl)
theorem dX1_appendAll_56 : decode cX1_appendAll 56 = .ok (.iload 7, 2) := dk_21 7 (dk_at dksX1_appendAll_2 8 rfl rfl)
theorem dX1_appendAll_58 : decode cX1_appendAll 58 = .ok (.i2b, 1) := dk_145 (dk_at dksX1_appendAll_2 10 rfl rfl)
theorem dX1_appendAll_59 : decode cX1_appendAll 59 = .ok (.bastore, 1) := dk_84 (dk_at dksX1_appendAll_2 11 rfl rfl)
theorem dX1_appendAll_60 : decode cX1_appendAll 60 = .ok (.aload_n 0, 1) := dk_42 (dk_at dksX1_appendAll_2 12 rfl rfl)
theorem dX1_appendAll_61 : decode cX1_appendAll 61 = .ok (.dup, 1) := dk_89 (dk_at dksX1_appendAll_2 13 rfl rfl)
theorem dX1_appendAll_62 : decode cX1_appendAll 62 = .ok (.getfield 128, 3) := dk_180 0 128 (dk_at dksX1_appendAll_2 14 rfl rfl)
theorem dX1_appendAll_65 : decode cX1_appendAll 65 = .ok (.iconst 1, 1) := dk_4 (dk_at dksX1_appendAll_2 17 rfl rfl)
theorem dX1_appendAll_66 : decode cX1_appendAll 66 = .ok (.iadd, 1) := dk_96 (dk_at dksX1_appendAll_2 18 rfl rfl)
theorem dX1_appendAll_67 : decode cX1_appendAll 67 = .ok (.putfield 128, 3) := dk_181 0 128 (dk_at dksX1_appendAll_2 19 rfl rfl)
theorem dX1_appendAll_70 : decode cX1_appendAll 70 = .ok (.iinc 6 (-8), 3) := dk_132 6 248 (dk_at dksX1_appendAll_3 0 rfl rfl)
theorem dX1_appendAll_73 : decode cX1_appendAll 73 = .ok (.goto (-49), 3) := dk_167 255 207 (dk_at dksX1_appendAll_3 3 rfl rfl)
theorem dX1_appendAll_76 : decode cX1_appendAll 76 = .ok (.iinc 4 1, 3) := dk_132 4 1 (dk_at dksX1_appendAll_3 6 rfl rfl)
theorem dX1_appendAll_79 : decode cX1_appendAll 79 = .ok (.goto (-71), 3) := dk_167 255 185 (dk_at dksX1_appendAll_3 9 rfl rfl)
theorem dX1_appendAll_82 : decode cX1_appendAll 82 = .ok (.return_, 1) := dk_177 (dk_at dksX1_appendAll_3 12 rfl rfl)
abbrev cX1_truncate : ByteArray := prog_1_method_13_code
def yX1_truncate : MethodName := ⟨RX1, "truncate", "(I)I"⟩
def dkwX1_truncate_1 : List UInt8 := [28, 172]
abbrev dktX1_truncate_1 : List UInt8 := dkwX1_truncate_1 ++ []
def dkwX1_truncate_0 : List UInt8 := [27, 3, 42, 180, 0, 128, 184, 0, 108, 184, 0, 142, 42, 180, 0, 128, 27, 100, 61, 42, 27, 181, 0, 128]
abbrev dktX1_truncate_0 : List UInt8 := dkwX1_truncate_0 ++ dktX1_truncate_1
theorem dksX1_truncate_0 : cX1_truncate.data.toList.drop 0 = dktX1_truncate_0 := by decide +kernel
theorem dksX1_truncate_1 : cX1_truncate.data.toList.drop 24 = dktX1_truncate_1 := dk_seg dksX1_truncate_0 24 rfl rfl
theorem dX1_truncate_0 : decode cX1_truncate 0 = .ok (.iload_n 1, 1) := dk_27 (dk_at dksX1_truncate_0 0 rfl rfl)
theorem dX1_truncate_1 : decode cX1_truncate 1 = .ok (.iconst 0, 1) := dk_3 (dk_at dksX1_truncate_0 1 rfl rfl)
theorem dX1_truncate_2 : decode cX1_truncate 2 = .ok (.aload_n 0, 1) := dk_42 (dk_at dksX1_truncate_0 2 rfl rfl)
theorem dX1_truncate_3 : decode cX1_truncate 3 = .ok (.getfield 128, 3) := dk_180 0 128 (dk_at dksX1_truncate_0 3 rfl rfl)
theorem dX1_truncate_6 : decode cX1_truncate 6 = .ok (.invokestatic 108, 3) := dk_184 0 108 (dk_at dksX1_truncate_0 6 rfl rfl)
theorem dX1_truncate_9 : decode cX1_truncate 9 = .ok (.invokestatic 142, 3) := dk_184 0 142 (dk_at dksX1_truncate_0 9 rfl rfl)
theorem dX1_truncate_12 : decode cX1_truncate 12 = .ok (.aload_n 0, 1) := dk_42 (dk_at dksX1_truncate_0 12 rfl rfl)
theorem dX1_truncate_13 : decode cX1_truncate 13 = .ok (.getfield 128, 3) := dk_180 0 128 (dk_at dksX1_truncate_0 13 rfl rfl)
theorem dX1_truncate_16 : decode cX1_truncate 16 = .ok (.iload_n 1, 1) := dk_27 (dk_at dksX1_truncate_0 16 rfl rfl)
theorem dX1_truncate_17 : decode cX1_truncate 17 = .ok (.isub, 1) := dk_100 (dk_at dksX1_truncate_0 17 rfl rfl)
theorem dX1_truncate_18 : decode cX1_truncate 18 = .ok (.istore_n 2, 1) := dk_61 (dk_at dksX1_truncate_0 18 rfl rfl)
theorem dX1_truncate_19 : decode cX1_truncate 19 = .ok (.aload_n 0, 1) := dk_42 (dk_at dksX1_truncate_0 19 rfl rfl)
theorem dX1_truncate_20 : decode cX1_truncate 20 = .ok (.iload_n 1, 1) := dk_27 (dk_at dksX1_truncate_0 20 rfl rfl)
theorem dX1_truncate_21 : decode cX1_truncate 21 = .ok (.putfield 128, 3) := dk_181 0 128 (dk_at dksX1_truncate_0 21 rfl rfl)
theorem dX1_truncate_24 : decode cX1_truncate 24 = .ok (.iload_n 2, 1) := dk_28 (dk_at dksX1_truncate_1 0 rfl rfl)
theorem dX1_truncate_25 : decode cX1_truncate 25 = .ok (.ireturn, 1) := dk_172 (dk_at dksX1_truncate_1 1 rfl rfl)
abbrev cX1_requireArgument : ByteArray := prog_1_method_5_code
def yX1_requireArgument : MethodName := ⟨RX1, "requireArgument", "(Z)V"⟩
def dkwX1_requireArgument_0 : List UInt8 := [26, 154, 0, 11, 187, 0, 95, 89, 183, 0, 97, 191, 177]
abbrev dktX1_requireArgument_0 : List UInt8 := dkwX1_requireArgument_0 ++ []
theorem dksX1_requireArgument_0 : cX1_requireArgument.data.toList.drop 0 = dktX1_requireArgument_0 := by decide +kernel
theorem dX1_requireArgument_0 : decode cX1_requireArgument 0 = .ok (.iload_n 0, 1) := dk_26 (dk_at dksX1_requireArgument_0 0 rfl rfl)
theorem dX1_requireArgument_1 : decode cX1_requireArgument 1 = .ok (.ifCond .ne 11, 3) := dk_154 0 11 (dk_at dksX1_requireArgument_0 1 rfl rfl)
theorem dX1_requireArgument_4 : decode cX1_requireArgument 4 = .ok (.new 95, 3) := dk_187 0 95 (dk_at dksX1_requireArgument_0 4 rfl rfl)
theorem dX1_requireArgument_7 : decode cX1_requireArgument 7 = .ok (.dup, 1) := dk_89 (dk_at dksX1_requireArgument_0 7 rfl rfl)
theorem dX1_requireArgument_8 : decode cX1_requireArgument 8 = .ok (.invokespecial 97, 3) := dk_183 0 97 (dk_at dksX1_requireArgument_0 8 rfl rfl)
theorem dX1_requireArgument_11 : decode cX1_requireArgument 11 = .ok (.athrow, 1) := dk_191 (dk_at dksX1_requireArgument_0 11 rfl rfl)
theorem dX1_requireArgument_12 : decode cX1_requireArgument 12 = .ok (.return_, 1) := dk_177 (dk_at dksX1_requireArgument_0 12 rfl rfl)
abbrev cX1_bins : ByteArray := prog_1_method_25_code
def yX1_bins : MethodName := ⟨RX1, "bins", "(I)I"⟩
def dkwX1_bins_0 : List UInt8 := [42, 27, 182, 1, 5, 180, 1, 9, 172]
abbrev dktX1_bins_0 : List UInt8 := dkwX1_bins_0 ++ []
theorem dksX1_bins_0 : cX1_bins.data.toList.drop 0 = dktX1_bins_0 := by decide +kernel
theorem dX1_bins_0 : decode cX1_bins 0 = .ok (.aload_n 0, 1) := dk_42 (dk_at dksX1_bins_0 0 rfl rfl)
theorem dX1_bins_1 : decode cX1_bins 1 = .ok (.iload_n 1, 1) := dk_27 (dk_at dksX1_bins_0 1 rfl rfl)
theorem dX1_bins_2 : decode cX1_bins 2 = .ok (.invokevirtual 261, 3) := dk_182 1 5 (dk_at dksX1_bins_0 2 rfl rfl)
theorem dX1_bins_5 : decode cX1_bins 5 = .ok (.getfield 265, 3) := dk_180 1 9 (dk_at dksX1_bins_0 5 rfl rfl)
theorem dX1_bins_8 : decode cX1_bins 8 = .ok (.ireturn, 1) := dk_172 (dk_at dksX1_bins_0 8 rfl rfl)
abbrev cX1_streetWith : ByteArray := prog_1_method_7_code
def yX1_streetWith : MethodName := ⟨RX1, "streetWith", "(I)LRoseGuild$Street;"⟩
def dkwX1_streetWith_1 : List UInt8 := [180, 0, 39, 180, 0, 101, 27, 185, 0, 116, 2, 0, 192, 0, 43, 176]
abbrev dktX1_streetWith_1 : List UInt8 := dkwX1_streetWith_1 ++ []
def dkwX1_streetWith_0 : List UInt8 := [27, 3, 42, 180, 0, 39, 180, 0, 101, 185, 0, 105, 1, 0, 4, 100, 184, 0, 108, 184, 0, 112, 42]
abbrev dktX1_streetWith_0 : List UInt8 := dkwX1_streetWith_0 ++ dktX1_streetWith_1
theorem dksX1_streetWith_0 : cX1_streetWith.data.toList.drop 0 = dktX1_streetWith_0 := by decide +kernel
theorem dksX1_streetWith_1 : cX1_streetWith.data.toList.drop 23 = dktX1_streetWith_1 := dk_seg dksX1_streetWith_0 23 rfl rfl
theorem dX1_streetWith_0 : decode cX1_streetWith 0 = .ok (.iload_n 1, 1) := dk_27 (dk_at dksX1_streetWith_0 0 rfl rfl)
theorem dX1_streetWith_1 : decode cX1_streetWith 1 = .ok (.iconst 0, 1) := dk_3 (dk_at dksX1_streetWith_0 1 rfl rfl)
theorem dX1_streetWith_2 : decode cX1_streetWith 2 = .ok (.aload_n 0, 1) := dk_42 (dk_at dksX1_streetWith_0 2 rfl rfl)
theorem dX1_streetWith_3 : decode cX1_streetWith 3 = .ok (.getfield 39, 3) := dk_180 0 39 (dk_at dksX1_streetWith_0 3 rfl rfl)
theorem dX1_streetWith_6 : decode cX1_streetWith 6 = .ok (.getfield 101, 3) := dk_180 0 101 (dk_at dksX1_streetWith_0 6 rfl rfl)
theorem dX1_streetWith_9 : decode cX1_streetWith 9 = .ok (.invokeinterface 105 1, 5) := by decide +kernel
theorem dX1_streetWith_14 : decode cX1_streetWith 14 = .ok (.iconst 1, 1) := dk_4 (dk_at dksX1_streetWith_0 14 rfl rfl)
theorem dX1_streetWith_15 : decode cX1_streetWith 15 = .ok (.isub, 1) := dk_100 (dk_at dksX1_streetWith_0 15 rfl rfl)
theorem dX1_streetWith_16 : decode cX1_streetWith 16 = .ok (.invokestatic 108, 3) := dk_184 0 108 (dk_at dksX1_streetWith_0 16 rfl rfl)
theorem dX1_streetWith_19 : decode cX1_streetWith 19 = .ok (.invokestatic 112, 3) := dk_184 0 112 (dk_at dksX1_streetWith_0 19 rfl rfl)
theorem dX1_streetWith_22 : decode cX1_streetWith 22 = .ok (.aload_n 0, 1) := dk_42 (dk_at dksX1_streetWith_0 22 rfl rfl)
theorem dX1_streetWith_23 : decode cX1_streetWith 23 = .ok (.getfield 39, 3) := dk_180 0 39 (dk_at dksX1_streetWith_1 0 rfl rfl)
theorem dX1_streetWith_26 : decode cX1_streetWith 26 = .ok (.getfield 101, 3) := dk_180 0 101 (dk_at dksX1_streetWith_1 3 rfl rfl)
theorem dX1_streetWith_29 : decode cX1_streetWith 29 = .ok (.iload_n 1, 1) := dk_27 (dk_at dksX1_streetWith_1 6 rfl rfl)
theorem dX1_streetWith_30 : decode cX1_streetWith 30 = .ok (.invokeinterface 116 2, 5) := by decide +kernel
theorem dX1_streetWith_35 : decode cX1_streetWith 35 = .ok (.checkcast 43, 3) := dk_192 0 43 (dk_at dksX1_streetWith_1 12 rfl rfl)
theorem dX1_streetWith_38 : decode cX1_streetWith 38 = .ok (.areturn, 1) := dk_176 (dk_at dksX1_streetWith_1 15 rfl rfl)
abbrev cX1_requireIndex : ByteArray := prog_1_method_4_code
def yX1_requireIndex : MethodName := ⟨RX1, "requireIndex", "(Z)V"⟩
def dkwX1_requireIndex_0 : List UInt8 := [26, 154, 0, 11, 187, 0, 92, 89, 183, 0, 94, 191, 177]
abbrev dktX1_requireIndex_0 : List UInt8 := dkwX1_requireIndex_0 ++ []
theorem dksX1_requireIndex_0 : cX1_requireIndex.data.toList.drop 0 = dktX1_requireIndex_0 := by decide +kernel
theorem dX1_requireIndex_0 : decode cX1_requireIndex 0 = .ok (.iload_n 0, 1) := dk_26 (dk_at dksX1_requireIndex_0 0 rfl rfl)
theorem dX1_requireIndex_1 : decode cX1_requireIndex 1 = .ok (.ifCond .ne 11, 3) := dk_154 0 11 (dk_at dksX1_requireIndex_0 1 rfl rfl)
theorem dX1_requireIndex_4 : decode cX1_requireIndex 4 = .ok (.new 92, 3) := dk_187 0 92 (dk_at dksX1_requireIndex_0 4 rfl rfl)
theorem dX1_requireIndex_7 : decode cX1_requireIndex 7 = .ok (.dup, 1) := dk_89 (dk_at dksX1_requireIndex_0 7 rfl rfl)
theorem dX1_requireIndex_8 : decode cX1_requireIndex 8 = .ok (.invokespecial 94, 3) := dk_183 0 94 (dk_at dksX1_requireIndex_0 8 rfl rfl)
theorem dX1_requireIndex_11 : decode cX1_requireIndex 11 = .ok (.athrow, 1) := dk_191 (dk_at dksX1_requireIndex_0 11 rfl rfl)
theorem dX1_requireIndex_12 : decode cX1_requireIndex 12 = .ok (.return_, 1) := dk_177 (dk_at dksX1_requireIndex_0 12 rfl rfl)
abbrev cX1_spilled : ByteArray := prog_1_method_26_code
def yX1_spilled : MethodName := ⟨RX1, "spilled", "(I)I"⟩
def dkwX1_spilled_0 : List UInt8 := [42, 27, 182, 1, 5, 180, 1, 12, 172]
abbrev dktX1_spilled_0 : List UInt8 := dkwX1_spilled_0 ++ []
theorem dksX1_spilled_0 : cX1_spilled.data.toList.drop 0 = dktX1_spilled_0 := by decide +kernel
theorem dX1_spilled_0 : decode cX1_spilled 0 = .ok (.aload_n 0, 1) := dk_42 (dk_at dksX1_spilled_0 0 rfl rfl)
theorem dX1_spilled_1 : decode cX1_spilled 1 = .ok (.iload_n 1, 1) := dk_27 (dk_at dksX1_spilled_0 1 rfl rfl)
theorem dX1_spilled_2 : decode cX1_spilled 2 = .ok (.invokevirtual 261, 3) := dk_182 1 5 (dk_at dksX1_spilled_0 2 rfl rfl)
theorem dX1_spilled_5 : decode cX1_spilled 5 = .ok (.getfield 268, 3) := dk_180 1 12 (dk_at dksX1_spilled_0 5 rfl rfl)
theorem dX1_spilled_8 : decode cX1_spilled 8 = .ok (.ireturn, 1) := dk_172 (dk_at dksX1_spilled_0 8 rfl rfl)
abbrev cX1_complaints : ByteArray := prog_1_method_27_code
def yX1_complaints : MethodName := ⟨RX1, "complaints", "(I)I"⟩
def dkwX1_complaints_0 : List UInt8 := [42, 27, 182, 1, 5, 180, 1, 15, 172]
abbrev dktX1_complaints_0 : List UInt8 := dkwX1_complaints_0 ++ []
theorem dksX1_complaints_0 : cX1_complaints.data.toList.drop 0 = dktX1_complaints_0 := by decide +kernel
theorem dX1_complaints_0 : decode cX1_complaints 0 = .ok (.aload_n 0, 1) := dk_42 (dk_at dksX1_complaints_0 0 rfl rfl)
theorem dX1_complaints_1 : decode cX1_complaints 1 = .ok (.iload_n 1, 1) := dk_27 (dk_at dksX1_complaints_0 1 rfl rfl)
theorem dX1_complaints_2 : decode cX1_complaints 2 = .ok (.invokevirtual 261, 3) := dk_182 1 5 (dk_at dksX1_complaints_0 2 rfl rfl)
theorem dX1_complaints_5 : decode cX1_complaints 5 = .ok (.getfield 271, 3) := dk_180 1 15 (dk_at dksX1_complaints_0 5 rfl rfl)
theorem dX1_complaints_8 : decode cX1_complaints 8 = .ok (.ireturn, 1) := dk_172 (dk_at dksX1_complaints_0 8 rfl rfl)
abbrev cX1_wasServed : ByteArray := prog_1_method_28_code
def yX1_wasServed : MethodName := ⟨RX1, "wasServed", "(I)Z"⟩
def dkwX1_wasServed_0 : List UInt8 := [42, 27, 182, 1, 5, 77, 42, 180, 0, 39, 180, 1, 18, 44, 180, 1, 2, 182, 1, 22, 172]
abbrev dktX1_wasServed_0 : List UInt8 := dkwX1_wasServed_0 ++ []
theorem dksX1_wasServed_0 : cX1_wasServed.data.toList.drop 0 = dktX1_wasServed_0 := by decide +kernel
theorem dX1_wasServed_0 : decode cX1_wasServed 0 = .ok (.aload_n 0, 1) := dk_42 (dk_at dksX1_wasServed_0 0 rfl rfl)
theorem dX1_wasServed_1 : decode cX1_wasServed 1 = .ok (.iload_n 1, 1) := dk_27 (dk_at dksX1_wasServed_0 1 rfl rfl)
theorem dX1_wasServed_2 : decode cX1_wasServed 2 = .ok (.invokevirtual 261, 3) := dk_182 1 5 (dk_at dksX1_wasServed_0 2 rfl rfl)
theorem dX1_wasServed_5 : decode cX1_wasServed 5 = .ok (.astore_n 2, 1) := dk_77 (dk_at dksX1_wasServed_0 5 rfl rfl)
theorem dX1_wasServed_6 : decode cX1_wasServed 6 = .ok (.aload_n 0, 1) := dk_42 (dk_at dksX1_wasServed_0 6 rfl rfl)
theorem dX1_wasServed_7 : decode cX1_wasServed 7 = .ok (.getfield 39, 3) := dk_180 0 39 (dk_at dksX1_wasServed_0 7 rfl rfl)
theorem dX1_wasServed_10 : decode cX1_wasServed 10 = .ok (.getfield 274, 3) := dk_180 1 18 (dk_at dksX1_wasServed_0 10 rfl rfl)
theorem dX1_wasServed_13 : decode cX1_wasServed 13 = .ok (.aload_n 2, 1) := dk_44 (dk_at dksX1_wasServed_0 13 rfl rfl)
theorem dX1_wasServed_14 : decode cX1_wasServed 14 = .ok (.getfield 258, 3) := dk_180 1 2 (dk_at dksX1_wasServed_0 14 rfl rfl)
theorem dX1_wasServed_17 : decode cX1_wasServed 17 = .ok (.invokevirtual 278, 3) := dk_182 1 22 (dk_at dksX1_wasServed_0 17 rfl rfl)
theorem dX1_wasServed_20 : decode cX1_wasServed 20 = .ok (.ireturn, 1) := dk_172 (dk_at dksX1_wasServed_0 20 rfl rfl)
abbrev cX1_stock : ByteArray := prog_1_method_31_code
def yX1_stock : MethodName := ⟨RX1, "stock", "(I)I"⟩
def dkwX1_stock_0 : List UInt8 := [42, 27, 182, 1, 27, 180, 1, 31, 172]
abbrev dktX1_stock_0 : List UInt8 := dkwX1_stock_0 ++ []
theorem dksX1_stock_0 : cX1_stock.data.toList.drop 0 = dktX1_stock_0 := by decide +kernel
theorem dX1_stock_0 : decode cX1_stock 0 = .ok (.aload_n 0, 1) := dk_42 (dk_at dksX1_stock_0 0 rfl rfl)
theorem dX1_stock_1 : decode cX1_stock 1 = .ok (.iload_n 1, 1) := dk_27 (dk_at dksX1_stock_0 1 rfl rfl)
theorem dX1_stock_2 : decode cX1_stock 2 = .ok (.invokevirtual 283, 3) := dk_182 1 27 (dk_at dksX1_stock_0 2 rfl rfl)
theorem dX1_stock_5 : decode cX1_stock 5 = .ok (.getfield 287, 3) := dk_180 1 31 (dk_at dksX1_stock_0 5 rfl rfl)
theorem dX1_stock_8 : decode cX1_stock 8 = .ok (.ireturn, 1) := dk_172 (dk_at dksX1_stock_0 8 rfl rfl)
abbrev cX1_gardenWith : ByteArray := prog_1_method_8_code
def yX1_gardenWith : MethodName := ⟨RX1, "gardenWith", "(I)LRoseGuild$Garden;"⟩
def dkwX1_gardenWith_1 : List UInt8 := [180, 0, 39, 180, 0, 120, 27, 185, 0, 116, 2, 0, 192, 0, 63, 176]
abbrev dktX1_gardenWith_1 : List UInt8 := dkwX1_gardenWith_1 ++ []
def dkwX1_gardenWith_0 : List UInt8 := [27, 3, 42, 180, 0, 39, 180, 0, 120, 185, 0, 105, 1, 0, 4, 100, 184, 0, 108, 184, 0, 112, 42]
abbrev dktX1_gardenWith_0 : List UInt8 := dkwX1_gardenWith_0 ++ dktX1_gardenWith_1
theorem dksX1_gardenWith_0 : cX1_gardenWith.data.toList.drop 0 = dktX1_gardenWith_0 := by decide +kernel
theorem dksX1_gardenWith_1 : cX1_gardenWith.data.toList.drop 23 = dktX1_gardenWith_1 := dk_seg dksX1_gardenWith_0 23 rfl rfl
theorem dX1_gardenWith_0 : decode cX1_gardenWith 0 = .ok (.iload_n 1, 1) := dk_27 (dk_at dksX1_gardenWith_0 0 rfl rfl)
theorem dX1_gardenWith_1 : decode cX1_gardenWith 1 = .ok (.iconst 0, 1) := dk_3 (dk_at dksX1_gardenWith_0 1 rfl rfl)
theorem dX1_gardenWith_2 : decode cX1_gardenWith 2 = .ok (.aload_n 0, 1) := dk_42 (dk_at dksX1_gardenWith_0 2 rfl rfl)
theorem dX1_gardenWith_3 : decode cX1_gardenWith 3 = .ok (.getfield 39, 3) := dk_180 0 39 (dk_at dksX1_gardenWith_0 3 rfl rfl)
theorem dX1_gardenWith_6 : decode cX1_gardenWith 6 = .ok (.getfield 120, 3) := dk_180 0 120 (dk_at dksX1_gardenWith_0 6 rfl rfl)
theorem dX1_gardenWith_9 : decode cX1_gardenWith 9 = .ok (.invokeinterface 105 1, 5) := by decide +kernel
theorem dX1_gardenWith_14 : decode cX1_gardenWith 14 = .ok (.iconst 1, 1) := dk_4 (dk_at dksX1_gardenWith_0 14 rfl rfl)
theorem dX1_gardenWith_15 : decode cX1_gardenWith 15 = .ok (.isub, 1) := dk_100 (dk_at dksX1_gardenWith_0 15 rfl rfl)
theorem dX1_gardenWith_16 : decode cX1_gardenWith 16 = .ok (.invokestatic 108, 3) := dk_184 0 108 (dk_at dksX1_gardenWith_0 16 rfl rfl)
theorem dX1_gardenWith_19 : decode cX1_gardenWith 19 = .ok (.invokestatic 112, 3) := dk_184 0 112 (dk_at dksX1_gardenWith_0 19 rfl rfl)
theorem dX1_gardenWith_22 : decode cX1_gardenWith 22 = .ok (.aload_n 0, 1) := dk_42 (dk_at dksX1_gardenWith_0 22 rfl rfl)
theorem dX1_gardenWith_23 : decode cX1_gardenWith 23 = .ok (.getfield 39, 3) := dk_180 0 39 (dk_at dksX1_gardenWith_1 0 rfl rfl)
theorem dX1_gardenWith_26 : decode cX1_gardenWith 26 = .ok (.getfield 120, 3) := dk_180 0 120 (dk_at dksX1_gardenWith_1 3 rfl rfl)
theorem dX1_gardenWith_29 : decode cX1_gardenWith 29 = .ok (.iload_n 1, 1) := dk_27 (dk_at dksX1_gardenWith_1 6 rfl rfl)
theorem dX1_gardenWith_30 : decode cX1_gardenWith 30 = .ok (.invokeinterface 116 2, 5) := by decide +kernel
theorem dX1_gardenWith_35 : decode cX1_gardenWith 35 = .ok (.checkcast 63, 3) := dk_192 0 63 (dk_at dksX1_gardenWith_1 12 rfl rfl)
theorem dX1_gardenWith_38 : decode cX1_gardenWith 38 = .ok (.areturn, 1) := dk_176 (dk_at dksX1_gardenWith_1 15 rfl rfl)
abbrev cX1_petals : ByteArray := prog_1_method_32_code
def yX1_petals : MethodName := ⟨RX1, "petals", "(I)I"⟩
def dkwX1_petals_0 : List UInt8 := [42, 27, 182, 1, 27, 180, 1, 34, 172]
abbrev dktX1_petals_0 : List UInt8 := dkwX1_petals_0 ++ []
theorem dksX1_petals_0 : cX1_petals.data.toList.drop 0 = dktX1_petals_0 := by decide +kernel
theorem dX1_petals_0 : decode cX1_petals 0 = .ok (.aload_n 0, 1) := dk_42 (dk_at dksX1_petals_0 0 rfl rfl)
theorem dX1_petals_1 : decode cX1_petals 1 = .ok (.iload_n 1, 1) := dk_27 (dk_at dksX1_petals_0 1 rfl rfl)
theorem dX1_petals_2 : decode cX1_petals 2 = .ok (.invokevirtual 283, 3) := dk_182 1 27 (dk_at dksX1_petals_0 2 rfl rfl)
theorem dX1_petals_5 : decode cX1_petals 5 = .ok (.getfield 290, 3) := dk_180 1 34 (dk_at dksX1_petals_0 5 rfl rfl)
theorem dX1_petals_8 : decode cX1_petals 8 = .ok (.ireturn, 1) := dk_172 (dk_at dksX1_petals_0 8 rfl rfl)
abbrev cX1_rotted : ByteArray := prog_1_method_33_code
def yX1_rotted : MethodName := ⟨RX1, "rotted", "(I)I"⟩
def dkwX1_rotted_0 : List UInt8 := [42, 27, 182, 1, 27, 180, 1, 37, 172]
abbrev dktX1_rotted_0 : List UInt8 := dkwX1_rotted_0 ++ []
theorem dksX1_rotted_0 : cX1_rotted.data.toList.drop 0 = dktX1_rotted_0 := by decide +kernel
theorem dX1_rotted_0 : decode cX1_rotted 0 = .ok (.aload_n 0, 1) := dk_42 (dk_at dksX1_rotted_0 0 rfl rfl)
theorem dX1_rotted_1 : decode cX1_rotted 1 = .ok (.iload_n 1, 1) := dk_27 (dk_at dksX1_rotted_0 1 rfl rfl)
theorem dX1_rotted_2 : decode cX1_rotted 2 = .ok (.invokevirtual 283, 3) := dk_182 1 27 (dk_at dksX1_rotted_0 2 rfl rfl)
theorem dX1_rotted_5 : decode cX1_rotted 5 = .ok (.getfield 293, 3) := dk_180 1 37 (dk_at dksX1_rotted_0 5 rfl rfl)
theorem dX1_rotted_8 : decode cX1_rotted 8 = .ok (.ireturn, 1) := dk_172 (dk_at dksX1_rotted_0 8 rfl rfl)
abbrev cX1_prizes : ByteArray := prog_1_method_34_code
def yX1_prizes : MethodName := ⟨RX1, "prizes", "(I)I"⟩
def dkwX1_prizes_0 : List UInt8 := [42, 27, 182, 1, 27, 180, 1, 40, 172]
abbrev dktX1_prizes_0 : List UInt8 := dkwX1_prizes_0 ++ []
theorem dksX1_prizes_0 : cX1_prizes.data.toList.drop 0 = dktX1_prizes_0 := by decide +kernel
theorem dX1_prizes_0 : decode cX1_prizes 0 = .ok (.aload_n 0, 1) := dk_42 (dk_at dksX1_prizes_0 0 rfl rfl)
theorem dX1_prizes_1 : decode cX1_prizes 1 = .ok (.iload_n 1, 1) := dk_27 (dk_at dksX1_prizes_0 1 rfl rfl)
theorem dX1_prizes_2 : decode cX1_prizes 2 = .ok (.invokevirtual 283, 3) := dk_182 1 27 (dk_at dksX1_prizes_0 2 rfl rfl)
theorem dX1_prizes_5 : decode cX1_prizes 5 = .ok (.getfield 296, 3) := dk_180 1 40 (dk_at dksX1_prizes_0 5 rfl rfl)
theorem dX1_prizes_8 : decode cX1_prizes 8 = .ok (.ireturn, 1) := dk_172 (dk_at dksX1_prizes_0 8 rfl rfl)
abbrev cX1_contractStreet : ByteArray := prog_1_method_37_code
def yX1_contractStreet : MethodName := ⟨RX1, "contractStreet", "(I)I"⟩
def dkwX1_contractStreet_0 : List UInt8 := [42, 27, 182, 1, 46, 180, 1, 50, 77, 44, 199, 0, 7, 2, 167, 0, 7, 44, 180, 1, 54, 172]
abbrev dktX1_contractStreet_0 : List UInt8 := dkwX1_contractStreet_0 ++ []
theorem dksX1_contractStreet_0 : cX1_contractStreet.data.toList.drop 0 = dktX1_contractStreet_0 := by decide +kernel
theorem dX1_contractStreet_0 : decode cX1_contractStreet 0 = .ok (.aload_n 0, 1) := dk_42 (dk_at dksX1_contractStreet_0 0 rfl rfl)
theorem dX1_contractStreet_1 : decode cX1_contractStreet 1 = .ok (.iload_n 1, 1) := dk_27 (dk_at dksX1_contractStreet_0 1 rfl rfl)
theorem dX1_contractStreet_2 : decode cX1_contractStreet 2 = .ok (.invokevirtual 302, 3) := dk_182 1 46 (dk_at dksX1_contractStreet_0 2 rfl rfl)
theorem dX1_contractStreet_5 : decode cX1_contractStreet 5 = .ok (.getfield 306, 3) := dk_180 1 50 (dk_at dksX1_contractStreet_0 5 rfl rfl)
theorem dX1_contractStreet_8 : decode cX1_contractStreet 8 = .ok (.astore_n 2, 1) := dk_77 (dk_at dksX1_contractStreet_0 8 rfl rfl)
theorem dX1_contractStreet_9 : decode cX1_contractStreet 9 = .ok (.aload_n 2, 1) := dk_44 (dk_at dksX1_contractStreet_0 9 rfl rfl)
theorem dX1_contractStreet_10 : decode cX1_contractStreet 10 = .ok (.ifnonnull 7, 3) := dk_199 0 7 (dk_at dksX1_contractStreet_0 10 rfl rfl)
theorem dX1_contractStreet_13 : decode cX1_contractStreet 13 = .ok (.iconst (-1), 1) := dk_2 (dk_at dksX1_contractStreet_0 13 rfl rfl)
theorem dX1_contractStreet_14 : decode cX1_contractStreet 14 = .ok (.goto 7, 3) := dk_167 0 7 (dk_at dksX1_contractStreet_0 14 rfl rfl)
theorem dX1_contractStreet_17 : decode cX1_contractStreet 17 = .ok (.aload_n 2, 1) := dk_44 (dk_at dksX1_contractStreet_0 17 rfl rfl)
theorem dX1_contractStreet_18 : decode cX1_contractStreet 18 = .ok (.getfield 310, 3) := dk_180 1 54 (dk_at dksX1_contractStreet_0 18 rfl rfl)
theorem dX1_contractStreet_21 : decode cX1_contractStreet 21 = .ok (.ireturn, 1) := dk_172 (dk_at dksX1_contractStreet_0 21 rfl rfl)
abbrev cX1_cartWith : ByteArray := prog_1_method_9_code
def yX1_cartWith : MethodName := ⟨RX1, "cartWith", "(I)LRoseGuild$Cart;"⟩
def dkwX1_cartWith_1 : List UInt8 := [180, 0, 39, 180, 0, 123, 27, 185, 0, 116, 2, 0, 192, 0, 126, 176]
abbrev dktX1_cartWith_1 : List UInt8 := dkwX1_cartWith_1 ++ []
def dkwX1_cartWith_0 : List UInt8 := [27, 3, 42, 180, 0, 39, 180, 0, 123, 185, 0, 105, 1, 0, 4, 100, 184, 0, 108, 184, 0, 112, 42]
abbrev dktX1_cartWith_0 : List UInt8 := dkwX1_cartWith_0 ++ dktX1_cartWith_1
theorem dksX1_cartWith_0 : cX1_cartWith.data.toList.drop 0 = dktX1_cartWith_0 := by decide +kernel
theorem dksX1_cartWith_1 : cX1_cartWith.data.toList.drop 23 = dktX1_cartWith_1 := dk_seg dksX1_cartWith_0 23 rfl rfl
theorem dX1_cartWith_0 : decode cX1_cartWith 0 = .ok (.iload_n 1, 1) := dk_27 (dk_at dksX1_cartWith_0 0 rfl rfl)
theorem dX1_cartWith_1 : decode cX1_cartWith 1 = .ok (.iconst 0, 1) := dk_3 (dk_at dksX1_cartWith_0 1 rfl rfl)
theorem dX1_cartWith_2 : decode cX1_cartWith 2 = .ok (.aload_n 0, 1) := dk_42 (dk_at dksX1_cartWith_0 2 rfl rfl)
theorem dX1_cartWith_3 : decode cX1_cartWith 3 = .ok (.getfield 39, 3) := dk_180 0 39 (dk_at dksX1_cartWith_0 3 rfl rfl)
theorem dX1_cartWith_6 : decode cX1_cartWith 6 = .ok (.getfield 123, 3) := dk_180 0 123 (dk_at dksX1_cartWith_0 6 rfl rfl)
theorem dX1_cartWith_9 : decode cX1_cartWith 9 = .ok (.invokeinterface 105 1, 5) := by decide +kernel
theorem dX1_cartWith_14 : decode cX1_cartWith 14 = .ok (.iconst 1, 1) := dk_4 (dk_at dksX1_cartWith_0 14 rfl rfl)
theorem dX1_cartWith_15 : decode cX1_cartWith 15 = .ok (.isub, 1) := dk_100 (dk_at dksX1_cartWith_0 15 rfl rfl)
theorem dX1_cartWith_16 : decode cX1_cartWith 16 = .ok (.invokestatic 108, 3) := dk_184 0 108 (dk_at dksX1_cartWith_0 16 rfl rfl)
theorem dX1_cartWith_19 : decode cX1_cartWith 19 = .ok (.invokestatic 112, 3) := dk_184 0 112 (dk_at dksX1_cartWith_0 19 rfl rfl)
theorem dX1_cartWith_22 : decode cX1_cartWith 22 = .ok (.aload_n 0, 1) := dk_42 (dk_at dksX1_cartWith_0 22 rfl rfl)
theorem dX1_cartWith_23 : decode cX1_cartWith 23 = .ok (.getfield 39, 3) := dk_180 0 39 (dk_at dksX1_cartWith_1 0 rfl rfl)
theorem dX1_cartWith_26 : decode cX1_cartWith 26 = .ok (.getfield 123, 3) := dk_180 0 123 (dk_at dksX1_cartWith_1 3 rfl rfl)
theorem dX1_cartWith_29 : decode cX1_cartWith 29 = .ok (.iload_n 1, 1) := dk_27 (dk_at dksX1_cartWith_1 6 rfl rfl)
theorem dX1_cartWith_30 : decode cX1_cartWith 30 = .ok (.invokeinterface 116 2, 5) := by decide +kernel
theorem dX1_cartWith_35 : decode cX1_cartWith 35 = .ok (.checkcast 126, 3) := dk_192 0 126 (dk_at dksX1_cartWith_1 12 rfl rfl)
theorem dX1_cartWith_38 : decode cX1_cartWith 38 = .ok (.areturn, 1) := dk_176 (dk_at dksX1_cartWith_1 15 rfl rfl)
abbrev cX1_contractGarden : ByteArray := prog_1_method_38_code
def yX1_contractGarden : MethodName := ⟨RX1, "contractGarden", "(I)I"⟩
def dkwX1_contractGarden_0 : List UInt8 := [42, 27, 182, 1, 46, 180, 1, 50, 77, 44, 199, 0, 7, 2, 167, 0, 7, 44, 180, 1, 59, 172]
abbrev dktX1_contractGarden_0 : List UInt8 := dkwX1_contractGarden_0 ++ []
theorem dksX1_contractGarden_0 : cX1_contractGarden.data.toList.drop 0 = dktX1_contractGarden_0 := by decide +kernel
theorem dX1_contractGarden_0 : decode cX1_contractGarden 0 = .ok (.aload_n 0, 1) := dk_42 (dk_at dksX1_contractGarden_0 0 rfl rfl)
theorem dX1_contractGarden_1 : decode cX1_contractGarden 1 = .ok (.iload_n 1, 1) := dk_27 (dk_at dksX1_contractGarden_0 1 rfl rfl)
theorem dX1_contractGarden_2 : decode cX1_contractGarden 2 = .ok (.invokevirtual 302, 3) := dk_182 1 46 (dk_at dksX1_contractGarden_0 2 rfl rfl)
theorem dX1_contractGarden_5 : decode cX1_contractGarden 5 = .ok (.getfield 306, 3) := dk_180 1 50 (dk_at dksX1_contractGarden_0 5 rfl rfl)
theorem dX1_contractGarden_8 : decode cX1_contractGarden 8 = .ok (.astore_n 2, 1) := dk_77 (dk_at dksX1_contractGarden_0 8 rfl rfl)
theorem dX1_contractGarden_9 : decode cX1_contractGarden 9 = .ok (.aload_n 2, 1) := dk_44 (dk_at dksX1_contractGarden_0 9 rfl rfl)
theorem dX1_contractGarden_10 : decode cX1_contractGarden 10 = .ok (.ifnonnull 7, 3) := dk_199 0 7 (dk_at dksX1_contractGarden_0 10 rfl rfl)
theorem dX1_contractGarden_13 : decode cX1_contractGarden 13 = .ok (.iconst (-1), 1) := dk_2 (dk_at dksX1_contractGarden_0 13 rfl rfl)
theorem dX1_contractGarden_14 : decode cX1_contractGarden 14 = .ok (.goto 7, 3) := dk_167 0 7 (dk_at dksX1_contractGarden_0 14 rfl rfl)
theorem dX1_contractGarden_17 : decode cX1_contractGarden 17 = .ok (.aload_n 2, 1) := dk_44 (dk_at dksX1_contractGarden_0 17 rfl rfl)
theorem dX1_contractGarden_18 : decode cX1_contractGarden 18 = .ok (.getfield 315, 3) := dk_180 1 59 (dk_at dksX1_contractGarden_0 18 rfl rfl)
theorem dX1_contractGarden_21 : decode cX1_contractGarden 21 = .ok (.ireturn, 1) := dk_172 (dk_at dksX1_contractGarden_0 21 rfl rfl)
abbrev cX1_nightsLeft : ByteArray := prog_1_method_39_code
def yX1_nightsLeft : MethodName := ⟨RX1, "nightsLeft", "(I)I"⟩
def dkwX1_nightsLeft_0 : List UInt8 := [42, 27, 182, 1, 46, 180, 1, 50, 77, 44, 199, 0, 7, 3, 167, 0, 7, 44, 180, 1, 62, 172]
abbrev dktX1_nightsLeft_0 : List UInt8 := dkwX1_nightsLeft_0 ++ []
theorem dksX1_nightsLeft_0 : cX1_nightsLeft.data.toList.drop 0 = dktX1_nightsLeft_0 := by decide +kernel
theorem dX1_nightsLeft_0 : decode cX1_nightsLeft 0 = .ok (.aload_n 0, 1) := dk_42 (dk_at dksX1_nightsLeft_0 0 rfl rfl)
theorem dX1_nightsLeft_1 : decode cX1_nightsLeft 1 = .ok (.iload_n 1, 1) := dk_27 (dk_at dksX1_nightsLeft_0 1 rfl rfl)
theorem dX1_nightsLeft_2 : decode cX1_nightsLeft 2 = .ok (.invokevirtual 302, 3) := dk_182 1 46 (dk_at dksX1_nightsLeft_0 2 rfl rfl)
theorem dX1_nightsLeft_5 : decode cX1_nightsLeft 5 = .ok (.getfield 306, 3) := dk_180 1 50 (dk_at dksX1_nightsLeft_0 5 rfl rfl)
theorem dX1_nightsLeft_8 : decode cX1_nightsLeft 8 = .ok (.astore_n 2, 1) := dk_77 (dk_at dksX1_nightsLeft_0 8 rfl rfl)
theorem dX1_nightsLeft_9 : decode cX1_nightsLeft 9 = .ok (.aload_n 2, 1) := dk_44 (dk_at dksX1_nightsLeft_0 9 rfl rfl)
theorem dX1_nightsLeft_10 : decode cX1_nightsLeft 10 = .ok (.ifnonnull 7, 3) := dk_199 0 7 (dk_at dksX1_nightsLeft_0 10 rfl rfl)
theorem dX1_nightsLeft_13 : decode cX1_nightsLeft 13 = .ok (.iconst 0, 1) := dk_3 (dk_at dksX1_nightsLeft_0 13 rfl rfl)
theorem dX1_nightsLeft_14 : decode cX1_nightsLeft 14 = .ok (.goto 7, 3) := dk_167 0 7 (dk_at dksX1_nightsLeft_0 14 rfl rfl)
theorem dX1_nightsLeft_17 : decode cX1_nightsLeft 17 = .ok (.aload_n 2, 1) := dk_44 (dk_at dksX1_nightsLeft_0 17 rfl rfl)
theorem dX1_nightsLeft_18 : decode cX1_nightsLeft 18 = .ok (.getfield 318, 3) := dk_180 1 62 (dk_at dksX1_nightsLeft_0 18 rfl rfl)
theorem dX1_nightsLeft_21 : decode cX1_nightsLeft 21 = .ok (.ireturn, 1) := dk_172 (dk_at dksX1_nightsLeft_0 21 rfl rfl)
abbrev cX1_hoursNeeded : ByteArray := prog_1_method_40_code
def yX1_hoursNeeded : MethodName := ⟨RX1, "hoursNeeded", "(III)I"⟩
def dkwX1_hoursNeeded_1 : List UInt8 := [182, 1, 65, 172]
abbrev dktX1_hoursNeeded_1 : List UInt8 := dkwX1_hoursNeeded_1 ++ []
def dkwX1_hoursNeeded_0 : List UInt8 := [42, 27, 182, 1, 46, 58, 4, 42, 28, 182, 1, 5, 58, 5, 25, 4, 25, 5, 42, 29, 182, 1, 27]
abbrev dktX1_hoursNeeded_0 : List UInt8 := dkwX1_hoursNeeded_0 ++ dktX1_hoursNeeded_1
theorem dksX1_hoursNeeded_0 : cX1_hoursNeeded.data.toList.drop 0 = dktX1_hoursNeeded_0 := by decide +kernel
theorem dksX1_hoursNeeded_1 : cX1_hoursNeeded.data.toList.drop 23 = dktX1_hoursNeeded_1 := dk_seg dksX1_hoursNeeded_0 23 rfl rfl
theorem dX1_hoursNeeded_0 : decode cX1_hoursNeeded 0 = .ok (.aload_n 0, 1) := dk_42 (dk_at dksX1_hoursNeeded_0 0 rfl rfl)
theorem dX1_hoursNeeded_1 : decode cX1_hoursNeeded 1 = .ok (.iload_n 1, 1) := dk_27 (dk_at dksX1_hoursNeeded_0 1 rfl rfl)
theorem dX1_hoursNeeded_2 : decode cX1_hoursNeeded 2 = .ok (.invokevirtual 302, 3) := dk_182 1 46 (dk_at dksX1_hoursNeeded_0 2 rfl rfl)
theorem dX1_hoursNeeded_5 : decode cX1_hoursNeeded 5 = .ok (.astore 4, 2) := dk_58 4 (dk_at dksX1_hoursNeeded_0 5 rfl rfl)
theorem dX1_hoursNeeded_7 : decode cX1_hoursNeeded 7 = .ok (.aload_n 0, 1) := dk_42 (dk_at dksX1_hoursNeeded_0 7 rfl rfl)
theorem dX1_hoursNeeded_8 : decode cX1_hoursNeeded 8 = .ok (.iload_n 2, 1) := dk_28 (dk_at dksX1_hoursNeeded_0 8 rfl rfl)
theorem dX1_hoursNeeded_9 : decode cX1_hoursNeeded 9 = .ok (.invokevirtual 261, 3) := dk_182 1 5 (dk_at dksX1_hoursNeeded_0 9 rfl rfl)
theorem dX1_hoursNeeded_12 : decode cX1_hoursNeeded 12 = .ok (.astore 5, 2) := dk_58 5 (dk_at dksX1_hoursNeeded_0 12 rfl rfl)
theorem dX1_hoursNeeded_14 : decode cX1_hoursNeeded 14 = .ok (.aload 4, 2) := dk_25 4 (dk_at dksX1_hoursNeeded_0 14 rfl rfl)
theorem dX1_hoursNeeded_16 : decode cX1_hoursNeeded 16 = .ok (.aload 5, 2) := dk_25 5 (dk_at dksX1_hoursNeeded_0 16 rfl rfl)
theorem dX1_hoursNeeded_18 : decode cX1_hoursNeeded 18 = .ok (.aload_n 0, 1) := dk_42 (dk_at dksX1_hoursNeeded_0 18 rfl rfl)
theorem dX1_hoursNeeded_19 : decode cX1_hoursNeeded 19 = .ok (.iload_n 3, 1) := dk_29 (dk_at dksX1_hoursNeeded_0 19 rfl rfl)
theorem dX1_hoursNeeded_20 : decode cX1_hoursNeeded 20 = .ok (.invokevirtual 283, 3) := dk_182 1 27 (dk_at dksX1_hoursNeeded_0 20 rfl rfl)
theorem dX1_hoursNeeded_23 : decode cX1_hoursNeeded 23 = .ok (.invokevirtual 321, 3) := dk_182 1 65 (dk_at dksX1_hoursNeeded_1 0 rfl rfl)
theorem dX1_hoursNeeded_26 : decode cX1_hoursNeeded 26 = .ok (.ireturn, 1) := dk_172 (dk_at dksX1_hoursNeeded_1 3 rfl rfl)
abbrev cX1_nextLoad : ByteArray := prog_1_method_41_code
def yX1_nextLoad : MethodName := ⟨RX1, "nextLoad", "(I)I"⟩
def dkwX1_nextLoad_0 : List UInt8 := [42, 180, 0, 39, 42, 27, 182, 1, 46, 182, 1, 69, 172]
abbrev dktX1_nextLoad_0 : List UInt8 := dkwX1_nextLoad_0 ++ []
theorem dksX1_nextLoad_0 : cX1_nextLoad.data.toList.drop 0 = dktX1_nextLoad_0 := by decide +kernel
theorem dX1_nextLoad_0 : decode cX1_nextLoad 0 = .ok (.aload_n 0, 1) := dk_42 (dk_at dksX1_nextLoad_0 0 rfl rfl)
theorem dX1_nextLoad_1 : decode cX1_nextLoad 1 = .ok (.getfield 39, 3) := dk_180 0 39 (dk_at dksX1_nextLoad_0 1 rfl rfl)
theorem dX1_nextLoad_4 : decode cX1_nextLoad 4 = .ok (.aload_n 0, 1) := dk_42 (dk_at dksX1_nextLoad_0 4 rfl rfl)
theorem dX1_nextLoad_5 : decode cX1_nextLoad 5 = .ok (.iload_n 1, 1) := dk_27 (dk_at dksX1_nextLoad_0 5 rfl rfl)
theorem dX1_nextLoad_6 : decode cX1_nextLoad 6 = .ok (.invokevirtual 302, 3) := dk_182 1 46 (dk_at dksX1_nextLoad_0 6 rfl rfl)
theorem dX1_nextLoad_9 : decode cX1_nextLoad 9 = .ok (.invokevirtual 325, 3) := dk_182 1 69 (dk_at dksX1_nextLoad_0 9 rfl rfl)
theorem dX1_nextLoad_12 : decode cX1_nextLoad 12 = .ok (.ireturn, 1) := dk_172 (dk_at dksX1_nextLoad_0 12 rfl rfl)
abbrev cX1_outlook : ByteArray := prog_1_method_42_code
def yX1_outlook : MethodName := ⟨RX1, "outlook", "(I)I"⟩
def dkwX1_outlook_0 : List UInt8 := [42, 180, 0, 39, 42, 27, 182, 1, 46, 182, 1, 73, 172]
abbrev dktX1_outlook_0 : List UInt8 := dkwX1_outlook_0 ++ []
theorem dksX1_outlook_0 : cX1_outlook.data.toList.drop 0 = dktX1_outlook_0 := by decide +kernel
theorem dX1_outlook_0 : decode cX1_outlook 0 = .ok (.aload_n 0, 1) := dk_42 (dk_at dksX1_outlook_0 0 rfl rfl)
theorem dX1_outlook_1 : decode cX1_outlook 1 = .ok (.getfield 39, 3) := dk_180 0 39 (dk_at dksX1_outlook_0 1 rfl rfl)
theorem dX1_outlook_4 : decode cX1_outlook 4 = .ok (.aload_n 0, 1) := dk_42 (dk_at dksX1_outlook_0 4 rfl rfl)
theorem dX1_outlook_5 : decode cX1_outlook 5 = .ok (.iload_n 1, 1) := dk_27 (dk_at dksX1_outlook_0 5 rfl rfl)
theorem dX1_outlook_6 : decode cX1_outlook 6 = .ok (.invokevirtual 302, 3) := dk_182 1 46 (dk_at dksX1_outlook_0 6 rfl rfl)
theorem dX1_outlook_9 : decode cX1_outlook 9 = .ok (.invokevirtual 329, 3) := dk_182 1 73 (dk_at dksX1_outlook_0 9 rfl rfl)
theorem dX1_outlook_12 : decode cX1_outlook 12 = .ok (.ireturn, 1) := dk_172 (dk_at dksX1_outlook_0 12 rfl rfl)
abbrev cX1_quickestGarden : ByteArray := prog_1_method_43_code
def yX1_quickestGarden : MethodName := ⟨RX1, "quickestGarden", "(II)I"⟩
def dkwX1_quickestGarden_4 : List UInt8 := [167, 255, 211, 25, 5, 180, 1, 77, 172]
abbrev dktX1_quickestGarden_4 : List UInt8 := dkwX1_quickestGarden_4 ++ []
def dkwX1_quickestGarden_3 : List UInt8 := [25, 4, 25, 7, 182, 1, 65, 45, 25, 4, 25, 5, 182, 1, 65, 162, 0, 7, 25, 7, 58, 5]
abbrev dktX1_quickestGarden_3 : List UInt8 := dkwX1_quickestGarden_3 ++ dktX1_quickestGarden_4
def dkwX1_quickestGarden_2 : List UInt8 := [25, 6, 185, 0, 201, 1, 0, 153, 0, 41, 25, 6, 185, 0, 206, 1, 0, 192, 0, 63, 58, 7, 45]
abbrev dktX1_quickestGarden_2 : List UInt8 := dkwX1_quickestGarden_2 ++ dktX1_quickestGarden_3
def dkwX1_quickestGarden_1 : List UInt8 := [185, 0, 116, 2, 0, 192, 0, 63, 58, 5, 42, 180, 0, 39, 180, 0, 120, 185, 1, 76, 1, 0, 58, 6]
abbrev dktX1_quickestGarden_1 : List UInt8 := dkwX1_quickestGarden_1 ++ dktX1_quickestGarden_2
def dkwX1_quickestGarden_0 : List UInt8 := [42, 27, 182, 1, 46, 78, 42, 28, 182, 1, 5, 58, 4, 42, 180, 0, 39, 180, 0, 120, 3]
abbrev dktX1_quickestGarden_0 : List UInt8 := dkwX1_quickestGarden_0 ++ dktX1_quickestGarden_1
theorem dksX1_quickestGarden_0 : cX1_quickestGarden.data.toList.drop 0 = dktX1_quickestGarden_0 := by decide +kernel
theorem dksX1_quickestGarden_1 : cX1_quickestGarden.data.toList.drop 21 = dktX1_quickestGarden_1 := dk_seg dksX1_quickestGarden_0 21 rfl rfl
theorem dksX1_quickestGarden_2 : cX1_quickestGarden.data.toList.drop 45 = dktX1_quickestGarden_2 := dk_seg dksX1_quickestGarden_1 24 rfl rfl
theorem dksX1_quickestGarden_3 : cX1_quickestGarden.data.toList.drop 68 = dktX1_quickestGarden_3 := dk_seg dksX1_quickestGarden_2 23 rfl rfl
theorem dksX1_quickestGarden_4 : cX1_quickestGarden.data.toList.drop 90 = dktX1_quickestGarden_4 := dk_seg dksX1_quickestGarden_3 22 rfl rfl
theorem dX1_quickestGarden_0 : decode cX1_quickestGarden 0 = .ok (.aload_n 0, 1) := dk_42 (dk_at dksX1_quickestGarden_0 0 rfl rfl)
theorem dX1_quickestGarden_1 : decode cX1_quickestGarden 1 = .ok (.iload_n 1, 1) := dk_27 (dk_at dksX1_quickestGarden_0 1 rfl rfl)
theorem dX1_quickestGarden_2 : decode cX1_quickestGarden 2 = .ok (.invokevirtual 302, 3) := dk_182 1 46 (dk_at dksX1_quickestGarden_0 2 rfl rfl)
theorem dX1_quickestGarden_5 : decode cX1_quickestGarden 5 = .ok (.astore_n 3, 1) := dk_78 (dk_at dksX1_quickestGarden_0 5 rfl rfl)
theorem dX1_quickestGarden_6 : decode cX1_quickestGarden 6 = .ok (.aload_n 0, 1) := dk_42 (dk_at dksX1_quickestGarden_0 6 rfl rfl)
theorem dX1_quickestGarden_7 : decode cX1_quickestGarden 7 = .ok (.iload_n 2, 1) := dk_28 (dk_at dksX1_quickestGarden_0 7 rfl rfl)
theorem dX1_quickestGarden_8 : decode cX1_quickestGarden 8 = .ok (.invokevirtual 261, 3) := dk_182 1 5 (dk_at dksX1_quickestGarden_0 8 rfl rfl)
theorem dX1_quickestGarden_11 : decode cX1_quickestGarden 11 = .ok (.astore 4, 2) := dk_58 4 (dk_at dksX1_quickestGarden_0 11 rfl rfl)
theorem dX1_quickestGarden_13 : decode cX1_quickestGarden 13 = .ok (.aload_n 0, 1) := dk_42 (dk_at dksX1_quickestGarden_0 13 rfl rfl)
theorem dX1_quickestGarden_14 : decode cX1_quickestGarden 14 = .ok (.getfield 39, 3) := dk_180 0 39 (dk_at dksX1_quickestGarden_0 14 rfl rfl)
theorem dX1_quickestGarden_17 : decode cX1_quickestGarden 17 = .ok (.getfield 120, 3) := dk_180 0 120 (dk_at dksX1_quickestGarden_0 17 rfl rfl)
theorem dX1_quickestGarden_20 : decode cX1_quickestGarden 20 = .ok (.iconst 0, 1) := dk_3 (dk_at dksX1_quickestGarden_0 20 rfl rfl)
theorem dX1_quickestGarden_21 : decode cX1_quickestGarden 21 = .ok (.invokeinterface 116 2, 5) := by decide +kernel
theorem dX1_quickestGarden_26 : decode cX1_quickestGarden 26 = .ok (.checkcast 63, 3) := dk_192 0 63 (dk_at dksX1_quickestGarden_1 5 rfl rfl)
theorem dX1_quickestGarden_29 : decode cX1_quickestGarden 29 = .ok (.astore 5, 2) := dk_58 5 (dk_at dksX1_quickestGarden_1 8 rfl rfl)
theorem dX1_quickestGarden_31 : decode cX1_quickestGarden 31 = .ok (.aload_n 0, 1) := dk_42 (dk_at dksX1_quickestGarden_1 10 rfl rfl)
theorem dX1_quickestGarden_32 : decode cX1_quickestGarden 32 = .ok (.getfield 39, 3) := dk_180 0 39 (dk_at dksX1_quickestGarden_1 11 rfl rfl)
theorem dX1_quickestGarden_35 : decode cX1_quickestGarden 35 = .ok (.getfield 120, 3) := dk_180 0 120 (dk_at dksX1_quickestGarden_1 14 rfl rfl)
theorem dX1_quickestGarden_38 : decode cX1_quickestGarden 38 = .ok (.invokeinterface 332 1, 5) := by decide +kernel
theorem dX1_quickestGarden_43 : decode cX1_quickestGarden 43 = .ok (.astore 6, 2) := dk_58 6 (dk_at dksX1_quickestGarden_1 22 rfl rfl)
theorem dX1_quickestGarden_45 : decode cX1_quickestGarden 45 = .ok (.aload 6, 2) := dk_25 6 (dk_at dksX1_quickestGarden_2 0 rfl rfl)
theorem dX1_quickestGarden_47 : decode cX1_quickestGarden 47 = .ok (.invokeinterface 201 1, 5) := by decide +kernel
theorem dX1_quickestGarden_52 : decode cX1_quickestGarden 52 = .ok (.ifCond .eq 41, 3) := dk_153 0 41 (dk_at dksX1_quickestGarden_2 7 rfl rfl)
theorem dX1_quickestGarden_55 : decode cX1_quickestGarden 55 = .ok (.aload 6, 2) := dk_25 6 (dk_at dksX1_quickestGarden_2 10 rfl rfl)
theorem dX1_quickestGarden_57 : decode cX1_quickestGarden 57 = .ok (.invokeinterface 206 1, 5) := by decide +kernel
theorem dX1_quickestGarden_62 : decode cX1_quickestGarden 62 = .ok (.checkcast 63, 3) := dk_192 0 63 (dk_at dksX1_quickestGarden_2 17 rfl rfl)
theorem dX1_quickestGarden_65 : decode cX1_quickestGarden 65 = .ok (.astore 7, 2) := dk_58 7 (dk_at dksX1_quickestGarden_2 20 rfl rfl)
theorem dX1_quickestGarden_67 : decode cX1_quickestGarden 67 = .ok (.aload_n 3, 1) := dk_45 (dk_at dksX1_quickestGarden_2 22 rfl rfl)
theorem dX1_quickestGarden_68 : decode cX1_quickestGarden 68 = .ok (.aload 4, 2) := dk_25 4 (dk_at dksX1_quickestGarden_3 0 rfl rfl)
theorem dX1_quickestGarden_70 : decode cX1_quickestGarden 70 = .ok (.aload 7, 2) := dk_25 7 (dk_at dksX1_quickestGarden_3 2 rfl rfl)
theorem dX1_quickestGarden_72 : decode cX1_quickestGarden 72 = .ok (.invokevirtual 321, 3) := dk_182 1 65 (dk_at dksX1_quickestGarden_3 4 rfl rfl)
theorem dX1_quickestGarden_75 : decode cX1_quickestGarden 75 = .ok (.aload_n 3, 1) := dk_45 (dk_at dksX1_quickestGarden_3 7 rfl rfl)
theorem dX1_quickestGarden_76 : decode cX1_quickestGarden 76 = .ok (.aload 4, 2) := dk_25 4 (dk_at dksX1_quickestGarden_3 8 rfl rfl)
theorem dX1_quickestGarden_78 : decode cX1_quickestGarden 78 = .ok (.aload 5, 2) := dk_25 5 (dk_at dksX1_quickestGarden_3 10 rfl rfl)
theorem dX1_quickestGarden_80 : decode cX1_quickestGarden 80 = .ok (.invokevirtual 321, 3) := dk_182 1 65 (dk_at dksX1_quickestGarden_3 12 rfl rfl)
theorem dX1_quickestGarden_83 : decode cX1_quickestGarden 83 = .ok (.if_icmp .ge 7, 3) := dk_162 0 7 (dk_at dksX1_quickestGarden_3 15 rfl rfl)
theorem dX1_quickestGarden_86 : decode cX1_quickestGarden 86 = .ok (.aload 7, 2) := dk_25 7 (dk_at dksX1_quickestGarden_3 18 rfl rfl)
theorem dX1_quickestGarden_88 : decode cX1_quickestGarden 88 = .ok (.astore 5, 2) := dk_58 5 (dk_at dksX1_quickestGarden_3 20 rfl rfl)
theorem dX1_quickestGarden_90 : decode cX1_quickestGarden 90 = .ok (.goto (-45), 3) := dk_167 255 211 (dk_at dksX1_quickestGarden_4 0 rfl rfl)
theorem dX1_quickestGarden_93 : decode cX1_quickestGarden 93 = .ok (.aload 5, 2) := dk_25 5 (dk_at dksX1_quickestGarden_4 3 rfl rfl)
theorem dX1_quickestGarden_95 : decode cX1_quickestGarden 95 = .ok (.getfield 333, 3) := dk_180 1 77 (dk_at dksX1_quickestGarden_4 5 rfl rfl)
theorem dX1_quickestGarden_98 : decode cX1_quickestGarden 98 = .ok (.ireturn, 1) := dk_172 (dk_at dksX1_quickestGarden_4 8 rfl rfl)
abbrev cX1_smellReaches : ByteArray := prog_1_method_48_code
def yX1_smellReaches : MethodName := ⟨RX1, "smellReaches", "(III)Z"⟩
def dkwX1_smellReaches_1 : List UInt8 := [42, 180, 0, 39, 25, 4, 28, 25, 5, 182, 1, 90, 172]
abbrev dktX1_smellReaches_1 : List UInt8 := dkwX1_smellReaches_1 ++ []
def dkwX1_smellReaches_0 : List UInt8 := [42, 27, 182, 1, 5, 58, 4, 42, 29, 182, 1, 5, 58, 5, 28, 3, 16, 60, 184, 0, 108, 184, 0, 142]
abbrev dktX1_smellReaches_0 : List UInt8 := dkwX1_smellReaches_0 ++ dktX1_smellReaches_1
theorem dksX1_smellReaches_0 : cX1_smellReaches.data.toList.drop 0 = dktX1_smellReaches_0 := by decide +kernel
theorem dksX1_smellReaches_1 : cX1_smellReaches.data.toList.drop 24 = dktX1_smellReaches_1 := dk_seg dksX1_smellReaches_0 24 rfl rfl
theorem dX1_smellReaches_0 : decode cX1_smellReaches 0 = .ok (.aload_n 0, 1) := dk_42 (dk_at dksX1_smellReaches_0 0 rfl rfl)
theorem dX1_smellReaches_1 : decode cX1_smellReaches 1 = .ok (.iload_n 1, 1) := dk_27 (dk_at dksX1_smellReaches_0 1 rfl rfl)
theorem dX1_smellReaches_2 : decode cX1_smellReaches 2 = .ok (.invokevirtual 261, 3) := dk_182 1 5 (dk_at dksX1_smellReaches_0 2 rfl rfl)
theorem dX1_smellReaches_5 : decode cX1_smellReaches 5 = .ok (.astore 4, 2) := dk_58 4 (dk_at dksX1_smellReaches_0 5 rfl rfl)
theorem dX1_smellReaches_7 : decode cX1_smellReaches 7 = .ok (.aload_n 0, 1) := dk_42 (dk_at dksX1_smellReaches_0 7 rfl rfl)
theorem dX1_smellReaches_8 : decode cX1_smellReaches 8 = .ok (.iload_n 3, 1) := dk_29 (dk_at dksX1_smellReaches_0 8 rfl rfl)
theorem dX1_smellReaches_9 : decode cX1_smellReaches 9 = .ok (.invokevirtual 261, 3) := dk_182 1 5 (dk_at dksX1_smellReaches_0 9 rfl rfl)
theorem dX1_smellReaches_12 : decode cX1_smellReaches 12 = .ok (.astore 5, 2) := dk_58 5 (dk_at dksX1_smellReaches_0 12 rfl rfl)
theorem dX1_smellReaches_14 : decode cX1_smellReaches 14 = .ok (.iload_n 2, 1) := dk_28 (dk_at dksX1_smellReaches_0 14 rfl rfl)
theorem dX1_smellReaches_15 : decode cX1_smellReaches 15 = .ok (.iconst 0, 1) := dk_3 (dk_at dksX1_smellReaches_0 15 rfl rfl)
theorem dX1_smellReaches_16 : decode cX1_smellReaches 16 = .ok (.bipush 60, 2) := dk_16 60 (dk_at dksX1_smellReaches_0 16 rfl rfl)
theorem dX1_smellReaches_18 : decode cX1_smellReaches 18 = .ok (.invokestatic 108, 3) := dk_184 0 108 (dk_at dksX1_smellReaches_0 18 rfl rfl)
theorem dX1_smellReaches_21 : decode cX1_smellReaches 21 = .ok (.invokestatic 142, 3) := dk_184 0 142 (dk_at dksX1_smellReaches_0 21 rfl rfl)
theorem dX1_smellReaches_24 : decode cX1_smellReaches 24 = .ok (.aload_n 0, 1) := dk_42 (dk_at dksX1_smellReaches_1 0 rfl rfl)
theorem dX1_smellReaches_25 : decode cX1_smellReaches 25 = .ok (.getfield 39, 3) := dk_180 0 39 (dk_at dksX1_smellReaches_1 1 rfl rfl)
theorem dX1_smellReaches_28 : decode cX1_smellReaches 28 = .ok (.aload 4, 2) := dk_25 4 (dk_at dksX1_smellReaches_1 4 rfl rfl)
theorem dX1_smellReaches_30 : decode cX1_smellReaches 30 = .ok (.iload_n 2, 1) := dk_28 (dk_at dksX1_smellReaches_1 6 rfl rfl)
theorem dX1_smellReaches_31 : decode cX1_smellReaches 31 = .ok (.aload 5, 2) := dk_25 5 (dk_at dksX1_smellReaches_1 7 rfl rfl)
theorem dX1_smellReaches_33 : decode cX1_smellReaches 33 = .ok (.invokevirtual 346, 3) := dk_182 1 90 (dk_at dksX1_smellReaches_1 9 rfl rfl)
theorem dX1_smellReaches_36 : decode cX1_smellReaches 36 = .ok (.ireturn, 1) := dk_172 (dk_at dksX1_smellReaches_1 12 rfl rfl)
abbrev cX1_petalShare : ByteArray := prog_1_method_52_code
def yX1_petalShare : MethodName := ⟨RX1, "petalShare", "(I)F"⟩
def dkwX1_petalShare_1 : List UInt8 := [180, 1, 34, 134, 29, 134, 110, 174]
abbrev dktX1_petalShare_1 : List UInt8 := dkwX1_petalShare_1 ++ []
def dkwX1_petalShare_0 : List UInt8 := [42, 27, 182, 1, 27, 77, 42, 180, 0, 39, 182, 1, 103, 62, 29, 154, 0, 7, 11, 167, 0, 11, 44]
abbrev dktX1_petalShare_0 : List UInt8 := dkwX1_petalShare_0 ++ dktX1_petalShare_1
theorem dksX1_petalShare_0 : cX1_petalShare.data.toList.drop 0 = dktX1_petalShare_0 := by decide +kernel
theorem dksX1_petalShare_1 : cX1_petalShare.data.toList.drop 23 = dktX1_petalShare_1 := dk_seg dksX1_petalShare_0 23 rfl rfl
theorem dX1_petalShare_0 : decode cX1_petalShare 0 = .ok (.aload_n 0, 1) := dk_42 (dk_at dksX1_petalShare_0 0 rfl rfl)
theorem dX1_petalShare_1 : decode cX1_petalShare 1 = .ok (.iload_n 1, 1) := dk_27 (dk_at dksX1_petalShare_0 1 rfl rfl)
theorem dX1_petalShare_2 : decode cX1_petalShare 2 = .ok (.invokevirtual 283, 3) := dk_182 1 27 (dk_at dksX1_petalShare_0 2 rfl rfl)
theorem dX1_petalShare_5 : decode cX1_petalShare 5 = .ok (.astore_n 2, 1) := dk_77 (dk_at dksX1_petalShare_0 5 rfl rfl)
theorem dX1_petalShare_6 : decode cX1_petalShare 6 = .ok (.aload_n 0, 1) := dk_42 (dk_at dksX1_petalShare_0 6 rfl rfl)
theorem dX1_petalShare_7 : decode cX1_petalShare 7 = .ok (.getfield 39, 3) := dk_180 0 39 (dk_at dksX1_petalShare_0 7 rfl rfl)
theorem dX1_petalShare_10 : decode cX1_petalShare 10 = .ok (.invokevirtual 359, 3) := dk_182 1 103 (dk_at dksX1_petalShare_0 10 rfl rfl)
theorem dX1_petalShare_13 : decode cX1_petalShare 13 = .ok (.istore_n 3, 1) := dk_62 (dk_at dksX1_petalShare_0 13 rfl rfl)
theorem dX1_petalShare_14 : decode cX1_petalShare 14 = .ok (.iload_n 3, 1) := dk_29 (dk_at dksX1_petalShare_0 14 rfl rfl)
theorem dX1_petalShare_15 : decode cX1_petalShare 15 = .ok (.ifCond .ne 7, 3) := dk_154 0 7 (dk_at dksX1_petalShare_0 15 rfl rfl)
theorem dX1_petalShare_18 : decode cX1_petalShare 18 = .ok (.fconst 0, 1) := dk_11 (dk_at dksX1_petalShare_0 18 rfl rfl)
theorem dX1_petalShare_19 : decode cX1_petalShare 19 = .ok (.goto 11, 3) := dk_167 0 11 (dk_at dksX1_petalShare_0 19 rfl rfl)
theorem dX1_petalShare_22 : decode cX1_petalShare 22 = .ok (.aload_n 2, 1) := dk_44 (dk_at dksX1_petalShare_0 22 rfl rfl)
theorem dX1_petalShare_23 : decode cX1_petalShare 23 = .ok (.getfield 290, 3) := dk_180 1 34 (dk_at dksX1_petalShare_1 0 rfl rfl)
theorem dX1_petalShare_26 : decode cX1_petalShare 26 = .ok (.i2f, 1) := dk_134 (dk_at dksX1_petalShare_1 3 rfl rfl)
theorem dX1_petalShare_27 : decode cX1_petalShare 27 = .ok (.iload_n 3, 1) := dk_29 (dk_at dksX1_petalShare_1 4 rfl rfl)
theorem dX1_petalShare_28 : decode cX1_petalShare 28 = .ok (.i2f, 1) := dk_134 (dk_at dksX1_petalShare_1 5 rfl rfl)
theorem dX1_petalShare_29 : decode cX1_petalShare 29 = .ok (.fdiv, 1) := dk_110 (dk_at dksX1_petalShare_1 6 rfl rfl)
theorem dX1_petalShare_30 : decode cX1_petalShare 30 = .ok (.freturn, 1) := dk_174 (dk_at dksX1_petalShare_1 7 rfl rfl)
abbrev cX1_binsAfter : ByteArray := prog_1_method_54_code
def yX1_binsAfter : MethodName := ⟨RX1, "binsAfter", "(II)I"⟩
def dkwX1_binsAfter_1 : List UInt8 := [180, 0, 101, 45, 180, 1, 2, 185, 0, 116, 2, 0, 192, 0, 43, 180, 1, 9, 172]
abbrev dktX1_binsAfter_1 : List UInt8 := dkwX1_binsAfter_1 ++ []
def dkwX1_binsAfter_0 : List UInt8 := [42, 27, 182, 1, 5, 78, 28, 3, 16, 100, 184, 0, 108, 184, 0, 142, 42, 180, 0, 39, 28, 182, 1, 109]
abbrev dktX1_binsAfter_0 : List UInt8 := dkwX1_binsAfter_0 ++ dktX1_binsAfter_1
theorem dksX1_binsAfter_0 : cX1_binsAfter.data.toList.drop 0 = dktX1_binsAfter_0 := by decide +kernel
theorem dksX1_binsAfter_1 : cX1_binsAfter.data.toList.drop 24 = dktX1_binsAfter_1 := dk_seg dksX1_binsAfter_0 24 rfl rfl
theorem dX1_binsAfter_0 : decode cX1_binsAfter 0 = .ok (.aload_n 0, 1) := dk_42 (dk_at dksX1_binsAfter_0 0 rfl rfl)
theorem dX1_binsAfter_1 : decode cX1_binsAfter 1 = .ok (.iload_n 1, 1) := dk_27 (dk_at dksX1_binsAfter_0 1 rfl rfl)
theorem dX1_binsAfter_2 : decode cX1_binsAfter 2 = .ok (.invokevirtual 261, 3) := dk_182 1 5 (dk_at dksX1_binsAfter_0 2 rfl rfl)
theorem dX1_binsAfter_5 : decode cX1_binsAfter 5 = .ok (.astore_n 3, 1) := dk_78 (dk_at dksX1_binsAfter_0 5 rfl rfl)
theorem dX1_binsAfter_6 : decode cX1_binsAfter 6 = .ok (.iload_n 2, 1) := dk_28 (dk_at dksX1_binsAfter_0 6 rfl rfl)
theorem dX1_binsAfter_7 : decode cX1_binsAfter 7 = .ok (.iconst 0, 1) := dk_3 (dk_at dksX1_binsAfter_0 7 rfl rfl)
theorem dX1_binsAfter_8 : decode cX1_binsAfter 8 = .ok (.bipush 100, 2) := dk_16 100 (dk_at dksX1_binsAfter_0 8 rfl rfl)
theorem dX1_binsAfter_10 : decode cX1_binsAfter 10 = .ok (.invokestatic 108, 3) := dk_184 0 108 (dk_at dksX1_binsAfter_0 10 rfl rfl)
theorem dX1_binsAfter_13 : decode cX1_binsAfter 13 = .ok (.invokestatic 142, 3) := dk_184 0 142 (dk_at dksX1_binsAfter_0 13 rfl rfl)
theorem dX1_binsAfter_16 : decode cX1_binsAfter 16 = .ok (.aload_n 0, 1) := dk_42 (dk_at dksX1_binsAfter_0 16 rfl rfl)
theorem dX1_binsAfter_17 : decode cX1_binsAfter 17 = .ok (.getfield 39, 3) := dk_180 0 39 (dk_at dksX1_binsAfter_0 17 rfl rfl)
theorem dX1_binsAfter_20 : decode cX1_binsAfter 20 = .ok (.iload_n 2, 1) := dk_28 (dk_at dksX1_binsAfter_0 20 rfl rfl)
theorem dX1_binsAfter_21 : decode cX1_binsAfter 21 = .ok (.invokevirtual 365, 3) := dk_182 1 109 (dk_at dksX1_binsAfter_0 21 rfl rfl)
theorem dX1_binsAfter_24 : decode cX1_binsAfter 24 = .ok (.getfield 101, 3) := dk_180 0 101 (dk_at dksX1_binsAfter_1 0 rfl rfl)
theorem dX1_binsAfter_27 : decode cX1_binsAfter 27 = .ok (.aload_n 3, 1) := dk_45 (dk_at dksX1_binsAfter_1 3 rfl rfl)
theorem dX1_binsAfter_28 : decode cX1_binsAfter 28 = .ok (.getfield 258, 3) := dk_180 1 2 (dk_at dksX1_binsAfter_1 4 rfl rfl)
theorem dX1_binsAfter_31 : decode cX1_binsAfter 31 = .ok (.invokeinterface 116 2, 5) := by decide +kernel
theorem dX1_binsAfter_36 : decode cX1_binsAfter 36 = .ok (.checkcast 43, 3) := dk_192 0 43 (dk_at dksX1_binsAfter_1 12 rfl rfl)
theorem dX1_binsAfter_39 : decode cX1_binsAfter 39 = .ok (.getfield 265, 3) := dk_180 1 9 (dk_at dksX1_binsAfter_1 15 rfl rfl)
theorem dX1_binsAfter_42 : decode cX1_binsAfter 42 = .ok (.ireturn, 1) := dk_172 (dk_at dksX1_binsAfter_1 18 rfl rfl)
abbrev cX1_nightsUntilSpill : ByteArray := prog_1_method_55_code
def yX1_nightsUntilSpill : MethodName := ⟨RX1, "nightsUntilSpill", "(I)I"⟩
def dkwX1_nightsUntilSpill_2 : List UInt8 := [164, 0, 6, 21, 4, 172, 132, 4, 1, 167, 255, 219, 2, 172]
abbrev dktX1_nightsUntilSpill_2 : List UInt8 := dkwX1_nightsUntilSpill_2 ++ []
def dkwX1_nightsUntilSpill_1 : List UInt8 := [163, 0, 36, 45, 182, 1, 113, 45, 180, 0, 101, 27, 185, 0, 116, 2, 0, 192, 0, 43, 180, 1, 12, 28]
abbrev dktX1_nightsUntilSpill_1 : List UInt8 := dkwX1_nightsUntilSpill_1 ++ dktX1_nightsUntilSpill_2
def dkwX1_nightsUntilSpill_0 : List UInt8 := [42, 27, 182, 1, 5, 180, 1, 12, 61, 42, 180, 0, 39, 182, 0, 224, 78, 4, 54, 4, 21, 4, 16, 100]
abbrev dktX1_nightsUntilSpill_0 : List UInt8 := dkwX1_nightsUntilSpill_0 ++ dktX1_nightsUntilSpill_1
theorem dksX1_nightsUntilSpill_0 : cX1_nightsUntilSpill.data.toList.drop 0 = dktX1_nightsUntilSpill_0 := by decide +kernel
theorem dksX1_nightsUntilSpill_1 : cX1_nightsUntilSpill.data.toList.drop 24 = dktX1_nightsUntilSpill_1 := dk_seg dksX1_nightsUntilSpill_0 24 rfl rfl
theorem dksX1_nightsUntilSpill_2 : cX1_nightsUntilSpill.data.toList.drop 48 = dktX1_nightsUntilSpill_2 := dk_seg dksX1_nightsUntilSpill_1 24 rfl rfl
theorem dX1_nightsUntilSpill_0 : decode cX1_nightsUntilSpill 0 = .ok (.aload_n 0, 1) := dk_42 (dk_at dksX1_nightsUntilSpill_0 0 rfl rfl)
theorem dX1_nightsUntilSpill_1 : decode cX1_nightsUntilSpill 1 = .ok (.iload_n 1, 1) := dk_27 (dk_at dksX1_nightsUntilSpill_0 1 rfl rfl)
theorem dX1_nightsUntilSpill_2 : decode cX1_nightsUntilSpill 2 = .ok (.invokevirtual 261, 3) := dk_182 1 5 (dk_at dksX1_nightsUntilSpill_0 2 rfl rfl)
theorem dX1_nightsUntilSpill_5 : decode cX1_nightsUntilSpill 5 = .ok (.getfield 268, 3) := dk_180 1 12 (dk_at dksX1_nightsUntilSpill_0 5 rfl rfl)
theorem dX1_nightsUntilSpill_8 : decode cX1_nightsUntilSpill 8 = .ok (.istore_n 2, 1) := dk_61 (dk_at dksX1_nightsUntilSpill_0 8 rfl rfl)
theorem dX1_nightsUntilSpill_9 : decode cX1_nightsUntilSpill 9 = .ok (.aload_n 0, 1) := dk_42 (dk_at dksX1_nightsUntilSpill_0 9 rfl rfl)
theorem dX1_nightsUntilSpill_10 : decode cX1_nightsUntilSpill 10 = .ok (.getfield 39, 3) := dk_180 0 39 (dk_at dksX1_nightsUntilSpill_0 10 rfl rfl)
theorem dX1_nightsUntilSpill_13 : decode cX1_nightsUntilSpill 13 = .ok (.invokevirtual 224, 3) := dk_182 0 224 (dk_at dksX1_nightsUntilSpill_0 13 rfl rfl)
theorem dX1_nightsUntilSpill_16 : decode cX1_nightsUntilSpill 16 = .ok (.astore_n 3, 1) := dk_78 (dk_at dksX1_nightsUntilSpill_0 16 rfl rfl)
theorem dX1_nightsUntilSpill_17 : decode cX1_nightsUntilSpill 17 = .ok (.iconst 1, 1) := dk_4 (dk_at dksX1_nightsUntilSpill_0 17 rfl rfl)
theorem dX1_nightsUntilSpill_18 : decode cX1_nightsUntilSpill 18 = .ok (.istore 4, 2) := dk_54 4 (dk_at dksX1_nightsUntilSpill_0 18 rfl rfl)
theorem dX1_nightsUntilSpill_20 : decode cX1_nightsUntilSpill 20 = .ok (.iload 4, 2) := dk_21 4 (dk_at dksX1_nightsUntilSpill_0 20 rfl rfl)
theorem dX1_nightsUntilSpill_22 : decode cX1_nightsUntilSpill 22 = .ok (.bipush 100, 2) := dk_16 100 (dk_at dksX1_nightsUntilSpill_0 22 rfl rfl)
theorem dX1_nightsUntilSpill_24 : decode cX1_nightsUntilSpill 24 = .ok (.if_icmp .gt 36, 3) := dk_163 0 36 (dk_at dksX1_nightsUntilSpill_1 0 rfl rfl)
theorem dX1_nightsUntilSpill_27 : decode cX1_nightsUntilSpill 27 = .ok (.aload_n 3, 1) := dk_45 (dk_at dksX1_nightsUntilSpill_1 3 rfl rfl)
theorem dX1_nightsUntilSpill_28 : decode cX1_nightsUntilSpill 28 = .ok (.invokevirtual 369, 3) := dk_182 1 113 (dk_at dksX1_nightsUntilSpill_1 4 rfl rfl)
theorem dX1_nightsUntilSpill_31 : decode cX1_nightsUntilSpill 31 = .ok (.aload_n 3, 1) := dk_45 (dk_at dksX1_nightsUntilSpill_1 7 rfl rfl)
theorem dX1_nightsUntilSpill_32 : decode cX1_nightsUntilSpill 32 = .ok (.getfield 101, 3) := dk_180 0 101 (dk_at dksX1_nightsUntilSpill_1 8 rfl rfl)
theorem dX1_nightsUntilSpill_35 : decode cX1_nightsUntilSpill 35 = .ok (.iload_n 1, 1) := dk_27 (dk_at dksX1_nightsUntilSpill_1 11 rfl rfl)
theorem dX1_nightsUntilSpill_36 : decode cX1_nightsUntilSpill 36 = .ok (.invokeinterface 116 2, 5) := by decide +kernel
theorem dX1_nightsUntilSpill_41 : decode cX1_nightsUntilSpill 41 = .ok (.checkcast 43, 3) := dk_192 0 43 (dk_at dksX1_nightsUntilSpill_1 17 rfl rfl)
theorem dX1_nightsUntilSpill_44 : decode cX1_nightsUntilSpill 44 = .ok (.getfield 268, 3) := dk_180 1 12 (dk_at dksX1_nightsUntilSpill_1 20 rfl rfl)
theorem dX1_nightsUntilSpill_47 : decode cX1_nightsUntilSpill 47 = .ok (.iload_n 2, 1) := dk_28 (dk_at dksX1_nightsUntilSpill_1 23 rfl rfl)
theorem dX1_nightsUntilSpill_48 : decode cX1_nightsUntilSpill 48 = .ok (.if_icmp .le 6, 3) := dk_164 0 6 (dk_at dksX1_nightsUntilSpill_2 0 rfl rfl)
theorem dX1_nightsUntilSpill_51 : decode cX1_nightsUntilSpill 51 = .ok (.iload 4, 2) := dk_21 4 (dk_at dksX1_nightsUntilSpill_2 3 rfl rfl)
theorem dX1_nightsUntilSpill_53 : decode cX1_nightsUntilSpill 53 = .ok (.ireturn, 1) := dk_172 (dk_at dksX1_nightsUntilSpill_2 5 rfl rfl)
theorem dX1_nightsUntilSpill_54 : decode cX1_nightsUntilSpill 54 = .ok (.iinc 4 1, 3) := dk_132 4 1 (dk_at dksX1_nightsUntilSpill_2 6 rfl rfl)
theorem dX1_nightsUntilSpill_57 : decode cX1_nightsUntilSpill 57 = .ok (.goto (-37), 3) := dk_167 255 219 (dk_at dksX1_nightsUntilSpill_2 9 rfl rfl)
theorem dX1_nightsUntilSpill_60 : decode cX1_nightsUntilSpill 60 = .ok (.iconst (-1), 1) := dk_2 (dk_at dksX1_nightsUntilSpill_2 12 rfl rfl)
theorem dX1_nightsUntilSpill_61 : decode cX1_nightsUntilSpill 61 = .ok (.ireturn, 1) := dk_172 (dk_at dksX1_nightsUntilSpill_2 13 rfl rfl)
abbrev cX1_petalsAfter : ByteArray := prog_1_method_56_code
def yX1_petalsAfter : MethodName := ⟨RX1, "petalsAfter", "(II)I"⟩
def dkwX1_petalsAfter_1 : List UInt8 := [180, 0, 120, 45, 180, 1, 77, 185, 0, 116, 2, 0, 192, 0, 63, 180, 1, 34, 172]
abbrev dktX1_petalsAfter_1 : List UInt8 := dkwX1_petalsAfter_1 ++ []
def dkwX1_petalsAfter_0 : List UInt8 := [42, 27, 182, 1, 27, 78, 28, 3, 16, 100, 184, 0, 108, 184, 0, 142, 42, 180, 0, 39, 28, 182, 1, 109]
abbrev dktX1_petalsAfter_0 : List UInt8 := dkwX1_petalsAfter_0 ++ dktX1_petalsAfter_1
theorem dksX1_petalsAfter_0 : cX1_petalsAfter.data.toList.drop 0 = dktX1_petalsAfter_0 := by decide +kernel
theorem dksX1_petalsAfter_1 : cX1_petalsAfter.data.toList.drop 24 = dktX1_petalsAfter_1 := dk_seg dksX1_petalsAfter_0 24 rfl rfl
theorem dX1_petalsAfter_0 : decode cX1_petalsAfter 0 = .ok (.aload_n 0, 1) := dk_42 (dk_at dksX1_petalsAfter_0 0 rfl rfl)
theorem dX1_petalsAfter_1 : decode cX1_petalsAfter 1 = .ok (.iload_n 1, 1) := dk_27 (dk_at dksX1_petalsAfter_0 1 rfl rfl)
theorem dX1_petalsAfter_2 : decode cX1_petalsAfter 2 = .ok (.invokevirtual 283, 3) := dk_182 1 27 (dk_at dksX1_petalsAfter_0 2 rfl rfl)
theorem dX1_petalsAfter_5 : decode cX1_petalsAfter 5 = .ok (.astore_n 3, 1) := dk_78 (dk_at dksX1_petalsAfter_0 5 rfl rfl)
theorem dX1_petalsAfter_6 : decode cX1_petalsAfter 6 = .ok (.iload_n 2, 1) := dk_28 (dk_at dksX1_petalsAfter_0 6 rfl rfl)
theorem dX1_petalsAfter_7 : decode cX1_petalsAfter 7 = .ok (.iconst 0, 1) := dk_3 (dk_at dksX1_petalsAfter_0 7 rfl rfl)
theorem dX1_petalsAfter_8 : decode cX1_petalsAfter 8 = .ok (.bipush 100, 2) := dk_16 100 (dk_at dksX1_petalsAfter_0 8 rfl rfl)
theorem dX1_petalsAfter_10 : decode cX1_petalsAfter 10 = .ok (.invokestatic 108, 3) := dk_184 0 108 (dk_at dksX1_petalsAfter_0 10 rfl rfl)
theorem dX1_petalsAfter_13 : decode cX1_petalsAfter 13 = .ok (.invokestatic 142, 3) := dk_184 0 142 (dk_at dksX1_petalsAfter_0 13 rfl rfl)
theorem dX1_petalsAfter_16 : decode cX1_petalsAfter 16 = .ok (.aload_n 0, 1) := dk_42 (dk_at dksX1_petalsAfter_0 16 rfl rfl)
theorem dX1_petalsAfter_17 : decode cX1_petalsAfter 17 = .ok (.getfield 39, 3) := dk_180 0 39 (dk_at dksX1_petalsAfter_0 17 rfl rfl)
theorem dX1_petalsAfter_20 : decode cX1_petalsAfter 20 = .ok (.iload_n 2, 1) := dk_28 (dk_at dksX1_petalsAfter_0 20 rfl rfl)
theorem dX1_petalsAfter_21 : decode cX1_petalsAfter 21 = .ok (.invokevirtual 365, 3) := dk_182 1 109 (dk_at dksX1_petalsAfter_0 21 rfl rfl)
theorem dX1_petalsAfter_24 : decode cX1_petalsAfter 24 = .ok (.getfield 120, 3) := dk_180 0 120 (dk_at dksX1_petalsAfter_1 0 rfl rfl)
theorem dX1_petalsAfter_27 : decode cX1_petalsAfter 27 = .ok (.aload_n 3, 1) := dk_45 (dk_at dksX1_petalsAfter_1 3 rfl rfl)
theorem dX1_petalsAfter_28 : decode cX1_petalsAfter 28 = .ok (.getfield 333, 3) := dk_180 1 77 (dk_at dksX1_petalsAfter_1 4 rfl rfl)
theorem dX1_petalsAfter_31 : decode cX1_petalsAfter 31 = .ok (.invokeinterface 116 2, 5) := by decide +kernel
theorem dX1_petalsAfter_36 : decode cX1_petalsAfter 36 = .ok (.checkcast 63, 3) := dk_192 0 63 (dk_at dksX1_petalsAfter_1 12 rfl rfl)
theorem dX1_petalsAfter_39 : decode cX1_petalsAfter 39 = .ok (.getfield 290, 3) := dk_180 1 34 (dk_at dksX1_petalsAfter_1 15 rfl rfl)
theorem dX1_petalsAfter_42 : decode cX1_petalsAfter 42 = .ok (.ireturn, 1) := dk_172 (dk_at dksX1_petalsAfter_1 18 rfl rfl)
abbrev cX1_balanceAfter : ByteArray := prog_1_method_57_code
def yX1_balanceAfter : MethodName := ⟨RX1, "balanceAfter", "(I)I"⟩
def dkwX1_balanceAfter_0 : List UInt8 := [27, 3, 16, 100, 184, 0, 108, 184, 0, 142, 42, 180, 0, 39, 27, 182, 1, 109, 180, 1, 81, 172]
abbrev dktX1_balanceAfter_0 : List UInt8 := dkwX1_balanceAfter_0 ++ []
theorem dksX1_balanceAfter_0 : cX1_balanceAfter.data.toList.drop 0 = dktX1_balanceAfter_0 := by decide +kernel
theorem dX1_balanceAfter_0 : decode cX1_balanceAfter 0 = .ok (.iload_n 1, 1) := dk_27 (dk_at dksX1_balanceAfter_0 0 rfl rfl)
theorem dX1_balanceAfter_1 : decode cX1_balanceAfter 1 = .ok (.iconst 0, 1) := dk_3 (dk_at dksX1_balanceAfter_0 1 rfl rfl)
theorem dX1_balanceAfter_2 : decode cX1_balanceAfter 2 = .ok (.bipush 100, 2) := dk_16 100 (dk_at dksX1_balanceAfter_0 2 rfl rfl)
theorem dX1_balanceAfter_4 : decode cX1_balanceAfter 4 = .ok (.invokestatic 108, 3) := dk_184 0 108 (dk_at dksX1_balanceAfter_0 4 rfl rfl)
theorem dX1_balanceAfter_7 : decode cX1_balanceAfter 7 = .ok (.invokestatic 142, 3) := dk_184 0 142 (dk_at dksX1_balanceAfter_0 7 rfl rfl)
theorem dX1_balanceAfter_10 : decode cX1_balanceAfter 10 = .ok (.aload_n 0, 1) := dk_42 (dk_at dksX1_balanceAfter_0 10 rfl rfl)
theorem dX1_balanceAfter_11 : decode cX1_balanceAfter 11 = .ok (.getfield 39, 3) := dk_180 0 39 (dk_at dksX1_balanceAfter_0 11 rfl rfl)
theorem dX1_balanceAfter_14 : decode cX1_balanceAfter 14 = .ok (.iload_n 1, 1) := dk_27 (dk_at dksX1_balanceAfter_0 14 rfl rfl)
theorem dX1_balanceAfter_15 : decode cX1_balanceAfter 15 = .ok (.invokevirtual 365, 3) := dk_182 1 109 (dk_at dksX1_balanceAfter_0 15 rfl rfl)
theorem dX1_balanceAfter_18 : decode cX1_balanceAfter 18 = .ok (.getfield 337, 3) := dk_180 1 81 (dk_at dksX1_balanceAfter_0 18 rfl rfl)
theorem dX1_balanceAfter_21 : decode cX1_balanceAfter 21 = .ok (.ireturn, 1) := dk_172 (dk_at dksX1_balanceAfter_0 21 rfl rfl)
abbrev cX1_sign : ByteArray := prog_1_method_59_code
def yX1_sign : MethodName := ⟨RX1, "sign", "(IIII)I"⟩
def dkwX1_sign_1 : List UInt8 := [25, 5, 182, 0, 227, 21, 6, 172, 58, 6, 25, 6, 182, 1, 120, 191]
abbrev dktX1_sign_1 : List UInt8 := dkwX1_sign_1 ++ []
def dkwX1_sign_0 : List UInt8 := [42, 180, 0, 39, 182, 0, 224, 58, 5, 42, 180, 0, 39, 27, 28, 29, 21, 4, 182, 1, 116, 54, 6, 42]
abbrev dktX1_sign_0 : List UInt8 := dkwX1_sign_0 ++ dktX1_sign_1
theorem dksX1_sign_0 : cX1_sign.data.toList.drop 0 = dktX1_sign_0 := by decide +kernel
theorem dksX1_sign_1 : cX1_sign.data.toList.drop 24 = dktX1_sign_1 := dk_seg dksX1_sign_0 24 rfl rfl
theorem dX1_sign_0 : decode cX1_sign 0 = .ok (.aload_n 0, 1) := dk_42 (dk_at dksX1_sign_0 0 rfl rfl)
theorem dX1_sign_1 : decode cX1_sign 1 = .ok (.getfield 39, 3) := dk_180 0 39 (dk_at dksX1_sign_0 1 rfl rfl)
theorem dX1_sign_4 : decode cX1_sign 4 = .ok (.invokevirtual 224, 3) := dk_182 0 224 (dk_at dksX1_sign_0 4 rfl rfl)
theorem dX1_sign_7 : decode cX1_sign 7 = .ok (.astore 5, 2) := dk_58 5 (dk_at dksX1_sign_0 7 rfl rfl)
theorem dX1_sign_9 : decode cX1_sign 9 = .ok (.aload_n 0, 1) := dk_42 (dk_at dksX1_sign_0 9 rfl rfl)
theorem dX1_sign_10 : decode cX1_sign 10 = .ok (.getfield 39, 3) := dk_180 0 39 (dk_at dksX1_sign_0 10 rfl rfl)
theorem dX1_sign_13 : decode cX1_sign 13 = .ok (.iload_n 1, 1) := dk_27 (dk_at dksX1_sign_0 13 rfl rfl)
theorem dX1_sign_14 : decode cX1_sign 14 = .ok (.iload_n 2, 1) := dk_28 (dk_at dksX1_sign_0 14 rfl rfl)
theorem dX1_sign_15 : decode cX1_sign 15 = .ok (.iload_n 3, 1) := dk_29 (dk_at dksX1_sign_0 15 rfl rfl)
theorem dX1_sign_16 : decode cX1_sign 16 = .ok (.iload 4, 2) := dk_21 4 (dk_at dksX1_sign_0 16 rfl rfl)
theorem dX1_sign_18 : decode cX1_sign 18 = .ok (.invokevirtual 372, 3) := dk_182 1 116 (dk_at dksX1_sign_0 18 rfl rfl)
theorem dX1_sign_21 : decode cX1_sign 21 = .ok (.istore 6, 2) := dk_54 6 (dk_at dksX1_sign_0 21 rfl rfl)
theorem dX1_sign_23 : decode cX1_sign 23 = .ok (.aload_n 0, 1) := dk_42 (dk_at dksX1_sign_0 23 rfl rfl)
theorem dX1_sign_24 : decode cX1_sign 24 = .ok (.aload 5, 2) := dk_25 5 (dk_at dksX1_sign_1 0 rfl rfl)
theorem dX1_sign_26 : decode cX1_sign 26 = .ok (.invokevirtual 227, 3) := dk_182 0 227 (dk_at dksX1_sign_1 2 rfl rfl)
theorem dX1_sign_29 : decode cX1_sign 29 = .ok (.iload 6, 2) := dk_21 6 (dk_at dksX1_sign_1 5 rfl rfl)
theorem dX1_sign_31 : decode cX1_sign 31 = .ok (.ireturn, 1) := dk_172 (dk_at dksX1_sign_1 7 rfl rfl)
theorem dX1_sign_32 : decode cX1_sign 32 = .ok (.astore 6, 2) := dk_58 6 (dk_at dksX1_sign_1 8 rfl rfl)
theorem dX1_sign_34 : decode cX1_sign 34 = .ok (.aload 6, 2) := dk_25 6 (dk_at dksX1_sign_1 10 rfl rfl)
theorem dX1_sign_36 : decode cX1_sign 36 = .ok (.invokevirtual 376, 3) := dk_182 1 120 (dk_at dksX1_sign_1 12 rfl rfl)
theorem dX1_sign_39 : decode cX1_sign 39 = .ok (.athrow, 1) := dk_191 (dk_at dksX1_sign_1 15 rfl rfl)
abbrev cX1_cancel : ByteArray := prog_1_method_60_code
def yX1_cancel : MethodName := ⟨RX1, "cancel", "(I)I"⟩
def dkwX1_cancel_1 : List UInt8 := [78, 45, 182, 1, 120, 191]
abbrev dktX1_cancel_1 : List UInt8 := dkwX1_cancel_1 ++ []
def dkwX1_cancel_0 : List UInt8 := [42, 180, 0, 39, 182, 0, 224, 77, 42, 180, 0, 39, 27, 182, 1, 124, 62, 42, 44, 182, 0, 227, 29, 172]
abbrev dktX1_cancel_0 : List UInt8 := dkwX1_cancel_0 ++ dktX1_cancel_1
theorem dksX1_cancel_0 : cX1_cancel.data.toList.drop 0 = dktX1_cancel_0 := by decide +kernel
theorem dksX1_cancel_1 : cX1_cancel.data.toList.drop 24 = dktX1_cancel_1 := dk_seg dksX1_cancel_0 24 rfl rfl
theorem dX1_cancel_0 : decode cX1_cancel 0 = .ok (.aload_n 0, 1) := dk_42 (dk_at dksX1_cancel_0 0 rfl rfl)
theorem dX1_cancel_1 : decode cX1_cancel 1 = .ok (.getfield 39, 3) := dk_180 0 39 (dk_at dksX1_cancel_0 1 rfl rfl)
theorem dX1_cancel_4 : decode cX1_cancel 4 = .ok (.invokevirtual 224, 3) := dk_182 0 224 (dk_at dksX1_cancel_0 4 rfl rfl)
theorem dX1_cancel_7 : decode cX1_cancel 7 = .ok (.astore_n 2, 1) := dk_77 (dk_at dksX1_cancel_0 7 rfl rfl)
theorem dX1_cancel_8 : decode cX1_cancel 8 = .ok (.aload_n 0, 1) := dk_42 (dk_at dksX1_cancel_0 8 rfl rfl)
theorem dX1_cancel_9 : decode cX1_cancel 9 = .ok (.getfield 39, 3) := dk_180 0 39 (dk_at dksX1_cancel_0 9 rfl rfl)
theorem dX1_cancel_12 : decode cX1_cancel 12 = .ok (.iload_n 1, 1) := dk_27 (dk_at dksX1_cancel_0 12 rfl rfl)
theorem dX1_cancel_13 : decode cX1_cancel 13 = .ok (.invokevirtual 380, 3) := dk_182 1 124 (dk_at dksX1_cancel_0 13 rfl rfl)
theorem dX1_cancel_16 : decode cX1_cancel 16 = .ok (.istore_n 3, 1) := dk_62 (dk_at dksX1_cancel_0 16 rfl rfl)
theorem dX1_cancel_17 : decode cX1_cancel 17 = .ok (.aload_n 0, 1) := dk_42 (dk_at dksX1_cancel_0 17 rfl rfl)
theorem dX1_cancel_18 : decode cX1_cancel 18 = .ok (.aload_n 2, 1) := dk_44 (dk_at dksX1_cancel_0 18 rfl rfl)
theorem dX1_cancel_19 : decode cX1_cancel 19 = .ok (.invokevirtual 227, 3) := dk_182 0 227 (dk_at dksX1_cancel_0 19 rfl rfl)
theorem dX1_cancel_22 : decode cX1_cancel 22 = .ok (.iload_n 3, 1) := dk_29 (dk_at dksX1_cancel_0 22 rfl rfl)
theorem dX1_cancel_23 : decode cX1_cancel 23 = .ok (.ireturn, 1) := dk_172 (dk_at dksX1_cancel_0 23 rfl rfl)
theorem dX1_cancel_24 : decode cX1_cancel 24 = .ok (.astore_n 3, 1) := dk_78 (dk_at dksX1_cancel_1 0 rfl rfl)
theorem dX1_cancel_25 : decode cX1_cancel 25 = .ok (.aload_n 3, 1) := dk_45 (dk_at dksX1_cancel_1 1 rfl rfl)
theorem dX1_cancel_26 : decode cX1_cancel 26 = .ok (.invokevirtual 376, 3) := dk_182 1 120 (dk_at dksX1_cancel_1 2 rfl rfl)
theorem dX1_cancel_29 : decode cX1_cancel 29 = .ok (.athrow, 1) := dk_191 (dk_at dksX1_cancel_1 5 rfl rfl)
abbrev cX1_advance : ByteArray := prog_1_method_61_code
def yX1_advance : MethodName := ⟨RX1, "advance", "(I)I"⟩
def dkwX1_advance_1 : List UInt8 := [78, 45, 182, 1, 120, 191]
abbrev dktX1_advance_1 : List UInt8 := dkwX1_advance_1 ++ []
def dkwX1_advance_0 : List UInt8 := [42, 180, 0, 39, 182, 0, 224, 77, 42, 180, 0, 39, 27, 182, 1, 128, 62, 42, 44, 182, 0, 227, 29, 172]
abbrev dktX1_advance_0 : List UInt8 := dkwX1_advance_0 ++ dktX1_advance_1
theorem dksX1_advance_0 : cX1_advance.data.toList.drop 0 = dktX1_advance_0 := by decide +kernel
theorem dksX1_advance_1 : cX1_advance.data.toList.drop 24 = dktX1_advance_1 := dk_seg dksX1_advance_0 24 rfl rfl
theorem dX1_advance_0 : decode cX1_advance 0 = .ok (.aload_n 0, 1) := dk_42 (dk_at dksX1_advance_0 0 rfl rfl)
theorem dX1_advance_1 : decode cX1_advance 1 = .ok (.getfield 39, 3) := dk_180 0 39 (dk_at dksX1_advance_0 1 rfl rfl)
theorem dX1_advance_4 : decode cX1_advance 4 = .ok (.invokevirtual 224, 3) := dk_182 0 224 (dk_at dksX1_advance_0 4 rfl rfl)
theorem dX1_advance_7 : decode cX1_advance 7 = .ok (.astore_n 2, 1) := dk_77 (dk_at dksX1_advance_0 7 rfl rfl)
theorem dX1_advance_8 : decode cX1_advance 8 = .ok (.aload_n 0, 1) := dk_42 (dk_at dksX1_advance_0 8 rfl rfl)
theorem dX1_advance_9 : decode cX1_advance 9 = .ok (.getfield 39, 3) := dk_180 0 39 (dk_at dksX1_advance_0 9 rfl rfl)
theorem dX1_advance_12 : decode cX1_advance 12 = .ok (.iload_n 1, 1) := dk_27 (dk_at dksX1_advance_0 12 rfl rfl)
theorem dX1_advance_13 : decode cX1_advance 13 = .ok (.invokevirtual 384, 3) := dk_182 1 128 (dk_at dksX1_advance_0 13 rfl rfl)
theorem dX1_advance_16 : decode cX1_advance 16 = .ok (.istore_n 3, 1) := dk_62 (dk_at dksX1_advance_0 16 rfl rfl)
theorem dX1_advance_17 : decode cX1_advance 17 = .ok (.aload_n 0, 1) := dk_42 (dk_at dksX1_advance_0 17 rfl rfl)
theorem dX1_advance_18 : decode cX1_advance 18 = .ok (.aload_n 2, 1) := dk_44 (dk_at dksX1_advance_0 18 rfl rfl)
theorem dX1_advance_19 : decode cX1_advance 19 = .ok (.invokevirtual 227, 3) := dk_182 0 227 (dk_at dksX1_advance_0 19 rfl rfl)
theorem dX1_advance_22 : decode cX1_advance 22 = .ok (.iload_n 3, 1) := dk_29 (dk_at dksX1_advance_0 22 rfl rfl)
theorem dX1_advance_23 : decode cX1_advance 23 = .ok (.ireturn, 1) := dk_172 (dk_at dksX1_advance_0 23 rfl rfl)
theorem dX1_advance_24 : decode cX1_advance 24 = .ok (.astore_n 3, 1) := dk_78 (dk_at dksX1_advance_1 0 rfl rfl)
theorem dX1_advance_25 : decode cX1_advance 25 = .ok (.aload_n 3, 1) := dk_45 (dk_at dksX1_advance_1 1 rfl rfl)
theorem dX1_advance_26 : decode cX1_advance 26 = .ok (.invokevirtual 376, 3) := dk_182 1 120 (dk_at dksX1_advance_1 2 rfl rfl)
theorem dX1_advance_29 : decode cX1_advance 29 = .ok (.athrow, 1) := dk_191 (dk_at dksX1_advance_1 5 rfl rfl)
abbrev cX1_setWindOffset : ByteArray := prog_1_method_62_code
def yX1_setWindOffset : MethodName := ⟨RX1, "setWindOffset", "(I)I"⟩
def dkwX1_setWindOffset_1 : List UInt8 := [78, 45, 182, 1, 120, 191]
abbrev dktX1_setWindOffset_1 : List UInt8 := dkwX1_setWindOffset_1 ++ []
def dkwX1_setWindOffset_0 : List UInt8 := [42, 180, 0, 39, 182, 0, 224, 77, 42, 180, 0, 39, 27, 182, 1, 131, 62, 42, 44, 182, 0, 227, 29, 172]
abbrev dktX1_setWindOffset_0 : List UInt8 := dkwX1_setWindOffset_0 ++ dktX1_setWindOffset_1
theorem dksX1_setWindOffset_0 : cX1_setWindOffset.data.toList.drop 0 = dktX1_setWindOffset_0 := by decide +kernel
theorem dksX1_setWindOffset_1 : cX1_setWindOffset.data.toList.drop 24 = dktX1_setWindOffset_1 := dk_seg dksX1_setWindOffset_0 24 rfl rfl
theorem dX1_setWindOffset_0 : decode cX1_setWindOffset 0 = .ok (.aload_n 0, 1) := dk_42 (dk_at dksX1_setWindOffset_0 0 rfl rfl)
theorem dX1_setWindOffset_1 : decode cX1_setWindOffset 1 = .ok (.getfield 39, 3) := dk_180 0 39 (dk_at dksX1_setWindOffset_0 1 rfl rfl)
theorem dX1_setWindOffset_4 : decode cX1_setWindOffset 4 = .ok (.invokevirtual 224, 3) := dk_182 0 224 (dk_at dksX1_setWindOffset_0 4 rfl rfl)
theorem dX1_setWindOffset_7 : decode cX1_setWindOffset 7 = .ok (.astore_n 2, 1) := dk_77 (dk_at dksX1_setWindOffset_0 7 rfl rfl)
theorem dX1_setWindOffset_8 : decode cX1_setWindOffset 8 = .ok (.aload_n 0, 1) := dk_42 (dk_at dksX1_setWindOffset_0 8 rfl rfl)
theorem dX1_setWindOffset_9 : decode cX1_setWindOffset 9 = .ok (.getfield 39, 3) := dk_180 0 39 (dk_at dksX1_setWindOffset_0 9 rfl rfl)
theorem dX1_setWindOffset_12 : decode cX1_setWindOffset 12 = .ok (.iload_n 1, 1) := dk_27 (dk_at dksX1_setWindOffset_0 12 rfl rfl)
theorem dX1_setWindOffset_13 : decode cX1_setWindOffset 13 = .ok (.invokevirtual 387, 3) := dk_182 1 131 (dk_at dksX1_setWindOffset_0 13 rfl rfl)
theorem dX1_setWindOffset_16 : decode cX1_setWindOffset 16 = .ok (.istore_n 3, 1) := dk_62 (dk_at dksX1_setWindOffset_0 16 rfl rfl)
theorem dX1_setWindOffset_17 : decode cX1_setWindOffset 17 = .ok (.aload_n 0, 1) := dk_42 (dk_at dksX1_setWindOffset_0 17 rfl rfl)
theorem dX1_setWindOffset_18 : decode cX1_setWindOffset 18 = .ok (.aload_n 2, 1) := dk_44 (dk_at dksX1_setWindOffset_0 18 rfl rfl)
theorem dX1_setWindOffset_19 : decode cX1_setWindOffset 19 = .ok (.invokevirtual 227, 3) := dk_182 0 227 (dk_at dksX1_setWindOffset_0 19 rfl rfl)
theorem dX1_setWindOffset_22 : decode cX1_setWindOffset 22 = .ok (.iload_n 3, 1) := dk_29 (dk_at dksX1_setWindOffset_0 22 rfl rfl)
theorem dX1_setWindOffset_23 : decode cX1_setWindOffset 23 = .ok (.ireturn, 1) := dk_172 (dk_at dksX1_setWindOffset_0 23 rfl rfl)
theorem dX1_setWindOffset_24 : decode cX1_setWindOffset 24 = .ok (.astore_n 3, 1) := dk_78 (dk_at dksX1_setWindOffset_1 0 rfl rfl)
theorem dX1_setWindOffset_25 : decode cX1_setWindOffset 25 = .ok (.aload_n 3, 1) := dk_45 (dk_at dksX1_setWindOffset_1 1 rfl rfl)
theorem dX1_setWindOffset_26 : decode cX1_setWindOffset 26 = .ok (.invokevirtual 376, 3) := dk_182 1 120 (dk_at dksX1_setWindOffset_1 2 rfl rfl)
theorem dX1_setWindOffset_29 : decode cX1_setWindOffset 29 = .ok (.athrow, 1) := dk_191 (dk_at dksX1_setWindOffset_1 5 rfl rfl)
abbrev cX1_setPrice : ByteArray := prog_1_method_63_code
def yX1_setPrice : MethodName := ⟨RX1, "setPrice", "(I)I"⟩
def dkwX1_setPrice_1 : List UInt8 := [78, 45, 182, 1, 120, 191]
abbrev dktX1_setPrice_1 : List UInt8 := dkwX1_setPrice_1 ++ []
def dkwX1_setPrice_0 : List UInt8 := [42, 180, 0, 39, 182, 0, 224, 77, 42, 180, 0, 39, 27, 182, 1, 134, 62, 42, 44, 182, 0, 227, 29, 172]
abbrev dktX1_setPrice_0 : List UInt8 := dkwX1_setPrice_0 ++ dktX1_setPrice_1
theorem dksX1_setPrice_0 : cX1_setPrice.data.toList.drop 0 = dktX1_setPrice_0 := by decide +kernel
theorem dksX1_setPrice_1 : cX1_setPrice.data.toList.drop 24 = dktX1_setPrice_1 := dk_seg dksX1_setPrice_0 24 rfl rfl
theorem dX1_setPrice_0 : decode cX1_setPrice 0 = .ok (.aload_n 0, 1) := dk_42 (dk_at dksX1_setPrice_0 0 rfl rfl)
theorem dX1_setPrice_1 : decode cX1_setPrice 1 = .ok (.getfield 39, 3) := dk_180 0 39 (dk_at dksX1_setPrice_0 1 rfl rfl)
theorem dX1_setPrice_4 : decode cX1_setPrice 4 = .ok (.invokevirtual 224, 3) := dk_182 0 224 (dk_at dksX1_setPrice_0 4 rfl rfl)
theorem dX1_setPrice_7 : decode cX1_setPrice 7 = .ok (.astore_n 2, 1) := dk_77 (dk_at dksX1_setPrice_0 7 rfl rfl)
theorem dX1_setPrice_8 : decode cX1_setPrice 8 = .ok (.aload_n 0, 1) := dk_42 (dk_at dksX1_setPrice_0 8 rfl rfl)
theorem dX1_setPrice_9 : decode cX1_setPrice 9 = .ok (.getfield 39, 3) := dk_180 0 39 (dk_at dksX1_setPrice_0 9 rfl rfl)
theorem dX1_setPrice_12 : decode cX1_setPrice 12 = .ok (.iload_n 1, 1) := dk_27 (dk_at dksX1_setPrice_0 12 rfl rfl)
theorem dX1_setPrice_13 : decode cX1_setPrice 13 = .ok (.invokevirtual 390, 3) := dk_182 1 134 (dk_at dksX1_setPrice_0 13 rfl rfl)
theorem dX1_setPrice_16 : decode cX1_setPrice 16 = .ok (.istore_n 3, 1) := dk_62 (dk_at dksX1_setPrice_0 16 rfl rfl)
theorem dX1_setPrice_17 : decode cX1_setPrice 17 = .ok (.aload_n 0, 1) := dk_42 (dk_at dksX1_setPrice_0 17 rfl rfl)
theorem dX1_setPrice_18 : decode cX1_setPrice 18 = .ok (.aload_n 2, 1) := dk_44 (dk_at dksX1_setPrice_0 18 rfl rfl)
theorem dX1_setPrice_19 : decode cX1_setPrice 19 = .ok (.invokevirtual 227, 3) := dk_182 0 227 (dk_at dksX1_setPrice_0 19 rfl rfl)
theorem dX1_setPrice_22 : decode cX1_setPrice 22 = .ok (.iload_n 3, 1) := dk_29 (dk_at dksX1_setPrice_0 22 rfl rfl)
theorem dX1_setPrice_23 : decode cX1_setPrice 23 = .ok (.ireturn, 1) := dk_172 (dk_at dksX1_setPrice_0 23 rfl rfl)
theorem dX1_setPrice_24 : decode cX1_setPrice 24 = .ok (.astore_n 3, 1) := dk_78 (dk_at dksX1_setPrice_1 0 rfl rfl)
theorem dX1_setPrice_25 : decode cX1_setPrice 25 = .ok (.aload_n 3, 1) := dk_45 (dk_at dksX1_setPrice_1 1 rfl rfl)
theorem dX1_setPrice_26 : decode cX1_setPrice 26 = .ok (.invokevirtual 376, 3) := dk_182 1 120 (dk_at dksX1_setPrice_1 2 rfl rfl)
theorem dX1_setPrice_29 : decode cX1_setPrice 29 = .ok (.athrow, 1) := dk_191 (dk_at dksX1_setPrice_1 5 rfl rfl)
abbrev cX1_undo : ByteArray := prog_1_method_68_code
def yX1_undo : MethodName := ⟨RX1, "undo", "()I"⟩
def dkwX1_undo_1 : List UInt8 := [182, 1, 153, 192, 0, 24, 181, 0, 39, 42, 180, 0, 20, 182, 0, 80, 172]
abbrev dktX1_undo_1 : List UInt8 := dkwX1_undo_1 ++ []
def dkwX1_undo_0 : List UInt8 := [42, 180, 0, 20, 182, 1, 152, 154, 0, 7, 4, 167, 0, 4, 3, 184, 0, 135, 42, 42, 180, 0, 20]
abbrev dktX1_undo_0 : List UInt8 := dkwX1_undo_0 ++ dktX1_undo_1
theorem dksX1_undo_0 : cX1_undo.data.toList.drop 0 = dktX1_undo_0 := by decide +kernel
theorem dksX1_undo_1 : cX1_undo.data.toList.drop 23 = dktX1_undo_1 := dk_seg dksX1_undo_0 23 rfl rfl
theorem dX1_undo_0 : decode cX1_undo 0 = .ok (.aload_n 0, 1) := dk_42 (dk_at dksX1_undo_0 0 rfl rfl)
theorem dX1_undo_1 : decode cX1_undo 1 = .ok (.getfield 20, 3) := dk_180 0 20 (dk_at dksX1_undo_0 1 rfl rfl)
theorem dX1_undo_4 : decode cX1_undo 4 = .ok (.invokevirtual 408, 3) := dk_182 1 152 (dk_at dksX1_undo_0 4 rfl rfl)
theorem dX1_undo_7 : decode cX1_undo 7 = .ok (.ifCond .ne 7, 3) := dk_154 0 7 (dk_at dksX1_undo_0 7 rfl rfl)
theorem dX1_undo_10 : decode cX1_undo 10 = .ok (.iconst 1, 1) := dk_4 (dk_at dksX1_undo_0 10 rfl rfl)
theorem dX1_undo_11 : decode cX1_undo 11 = .ok (.goto 4, 3) := dk_167 0 4 (dk_at dksX1_undo_0 11 rfl rfl)
theorem dX1_undo_14 : decode cX1_undo 14 = .ok (.iconst 0, 1) := dk_3 (dk_at dksX1_undo_0 14 rfl rfl)
theorem dX1_undo_15 : decode cX1_undo 15 = .ok (.invokestatic 135, 3) := dk_184 0 135 (dk_at dksX1_undo_0 15 rfl rfl)
theorem dX1_undo_18 : decode cX1_undo 18 = .ok (.aload_n 0, 1) := dk_42 (dk_at dksX1_undo_0 18 rfl rfl)
theorem dX1_undo_19 : decode cX1_undo 19 = .ok (.aload_n 0, 1) := dk_42 (dk_at dksX1_undo_0 19 rfl rfl)
theorem dX1_undo_20 : decode cX1_undo 20 = .ok (.getfield 20, 3) := dk_180 0 20 (dk_at dksX1_undo_0 20 rfl rfl)
theorem dX1_undo_23 : decode cX1_undo 23 = .ok (.invokevirtual 409, 3) := dk_182 1 153 (dk_at dksX1_undo_1 0 rfl rfl)
theorem dX1_undo_26 : decode cX1_undo 26 = .ok (.checkcast 24, 3) := dk_192 0 24 (dk_at dksX1_undo_1 3 rfl rfl)
theorem dX1_undo_29 : decode cX1_undo 29 = .ok (.putfield 39, 3) := dk_181 0 39 (dk_at dksX1_undo_1 6 rfl rfl)
theorem dX1_undo_32 : decode cX1_undo 32 = .ok (.aload_n 0, 1) := dk_42 (dk_at dksX1_undo_1 9 rfl rfl)
theorem dX1_undo_33 : decode cX1_undo 33 = .ok (.getfield 20, 3) := dk_180 0 20 (dk_at dksX1_undo_1 10 rfl rfl)
theorem dX1_undo_36 : decode cX1_undo 36 = .ok (.invokevirtual 80, 3) := dk_182 0 80 (dk_at dksX1_undo_1 13 rfl rfl)
theorem dX1_undo_39 : decode cX1_undo 39 = .ok (.ireturn, 1) := dk_172 (dk_at dksX1_undo_1 16 rfl rfl)
abbrev cX1_save : ByteArray := prog_1_method_70_code
def yX1_save : MethodName := ⟨RX1, "save", "(I)I"⟩
def dkwX1_save_1 : List UInt8 := [172]
abbrev dktX1_save_1 : List UInt8 := dkwX1_save_1 ++ []
def dkwX1_save_0 : List UInt8 := [27, 184, 1, 156, 42, 180, 0, 26, 27, 42, 180, 0, 39, 182, 0, 224, 83, 42, 180, 0, 39, 180, 1, 78]
abbrev dktX1_save_0 : List UInt8 := dkwX1_save_0 ++ dktX1_save_1
theorem dksX1_save_0 : cX1_save.data.toList.drop 0 = dktX1_save_0 := by decide +kernel
theorem dksX1_save_1 : cX1_save.data.toList.drop 24 = dktX1_save_1 := dk_seg dksX1_save_0 24 rfl rfl
theorem dX1_save_0 : decode cX1_save 0 = .ok (.iload_n 1, 1) := dk_27 (dk_at dksX1_save_0 0 rfl rfl)
theorem dX1_save_1 : decode cX1_save 1 = .ok (.invokestatic 412, 3) := dk_184 1 156 (dk_at dksX1_save_0 1 rfl rfl)
theorem dX1_save_4 : decode cX1_save 4 = .ok (.aload_n 0, 1) := dk_42 (dk_at dksX1_save_0 4 rfl rfl)
theorem dX1_save_5 : decode cX1_save 5 = .ok (.getfield 26, 3) := dk_180 0 26 (dk_at dksX1_save_0 5 rfl rfl)
theorem dX1_save_8 : decode cX1_save 8 = .ok (.iload_n 1, 1) := dk_27 (dk_at dksX1_save_0 8 rfl rfl)
theorem dX1_save_9 : decode cX1_save 9 = .ok (.aload_n 0, 1) := dk_42 (dk_at dksX1_save_0 9 rfl rfl)
theorem dX1_save_10 : decode cX1_save 10 = .ok (.getfield 39, 3) := dk_180 0 39 (dk_at dksX1_save_0 10 rfl rfl)
theorem dX1_save_13 : decode cX1_save 13 = .ok (.invokevirtual 224, 3) := dk_182 0 224 (dk_at dksX1_save_0 13 rfl rfl)
theorem dX1_save_16 : decode cX1_save 16 = .ok (.aastore, 1) := dk_83 (dk_at dksX1_save_0 16 rfl rfl)
theorem dX1_save_17 : decode cX1_save 17 = .ok (.aload_n 0, 1) := dk_42 (dk_at dksX1_save_0 17 rfl rfl)
theorem dX1_save_18 : decode cX1_save 18 = .ok (.getfield 39, 3) := dk_180 0 39 (dk_at dksX1_save_0 18 rfl rfl)
theorem dX1_save_21 : decode cX1_save 21 = .ok (.getfield 334, 3) := dk_180 1 78 (dk_at dksX1_save_0 21 rfl rfl)
theorem dX1_save_24 : decode cX1_save 24 = .ok (.ireturn, 1) := dk_172 (dk_at dksX1_save_1 0 rfl rfl)
abbrev cX1_requireSlot : ByteArray := prog_1_method_69_code
def yX1_requireSlot : MethodName := ⟨RX1, "requireSlot", "(I)V"⟩
def dkwX1_requireSlot_0 : List UInt8 := [26, 3, 4, 184, 0, 108, 184, 0, 112, 177]
abbrev dktX1_requireSlot_0 : List UInt8 := dkwX1_requireSlot_0 ++ []
theorem dksX1_requireSlot_0 : cX1_requireSlot.data.toList.drop 0 = dktX1_requireSlot_0 := by decide +kernel
theorem dX1_requireSlot_0 : decode cX1_requireSlot 0 = .ok (.iload_n 0, 1) := dk_26 (dk_at dksX1_requireSlot_0 0 rfl rfl)
theorem dX1_requireSlot_1 : decode cX1_requireSlot 1 = .ok (.iconst 0, 1) := dk_3 (dk_at dksX1_requireSlot_0 1 rfl rfl)
theorem dX1_requireSlot_2 : decode cX1_requireSlot 2 = .ok (.iconst 1, 1) := dk_4 (dk_at dksX1_requireSlot_0 2 rfl rfl)
theorem dX1_requireSlot_3 : decode cX1_requireSlot 3 = .ok (.invokestatic 108, 3) := dk_184 0 108 (dk_at dksX1_requireSlot_0 3 rfl rfl)
theorem dX1_requireSlot_6 : decode cX1_requireSlot 6 = .ok (.invokestatic 112, 3) := dk_184 0 112 (dk_at dksX1_requireSlot_0 6 rfl rfl)
theorem dX1_requireSlot_9 : decode cX1_requireSlot 9 = .ok (.return_, 1) := dk_177 (dk_at dksX1_requireSlot_0 9 rfl rfl)
abbrev cX1_restore : ByteArray := prog_1_method_71_code
def yX1_restore : MethodName := ⟨RX1, "restore", "(I)I"⟩
def dkwX1_restore_2 : List UInt8 := [180, 1, 78, 172]
abbrev dktX1_restore_2 : List UInt8 := dkwX1_restore_2 ++ []
def dkwX1_restore_1 : List UInt8 := [180, 0, 26, 27, 50, 182, 0, 224, 181, 0, 39, 42, 180, 0, 20, 182, 0, 168, 42, 180, 0, 39]
abbrev dktX1_restore_1 : List UInt8 := dkwX1_restore_1 ++ dktX1_restore_2
def dkwX1_restore_0 : List UInt8 := [27, 184, 1, 156, 42, 180, 0, 26, 27, 50, 199, 0, 11, 187, 1, 160, 89, 183, 1, 162, 191, 42, 42]
abbrev dktX1_restore_0 : List UInt8 := dkwX1_restore_0 ++ dktX1_restore_1
theorem dksX1_restore_0 : cX1_restore.data.toList.drop 0 = dktX1_restore_0 := by decide +kernel
theorem dksX1_restore_1 : cX1_restore.data.toList.drop 23 = dktX1_restore_1 := dk_seg dksX1_restore_0 23 rfl rfl
theorem dksX1_restore_2 : cX1_restore.data.toList.drop 45 = dktX1_restore_2 := dk_seg dksX1_restore_1 22 rfl rfl
theorem dX1_restore_0 : decode cX1_restore 0 = .ok (.iload_n 1, 1) := dk_27 (dk_at dksX1_restore_0 0 rfl rfl)
theorem dX1_restore_1 : decode cX1_restore 1 = .ok (.invokestatic 412, 3) := dk_184 1 156 (dk_at dksX1_restore_0 1 rfl rfl)
theorem dX1_restore_4 : decode cX1_restore 4 = .ok (.aload_n 0, 1) := dk_42 (dk_at dksX1_restore_0 4 rfl rfl)
theorem dX1_restore_5 : decode cX1_restore 5 = .ok (.getfield 26, 3) := dk_180 0 26 (dk_at dksX1_restore_0 5 rfl rfl)
theorem dX1_restore_8 : decode cX1_restore 8 = .ok (.iload_n 1, 1) := dk_27 (dk_at dksX1_restore_0 8 rfl rfl)
theorem dX1_restore_9 : decode cX1_restore 9 = .ok (.aaload, 1) := dk_50 (dk_at dksX1_restore_0 9 rfl rfl)
theorem dX1_restore_10 : decode cX1_restore 10 = .ok (.ifnonnull 11, 3) := dk_199 0 11 (dk_at dksX1_restore_0 10 rfl rfl)
theorem dX1_restore_13 : decode cX1_restore 13 = .ok (.new 416, 3) := dk_187 1 160 (dk_at dksX1_restore_0 13 rfl rfl)
theorem dX1_restore_16 : decode cX1_restore 16 = .ok (.dup, 1) := dk_89 (dk_at dksX1_restore_0 16 rfl rfl)
theorem dX1_restore_17 : decode cX1_restore 17 = .ok (.invokespecial 418, 3) := dk_183 1 162 (dk_at dksX1_restore_0 17 rfl rfl)
theorem dX1_restore_20 : decode cX1_restore 20 = .ok (.athrow, 1) := dk_191 (dk_at dksX1_restore_0 20 rfl rfl)
theorem dX1_restore_21 : decode cX1_restore 21 = .ok (.aload_n 0, 1) := dk_42 (dk_at dksX1_restore_0 21 rfl rfl)
theorem dX1_restore_22 : decode cX1_restore 22 = .ok (.aload_n 0, 1) := dk_42 (dk_at dksX1_restore_0 22 rfl rfl)
theorem dX1_restore_23 : decode cX1_restore 23 = .ok (.getfield 26, 3) := dk_180 0 26 (dk_at dksX1_restore_1 0 rfl rfl)
theorem dX1_restore_26 : decode cX1_restore 26 = .ok (.iload_n 1, 1) := dk_27 (dk_at dksX1_restore_1 3 rfl rfl)
theorem dX1_restore_27 : decode cX1_restore 27 = .ok (.aaload, 1) := dk_50 (dk_at dksX1_restore_1 4 rfl rfl)
theorem dX1_restore_28 : decode cX1_restore 28 = .ok (.invokevirtual 224, 3) := dk_182 0 224 (dk_at dksX1_restore_1 5 rfl rfl)
theorem dX1_restore_31 : decode cX1_restore 31 = .ok (.putfield 39, 3) := dk_181 0 39 (dk_at dksX1_restore_1 8 rfl rfl)
theorem dX1_restore_34 : decode cX1_restore 34 = .ok (.aload_n 0, 1) := dk_42 (dk_at dksX1_restore_1 11 rfl rfl)
theorem dX1_restore_35 : decode cX1_restore 35 = .ok (.getfield 20, 3) := dk_180 0 20 (dk_at dksX1_restore_1 12 rfl rfl)
theorem dX1_restore_38 : decode cX1_restore 38 = .ok (.invokevirtual 168, 3) := dk_182 0 168 (dk_at dksX1_restore_1 15 rfl rfl)
theorem dX1_restore_41 : decode cX1_restore 41 = .ok (.aload_n 0, 1) := dk_42 (dk_at dksX1_restore_1 18 rfl rfl)
theorem dX1_restore_42 : decode cX1_restore 42 = .ok (.getfield 39, 3) := dk_180 0 39 (dk_at dksX1_restore_1 19 rfl rfl)
theorem dX1_restore_45 : decode cX1_restore 45 = .ok (.getfield 334, 3) := dk_180 1 78 (dk_at dksX1_restore_2 0 rfl rfl)
theorem dX1_restore_48 : decode cX1_restore 48 = .ok (.ireturn, 1) := dk_172 (dk_at dksX1_restore_2 3 rfl rfl)
theorem q136 : (Jvm.Cond.initialized "RoseGuild") ∈ lw_all := lw_g (lw_at lw_m1 1 rfl) rfl
theorem q210 : (Jvm.Cond.instantiable "RoseGuild" (9 : Nat)) ∈ lw_all := lw_g (lw_at lw_m1 75 rfl) rfl
theorem q212 : (Jvm.Cond.instanceMethod ({ cls := "RoseGuild", name := "<init>", desc := "()V" } : Jvm.MethodName)) ∈ lw_all := lw_g (lw_at lw_m1 77 rfl) rfl
theorem q213 : (Jvm.Cond.code ({ cls := "RoseGuild", name := "<init>", desc := "()V" } : Jvm.MethodName) prog_1_method_2_code (1 : Nat) (Option.none : Option Jvm.ClassFile.FieldType)) ∈ lw_all := lw_g (lw_at lw_m1 78 rfl) rfl
theorem q214 : (Jvm.Cond.methodLink "RoseGuild" (1 : Nat) ({ cls := "java/lang/Object", name := "<init>", desc := "()V" } : Jvm.MethodName)) ∈ lw_all := lw_g (lw_at lw_m1 79 rfl) rfl
theorem q217 : (Jvm.Cond.classLink "RoseGuild" (17 : Nat) "java/util/ArrayDeque") ∈ lw_all := lw_g (lw_at lw_m1 82 rfl) rfl
theorem q219 : (Jvm.Cond.methodLink "RoseGuild" (19 : Nat) ({ cls := "java/util/ArrayDeque", name := "<init>", desc := "()V" } : Jvm.MethodName)) ∈ lw_all := lw_g (lw_at lw_m1 84 rfl) rfl
theorem q239 : (Jvm.Cond.classLink "RoseGuild" (24 : Nat) "RoseGuild$Guild") ∈ lw_all := lw_g (lw_at lw_m1 104 rfl) rfl
theorem q241 : (Jvm.Cond.stringRef "RoseGuild" (30 : Nat) "") ∈ lw_tbl := lw_at lw_m1 106 rfl
theorem q243 : (Jvm.Cond.methodLink "RoseGuild" (36 : Nat) ({ cls := "RoseGuild$Guild", name := "<init>", desc := "(IIIII)V" } : Jvm.MethodName)) ∈ lw_all := lw_g (lw_at lw_m1 108 rfl) rfl
theorem q967 : (Jvm.Cond.selects "RoseGuild" ({ cls := "java/lang/Object", name := "toString", desc := "()Ljava/lang/String;" } : Jvm.MethodName) ({ cls := "java/lang/Object", name := "toString", desc := "()Ljava/lang/String;" } : Jvm.MethodName)) ∈ lw_all := lw_g (lw_at lw_m4 112 rfl) rfl
theorem q984 : (Jvm.Cond.selects "RoseGuild" ({ cls := "java/lang/Object", name := "getClass", desc := "()Ljava/lang/Class;" } : Jvm.MethodName) ({ cls := "java/lang/Object", name := "getClass", desc := "()Ljava/lang/Class;" } : Jvm.MethodName)) ∈ lw_all := lw_g (lw_at lw_m4 129 rfl) rfl
theorem q1218 : (Jvm.Cond.fieldLinkNest "RoseGuild" (249 : Nat) "RoseGuild$Guild" "streetsByPoint" "Ljava/util/LinkedHashMap;" "RoseGuild") ∈ lw_tbl := lw_at lw_m5 123 rfl
theorem q1224 : (Jvm.Cond.fieldLinkNest "RoseGuild" (101 : Nat) "RoseGuild$Guild" "streets" "Ljava/util/List;" "RoseGuild") ∈ lw_tbl := lw_at lw_m5 129 rfl
theorem q1228 : (Jvm.Cond.fieldLinkNest "RoseGuild" (120 : Nat) "RoseGuild$Guild" "gardens" "Ljava/util/List;" "RoseGuild") ∈ lw_tbl := lw_at lw_m5 133 rfl
theorem q1231 : (Jvm.Cond.fieldLinkNest "RoseGuild" (123 : Nat) "RoseGuild$Guild" "carts" "Ljava/util/List;" "RoseGuild") ∈ lw_tbl := lw_at lw_m5 136 rfl
theorem q1234 : (Jvm.Cond.fieldLinkNest "RoseGuild" (274 : Nat) "RoseGuild$Guild" "served" "Ljava/util/BitSet;" "RoseGuild") ∈ lw_tbl := lw_at lw_m5 139 rfl
theorem q1236 : (Jvm.Cond.fieldLinkNest "RoseGuild" (334 : Nat) "RoseGuild$Guild" "night" "I" "RoseGuild") ∈ lw_tbl := lw_at lw_m5 141 rfl
theorem q1238 : (Jvm.Cond.fieldLinkNest "RoseGuild" (340 : Nat) "RoseGuild$Guild" "price" "I" "RoseGuild") ∈ lw_tbl := lw_at lw_m5 143 rfl
theorem q1241 : (Jvm.Cond.fieldLinkNest "RoseGuild" (337 : Nat) "RoseGuild$Guild" "balance" "I" "RoseGuild") ∈ lw_tbl := lw_at lw_m5 146 rfl
theorem q1243 : (Jvm.Cond.fieldLinkNest "RoseGuild" (350 : Nat) "RoseGuild$Guild" "deliveries" "I" "RoseGuild") ∈ lw_tbl := lw_at lw_m5 148 rfl
theorem q1245 : (Jvm.Cond.fieldLinkNest "RoseGuild" (356 : Nat) "RoseGuild$Guild" "delivered" "I" "RoseGuild") ∈ lw_tbl := lw_at lw_m5 150 rfl
theorem q1247 : (Jvm.Cond.fieldLinkNest "RoseGuild" (353 : Nat) "RoseGuild$Guild" "late" "I" "RoseGuild") ∈ lw_tbl := lw_at lw_m5 152 rfl
theorem q1292 : (Jvm.Cond.classLink "RoseGuild" (43 : Nat) "RoseGuild$Street") ∈ lw_all := lw_g (lw_at lw_m5 197 rfl) rfl
theorem q1294 : (Jvm.Cond.stringRef "RoseGuild" (45 : Nat) "bow") ∈ lw_tbl := lw_at lw_m5 199 rfl
theorem q1295 : (Jvm.Cond.classLink "RoseGuild" (47 : Nat) "RoseGuild$Point") ∈ lw_all := lw_g (lw_at lw_m5 200 rfl) rfl
theorem q1297 : (Jvm.Cond.methodLink "RoseGuild" (49 : Nat) ({ cls := "RoseGuild$Point", name := "<init>", desc := "(II)V" } : Jvm.MethodName)) ∈ lw_all := lw_g (lw_at lw_m5 202 rfl) rfl
theorem q1310 : (Jvm.Cond.methodLink "RoseGuild" (52 : Nat) ({ cls := "RoseGuild$Street", name := "<init>", desc := "(ILjava/lang/String;LRoseGuild$Point;II)V" } : Jvm.MethodName)) ∈ lw_all := lw_g (lw_at lw_m5 215 rfl) rfl
theorem q1316 : (Jvm.Cond.fieldLinkNest "RoseGuild" (258 : Nat) "RoseGuild$Street" "number" "I" "RoseGuild") ∈ lw_tbl := lw_at lw_m5 221 rfl
theorem q1328 : (Jvm.Cond.fieldLinkNest "RoseGuild" (265 : Nat) "RoseGuild$Street" "bins" "I" "RoseGuild") ∈ lw_tbl := lw_at lw_m5 233 rfl
theorem q1330 : (Jvm.Cond.fieldLinkNest "RoseGuild" (268 : Nat) "RoseGuild$Street" "spilled" "I" "RoseGuild") ∈ lw_tbl := lw_at lw_m5 235 rfl
theorem q1334 : (Jvm.Cond.fieldLinkNest "RoseGuild" (271 : Nat) "RoseGuild$Street" "complaints" "I" "RoseGuild") ∈ lw_tbl := lw_at lw_m5 239 rfl
theorem q1352 : (Jvm.Cond.methodLink "RoseGuild" (55 : Nat) ({ cls := "RoseGuild$Guild", name := "addStreet", desc := "(LRoseGuild$Street;)V" } : Jvm.MethodName)) ∈ lw_all := lw_g (lw_at lw_m6 17 rfl) rfl
theorem q1441 : (Jvm.Cond.selects "RoseGuild" ({ cls := "java/lang/Object", name := "hashCode", desc := "()I" } : Jvm.MethodName) ({ cls := "java/lang/Object", name := "hashCode", desc := "()I" } : Jvm.MethodName)) ∈ lw_all := lw_g (lw_at lw_m6 106 rfl) rfl
theorem q1859 : (Jvm.Cond.selects "RoseGuild" ({ cls := "java/lang/Object", name := "equals", desc := "(Ljava/lang/Object;)Z" } : Jvm.MethodName) ({ cls := "java/lang/Object", name := "equals", desc := "(Ljava/lang/Object;)Z" } : Jvm.MethodName)) ∈ lw_all := lw_g (lw_at lw_m8 44 rfl) rfl
theorem q1983 : (Jvm.Cond.stringRef "RoseGuild" (59 : Nat) "elm") ∈ lw_tbl := lw_at lw_m8 168 rfl
theorem q1984 : (Jvm.Cond.stringRef "RoseGuild" (61 : Nat) "oak") ∈ lw_tbl := lw_at lw_m8 169 rfl
theorem q1985 : (Jvm.Cond.classLink "RoseGuild" (63 : Nat) "RoseGuild$Garden") ∈ lw_all := lw_g (lw_at lw_m8 170 rfl) rfl
theorem q1987 : (Jvm.Cond.stringRef "RoseGuild" (65 : Nat) "kew") ∈ lw_tbl := lw_at lw_m8 172 rfl
theorem q1988 : (Jvm.Cond.methodLink "RoseGuild" (67 : Nat) ({ cls := "RoseGuild$Garden", name := "<init>", desc := "(ILjava/lang/String;LRoseGuild$Point;I)V" } : Jvm.MethodName)) ∈ lw_all := lw_g (lw_at lw_m8 173 rfl) rfl
theorem q1994 : (Jvm.Cond.fieldLinkNest "RoseGuild" (333 : Nat) "RoseGuild$Garden" "number" "I" "RoseGuild") ∈ lw_tbl := lw_at lw_m8 179 rfl
theorem q2002 : (Jvm.Cond.fieldLinkNest "RoseGuild" (287 : Nat) "RoseGuild$Garden" "stock" "I" "RoseGuild") ∈ lw_tbl := lw_at lw_m8 187 rfl
theorem q2005 : (Jvm.Cond.fieldLinkNest "RoseGuild" (290 : Nat) "RoseGuild$Garden" "petals" "I" "RoseGuild") ∈ lw_tbl := lw_at lw_m8 190 rfl
theorem q2010 : (Jvm.Cond.fieldLinkNest "RoseGuild" (293 : Nat) "RoseGuild$Garden" "rotted" "I" "RoseGuild") ∈ lw_tbl := lw_at lw_m8 195 rfl
theorem q2013 : (Jvm.Cond.fieldLinkNest "RoseGuild" (296 : Nat) "RoseGuild$Garden" "prizes" "I" "RoseGuild") ∈ lw_tbl := lw_at lw_m8 198 rfl
theorem q2033 : (Jvm.Cond.methodLink "RoseGuild" (70 : Nat) ({ cls := "RoseGuild$Guild", name := "addGarden", desc := "(LRoseGuild$Garden;)V" } : Jvm.MethodName)) ∈ lw_all := lw_g (lw_at lw_m8 218 rfl) rfl
theorem q2037 : (Jvm.Cond.stringRef "RoseGuild" (74 : Nat) "ros") ∈ lw_tbl := lw_at lw_m8 222 rfl
theorem q2038 : (Jvm.Cond.methodLink "RoseGuild" (76 : Nat) ({ cls := "RoseGuild$Guild", name := "addCart", desc := "(IILRoseGuild$Contract;)V" } : Jvm.MethodName)) ∈ lw_all := lw_g (lw_at lw_m8 223 rfl) rfl
theorem q2069 : (Jvm.Cond.fieldLinkNest "RoseGuild" (306 : Nat) "RoseGuild$Cart" "contract" "LRoseGuild$Contract;" "RoseGuild") ∈ lw_tbl := lw_at lw_m9 14 rfl
theorem q2079 : (Jvm.Cond.fieldLink "RoseGuild" (9 : Nat) "RoseGuild" "text" "[B") ∈ lw_all := lw_g (lw_at lw_m9 24 rfl) rfl
theorem q2082 : (Jvm.Cond.fieldLink "RoseGuild" (128 : Nat) "RoseGuild" "textLength" "I") ∈ lw_all := lw_g (lw_at lw_m9 27 rfl) rfl
theorem q2083 : (Jvm.Cond.fieldLink "RoseGuild" (145 : Nat) "RoseGuild" "errorCode" "I") ∈ lw_all := lw_g (lw_at lw_m9 28 rfl) rfl
theorem q2084 : (Jvm.Cond.fieldLink "RoseGuild" (13 : Nat) "RoseGuild" "errorPosition" "I") ∈ lw_all := lw_g (lw_at lw_m9 29 rfl) rfl
theorem q2085 : (Jvm.Cond.fieldLink "RoseGuild" (39 : Nat) "RoseGuild" "guild" "LRoseGuild$Guild;") ∈ lw_all := lw_g (lw_at lw_m9 30 rfl) rfl
theorem q2087 : (Jvm.Cond.fieldLink "RoseGuild" (20 : Nat) "RoseGuild" "history" "Ljava/util/ArrayDeque;") ∈ lw_all := lw_g (lw_at lw_m9 32 rfl) rfl
theorem q2088 : (Jvm.Cond.fieldLink "RoseGuild" (26 : Nat) "RoseGuild" "slots" "[LRoseGuild$Guild;") ∈ lw_all := lw_g (lw_at lw_m9 33 rfl) rfl
theorem q2089 : (Jvm.Cond.fieldLink "RoseGuild" (32 : Nat) "RoseGuild" "output" "Ljava/lang/String;") ∈ lw_all := lw_g (lw_at lw_m9 34 rfl) rfl
theorem q2090 : (Jvm.Cond.fieldLink "RoseGuild" (179 : Nat) "RoseGuild" "executed" "I") ∈ lw_all := lw_g (lw_at lw_m9 35 rfl) rfl
theorem q2091 : (Jvm.Cond.laysFinal "RoseGuild" "RoseGuild" "text" "[B") ∈ lw_all := lw_g (lw_at lw_m9 36 rfl) rfl
theorem q2092 : (Jvm.Cond.soleField "RoseGuild" "text") ∈ lw_all := lw_g (lw_at lw_m9 37 rfl) rfl
theorem q2093 : (Jvm.Cond.lays "RoseGuild" "RoseGuild" "textLength" "I") ∈ lw_all := lw_g (lw_at lw_m9 38 rfl) rfl
theorem q2094 : (Jvm.Cond.soleField "RoseGuild" "textLength") ∈ lw_all := lw_g (lw_at lw_m9 39 rfl) rfl
theorem q2095 : (Jvm.Cond.lays "RoseGuild" "RoseGuild" "errorCode" "I") ∈ lw_all := lw_g (lw_at lw_m9 40 rfl) rfl
theorem q2096 : (Jvm.Cond.soleField "RoseGuild" "errorCode") ∈ lw_all := lw_g (lw_at lw_m9 41 rfl) rfl
theorem q2097 : (Jvm.Cond.lays "RoseGuild" "RoseGuild" "errorPosition" "I") ∈ lw_all := lw_g (lw_at lw_m9 42 rfl) rfl
theorem q2098 : (Jvm.Cond.soleField "RoseGuild" "errorPosition") ∈ lw_all := lw_g (lw_at lw_m9 43 rfl) rfl
theorem q2099 : (Jvm.Cond.lays "RoseGuild" "RoseGuild" "guild" "LRoseGuild$Guild;") ∈ lw_all := lw_g (lw_at lw_m9 44 rfl) rfl
theorem q2100 : (Jvm.Cond.soleField "RoseGuild" "guild") ∈ lw_all := lw_g (lw_at lw_m9 45 rfl) rfl
theorem q2101 : (Jvm.Cond.laysFinal "RoseGuild" "RoseGuild" "history" "Ljava/util/ArrayDeque;") ∈ lw_all := lw_g (lw_at lw_m9 46 rfl) rfl
theorem q2102 : (Jvm.Cond.soleField "RoseGuild" "history") ∈ lw_all := lw_g (lw_at lw_m9 47 rfl) rfl
theorem q2103 : (Jvm.Cond.laysFinal "RoseGuild" "RoseGuild" "slots" "[LRoseGuild$Guild;") ∈ lw_all := lw_g (lw_at lw_m9 48 rfl) rfl
theorem q2104 : (Jvm.Cond.soleField "RoseGuild" "slots") ∈ lw_all := lw_g (lw_at lw_m9 49 rfl) rfl
theorem q2105 : (Jvm.Cond.lays "RoseGuild" "RoseGuild" "output" "Ljava/lang/String;") ∈ lw_all := lw_g (lw_at lw_m9 50 rfl) rfl
theorem q2106 : (Jvm.Cond.soleField "RoseGuild" "output") ∈ lw_all := lw_g (lw_at lw_m9 51 rfl) rfl
theorem q2107 : (Jvm.Cond.lays "RoseGuild" "RoseGuild" "executed" "I") ∈ lw_all := lw_g (lw_at lw_m9 52 rfl) rfl
theorem q2108 : (Jvm.Cond.soleField "RoseGuild" "executed") ∈ lw_all := lw_g (lw_at lw_m9 53 rfl) rfl
theorem q2109 : (Jvm.Cond.superclass "RoseGuild" "java/lang/Object") ∈ lw_all := lw_g (lw_at lw_m9 54 rfl) rfl
theorem q2111 : (Jvm.Cond.instanceMethod ({ cls := "RoseGuild", name := "load", desc := "()I" } : Jvm.MethodName)) ∈ lw_all := lw_g (lw_at lw_m9 56 rfl) rfl
theorem q2112 : (Jvm.Cond.selects "RoseGuild" ({ cls := "RoseGuild", name := "load", desc := "()I" } : Jvm.MethodName) ({ cls := "RoseGuild", name := "load", desc := "()I" } : Jvm.MethodName)) ∈ lw_all := lw_g (lw_at lw_m9 57 rfl) rfl
theorem q2113 : (Jvm.Cond.codeWith ({ cls := "RoseGuild", name := "load", desc := "()I" } : Jvm.MethodName) prog_1_method_15_code (4 : Nat) (Option.some Jvm.ClassFile.FieldType.int) [((6 : Nat), (21 : Nat), (29 : Nat), (160 : Nat)), ((6 : Nat), (21 : Nat), (54 : Nat), (0 : Nat)), ((29 : Nat), (47 : Nat), (54 : Nat), (0 : Nat))]) ∈ lw_all := lw_g (lw_at lw_m9 58 rfl) rfl
theorem q2114 : (Jvm.Cond.classLink "RoseGuild" (160 : Nat) "RoseGuild$SyntaxProblem") ∈ lw_all := lw_g (lw_at lw_m9 59 rfl) rfl
theorem q2115 : (Jvm.Cond.methodLink "RoseGuild" (148 : Nat) ({ cls := "RoseGuild", name := "setError", desc := "(II)V" } : Jvm.MethodName)) ∈ lw_all := lw_g (lw_at lw_m9 60 rfl) rfl
theorem q2116 : (Jvm.Cond.privateMethod ({ cls := "RoseGuild", name := "setError", desc := "(II)V" } : Jvm.MethodName)) ∈ lw_tbl := lw_at lw_m9 61 rfl
theorem q2117 : (Jvm.Cond.instanceMethod ({ cls := "RoseGuild", name := "setError", desc := "(II)V" } : Jvm.MethodName)) ∈ lw_all := lw_g (lw_at lw_m9 62 rfl) rfl
theorem q2118 : (Jvm.Cond.code ({ cls := "RoseGuild", name := "setError", desc := "(II)V" } : Jvm.MethodName) prog_1_method_14_code (3 : Nat) (Option.none : Option Jvm.ClassFile.FieldType)) ∈ lw_all := lw_g (lw_at lw_m9 63 rfl) rfl
theorem q2119 : (Jvm.Cond.classLink "RoseGuild" (151 : Nat) "RoseGuild$SetupParser") ∈ lw_all := lw_g (lw_at lw_m9 64 rfl) rfl
theorem q2121 : (Jvm.Cond.methodLinkNest "RoseGuild" (153 : Nat) ({ cls := "RoseGuild$SetupParser", name := "<init>", desc := "(LRoseGuild;)V" } : Jvm.MethodName) "RoseGuild") ∈ lw_tbl := lw_at lw_m9 66 rfl
theorem q2147 : (Jvm.Cond.static ({ cls := "RoseGuild", name := "isBetween", desc := "(III)Z" } : Jvm.MethodName)) ∈ lw_all := lw_g (lw_at lw_m9 92 rfl) rfl
theorem q2148 : (Jvm.Cond.code ({ cls := "RoseGuild", name := "isBetween", desc := "(III)Z" } : Jvm.MethodName) prog_1_method_1_code (3 : Nat) (Option.some Jvm.ClassFile.FieldType.boolean)) ∈ lw_all := lw_g (lw_at lw_m9 93 rfl) rfl
theorem q2190 : (Jvm.Cond.methodLink "RoseGuild" (156 : Nat) ({ cls := "RoseGuild$SetupParser", name := "parse", desc := "()LRoseGuild$Guild;" } : Jvm.MethodName)) ∈ lw_all := lw_g (lw_at lw_m9 135 rfl) rfl
theorem q2227 : (Jvm.Cond.fieldLinkNest "RoseGuild" (162 : Nat) "RoseGuild$SyntaxProblem" "code" "I" "RoseGuild") ∈ lw_tbl := lw_at lw_m9 172 rfl
theorem q2229 : (Jvm.Cond.fieldLinkNest "RoseGuild" (165 : Nat) "RoseGuild$SyntaxProblem" "position" "I" "RoseGuild") ∈ lw_tbl := lw_at lw_m9 174 rfl
theorem q2428 : (Jvm.Cond.methodLink "RoseGuild" (168 : Nat) ({ cls := "java/util/ArrayDeque", name := "clear", desc := "()V" } : Jvm.MethodName)) ∈ lw_all := lw_g (lw_at lw_m10 133 rfl) rfl
theorem q2436 : (Jvm.Cond.instanceMethod ({ cls := "RoseGuild", name := "runScript", desc := "()I" } : Jvm.MethodName)) ∈ lw_all := lw_g (lw_at lw_m10 141 rfl) rfl
theorem q2437 : (Jvm.Cond.selects "RoseGuild" ({ cls := "RoseGuild", name := "runScript", desc := "()I" } : Jvm.MethodName) ({ cls := "RoseGuild", name := "runScript", desc := "()I" } : Jvm.MethodName)) ∈ lw_all := lw_g (lw_at lw_m10 142 rfl) rfl
theorem q2438 : (Jvm.Cond.codeWith ({ cls := "RoseGuild", name := "runScript", desc := "()I" } : Jvm.MethodName) prog_1_method_18_code (5 : Nat) (Option.some Jvm.ClassFile.FieldType.int) [((6 : Nat), (18 : Nat), (26 : Nat), (160 : Nat)), ((6 : Nat), (18 : Nat), (48 : Nat), (0 : Nat)), ((26 : Nat), (41 : Nat), (48 : Nat), (0 : Nat)), ((48 : Nat), (50 : Nat), (48 : Nat), (0 : Nat))]) ∈ lw_all := lw_g (lw_at lw_m10 143 rfl) rfl
theorem q2439 : (Jvm.Cond.classLink "RoseGuild" (218 : Nat) "RoseGuild$ScriptParser") ∈ lw_all := lw_g (lw_at lw_m10 144 rfl) rfl
theorem q2441 : (Jvm.Cond.methodLinkNest "RoseGuild" (220 : Nat) ({ cls := "RoseGuild$ScriptParser", name := "<init>", desc := "(LRoseGuild;)V" } : Jvm.MethodName) "RoseGuild") ∈ lw_tbl := lw_at lw_m10 146 rfl
theorem q2462 : (Jvm.Cond.methodLink "RoseGuild" (221 : Nat) ({ cls := "RoseGuild$ScriptParser", name := "parse", desc := "()LRoseGuild$Block;" } : Jvm.MethodName)) ∈ lw_all := lw_g (lw_at lw_m10 167 rfl) rfl
theorem q2480 : (Jvm.Cond.fieldLinkNest "RoseGuild" (182 : Nat) "RoseGuild$Block" "commands" "Ljava/util/LinkedList;" "RoseGuild") ∈ lw_tbl := lw_at lw_m10 185 rfl
theorem q2482 : (Jvm.Cond.fieldLinkNest "RoseGuild" (194 : Nat) "RoseGuild$Block" "times" "I" "RoseGuild") ∈ lw_tbl := lw_at lw_m10 187 rfl
theorem q2556 : (Jvm.Cond.methodLink "RoseGuild" (224 : Nat) ({ cls := "RoseGuild$Guild", name := "copy", desc := "()LRoseGuild$Guild;" } : Jvm.MethodName)) ∈ lw_all := lw_g (lw_at lw_m11 21 rfl) rfl
theorem q2811 : (Jvm.Cond.fieldLinkNest "RoseGuild" (310 : Nat) "RoseGuild$Contract" "street" "I" "RoseGuild") ∈ lw_tbl := lw_at lw_m12 36 rfl
theorem q2814 : (Jvm.Cond.fieldLinkNest "RoseGuild" (315 : Nat) "RoseGuild$Contract" "garden" "I" "RoseGuild") ∈ lw_tbl := lw_at lw_m12 39 rfl
theorem q2817 : (Jvm.Cond.fieldLinkNest "RoseGuild" (318 : Nat) "RoseGuild$Contract" "nights" "I" "RoseGuild") ∈ lw_tbl := lw_at lw_m12 42 rfl
theorem q2857 : (Jvm.Cond.methodLink "RoseGuild" (227 : Nat) ({ cls := "RoseGuild", name := "record", desc := "(LRoseGuild$Guild;)V" } : Jvm.MethodName)) ∈ lw_all := lw_g (lw_at lw_m12 82 rfl) rfl
theorem q2858 : (Jvm.Cond.privateMethod ({ cls := "RoseGuild", name := "record", desc := "(LRoseGuild$Guild;)V" } : Jvm.MethodName)) ∈ lw_tbl := lw_at lw_m12 83 rfl
theorem q2859 : (Jvm.Cond.instanceMethod ({ cls := "RoseGuild", name := "record", desc := "(LRoseGuild$Guild;)V" } : Jvm.MethodName)) ∈ lw_all := lw_g (lw_at lw_m12 84 rfl) rfl
theorem q2860 : (Jvm.Cond.code ({ cls := "RoseGuild", name := "record", desc := "(LRoseGuild$Guild;)V" } : Jvm.MethodName) prog_1_method_3_code (3 : Nat) (Option.none : Option Jvm.ClassFile.FieldType)) ∈ lw_all := lw_g (lw_at lw_m12 85 rfl) rfl
theorem q2861 : (Jvm.Cond.methodLink "RoseGuild" (80 : Nat) ({ cls := "java/util/ArrayDeque", name := "size", desc := "()I" } : Jvm.MethodName)) ∈ lw_all := lw_g (lw_at lw_m12 86 rfl) rfl
theorem q2868 : (Jvm.Cond.methodLink "RoseGuild" (84 : Nat) ({ cls := "java/util/ArrayDeque", name := "removeFirst", desc := "()Ljava/lang/Object;" } : Jvm.MethodName)) ∈ lw_all := lw_g (lw_at lw_m12 93 rfl) rfl
theorem q2884 : (Jvm.Cond.methodLink "RoseGuild" (88 : Nat) ({ cls := "java/util/ArrayDeque", name := "addLast", desc := "(Ljava/lang/Object;)V" } : Jvm.MethodName)) ∈ lw_all := lw_g (lw_at lw_m12 109 rfl) rfl
theorem q2906 : (Jvm.Cond.methodLink "RoseGuild" (215 : Nat) ({ cls := "RoseGuild", name := "execute", desc := "(LRoseGuild$Block;)Z" } : Jvm.MethodName)) ∈ lw_all := lw_g (lw_at lw_m12 131 rfl) rfl
theorem q2907 : (Jvm.Cond.privateMethod ({ cls := "RoseGuild", name := "execute", desc := "(LRoseGuild$Block;)Z" } : Jvm.MethodName)) ∈ lw_tbl := lw_at lw_m12 132 rfl
theorem q2908 : (Jvm.Cond.instanceMethod ({ cls := "RoseGuild", name := "execute", desc := "(LRoseGuild$Block;)Z" } : Jvm.MethodName)) ∈ lw_all := lw_g (lw_at lw_m12 133 rfl) rfl
theorem q2909 : (Jvm.Cond.code ({ cls := "RoseGuild", name := "execute", desc := "(LRoseGuild$Block;)Z" } : Jvm.MethodName) prog_1_method_17_code (8 : Nat) (Option.some Jvm.ClassFile.FieldType.boolean)) ∈ lw_all := lw_g (lw_at lw_m12 134 rfl) rfl
theorem q2910 : (Jvm.Cond.methodLink "RoseGuild" (188 : Nat) ({ cls := "java/util/LinkedList", name := "isEmpty", desc := "()Z" } : Jvm.MethodName)) ∈ lw_all := lw_g (lw_at lw_m12 135 rfl) rfl
theorem q2924 : (Jvm.Cond.methodLink "RoseGuild" (197 : Nat) ({ cls := "java/util/LinkedList", name := "iterator", desc := "()Ljava/util/Iterator;" } : Jvm.MethodName)) ∈ lw_all := lw_g (lw_at lw_m12 149 rfl) rfl
theorem q2925 : (Jvm.Cond.interfaceEntry "RoseGuild" (201 : Nat)) ∈ lw_tbl := lw_at lw_m12 150 rfl
theorem q2926 : (Jvm.Cond.methodLink "RoseGuild" (201 : Nat) ({ cls := "java/util/Iterator", name := "hasNext", desc := "()Z" } : Jvm.MethodName)) ∈ lw_all := lw_g (lw_at lw_m12 151 rfl) rfl
theorem q2927 : (Jvm.Cond.interfaceEntry "RoseGuild" (206 : Nat)) ∈ lw_tbl := lw_at lw_m12 152 rfl
theorem q2928 : (Jvm.Cond.methodLink "RoseGuild" (206 : Nat) ({ cls := "java/util/Iterator", name := "next", desc := "()Ljava/lang/Object;" } : Jvm.MethodName)) ∈ lw_all := lw_g (lw_at lw_m12 153 rfl) rfl
theorem q2929 : (Jvm.Cond.classLink "RoseGuild" (209 : Nat) "RoseGuild$Command") ∈ lw_all := lw_g (lw_at lw_m12 154 rfl) rfl
theorem q2930 : (Jvm.Cond.classLink "RoseGuild" (172 : Nat) "RoseGuild$Single") ∈ lw_all := lw_g (lw_at lw_m12 155 rfl) rfl
theorem q2931 : (Jvm.Cond.methodLink "RoseGuild" (211 : Nat) ({ cls := "RoseGuild", name := "execute", desc := "(LRoseGuild$Single;)Z" } : Jvm.MethodName)) ∈ lw_all := lw_g (lw_at lw_m12 156 rfl) rfl
theorem q2932 : (Jvm.Cond.privateMethod ({ cls := "RoseGuild", name := "execute", desc := "(LRoseGuild$Single;)Z" } : Jvm.MethodName)) ∈ lw_tbl := lw_at lw_m12 157 rfl
theorem q2933 : (Jvm.Cond.instanceMethod ({ cls := "RoseGuild", name := "execute", desc := "(LRoseGuild$Single;)Z" } : Jvm.MethodName)) ∈ lw_all := lw_g (lw_at lw_m12 158 rfl) rfl
theorem q2934 : (Jvm.Cond.codeWith ({ cls := "RoseGuild", name := "execute", desc := "(LRoseGuild$Single;)Z" } : Jvm.MethodName) prog_1_method_16_code (3 : Nat) (Option.some Jvm.ClassFile.FieldType.boolean) [((0 : Nat), (9 : Nat), (12 : Nat), (177 : Nat))]) ∈ lw_all := lw_g (lw_at lw_m12 159 rfl) rfl
theorem q2935 : (Jvm.Cond.classLink "RoseGuild" (177 : Nat) "RoseGuild$Problem") ∈ lw_all := lw_g (lw_at lw_m12 160 rfl) rfl
theorem q2936 : (Jvm.Cond.methodLink "RoseGuild" (171 : Nat) ({ cls := "RoseGuild$Single", name := "perform", desc := "(LRoseGuild$Guild;)I" } : Jvm.MethodName)) ∈ lw_all := lw_g (lw_at lw_m12 161 rfl) rfl
theorem q2991 : (Jvm.Cond.laysStatic "RoseGuild" "DEPOT" "LRoseGuild$Point;") ∈ lw_tbl := lw_at lw_m12 216 rfl
theorem q3157 : (Jvm.Cond.classLink "RoseGuild" (183 : Nat) "RoseGuild$Block") ∈ lw_all := lw_g (lw_at lw_m13 142 rfl) rfl
theorem q3159 : (Jvm.Cond.instanceMethod ({ cls := "RoseGuild", name := "errorCode", desc := "()I" } : Jvm.MethodName)) ∈ lw_all := lw_g (lw_at lw_m13 144 rfl) rfl
theorem q3160 : (Jvm.Cond.selects "RoseGuild" ({ cls := "RoseGuild", name := "errorCode", desc := "()I" } : Jvm.MethodName) ({ cls := "RoseGuild", name := "errorCode", desc := "()I" } : Jvm.MethodName)) ∈ lw_all := lw_g (lw_at lw_m13 145 rfl) rfl
theorem q3161 : (Jvm.Cond.code ({ cls := "RoseGuild", name := "errorCode", desc := "()I" } : Jvm.MethodName) prog_1_method_19_code (1 : Nat) (Option.some Jvm.ClassFile.FieldType.int)) ∈ lw_all := lw_g (lw_at lw_m13 146 rfl) rfl
theorem q3163 : (Jvm.Cond.instanceMethod ({ cls := "RoseGuild", name := "errorPosition", desc := "()I" } : Jvm.MethodName)) ∈ lw_all := lw_g (lw_at lw_m13 148 rfl) rfl
theorem q3164 : (Jvm.Cond.selects "RoseGuild" ({ cls := "RoseGuild", name := "errorPosition", desc := "()I" } : Jvm.MethodName) ({ cls := "RoseGuild", name := "errorPosition", desc := "()I" } : Jvm.MethodName)) ∈ lw_all := lw_g (lw_at lw_m13 149 rfl) rfl
theorem q3165 : (Jvm.Cond.code ({ cls := "RoseGuild", name := "errorPosition", desc := "()I" } : Jvm.MethodName) prog_1_method_20_code (1 : Nat) (Option.some Jvm.ClassFile.FieldType.int)) ∈ lw_all := lw_g (lw_at lw_m13 150 rfl) rfl
theorem q3167 : (Jvm.Cond.instanceMethod ({ cls := "RoseGuild", name := "streetCount", desc := "()I" } : Jvm.MethodName)) ∈ lw_all := lw_g (lw_at lw_m13 152 rfl) rfl
theorem q3168 : (Jvm.Cond.selects "RoseGuild" ({ cls := "RoseGuild", name := "streetCount", desc := "()I" } : Jvm.MethodName) ({ cls := "RoseGuild", name := "streetCount", desc := "()I" } : Jvm.MethodName)) ∈ lw_all := lw_g (lw_at lw_m13 153 rfl) rfl
theorem q3169 : (Jvm.Cond.code ({ cls := "RoseGuild", name := "streetCount", desc := "()I" } : Jvm.MethodName) prog_1_method_22_code (1 : Nat) (Option.some Jvm.ClassFile.FieldType.int)) ∈ lw_all := lw_g (lw_at lw_m13 154 rfl) rfl
theorem q3170 : (Jvm.Cond.interfaceEntry "RoseGuild" (105 : Nat)) ∈ lw_tbl := lw_at lw_m13 155 rfl
theorem q3171 : (Jvm.Cond.methodLink "RoseGuild" (105 : Nat) ({ cls := "java/util/List", name := "size", desc := "()I" } : Jvm.MethodName)) ∈ lw_all := lw_g (lw_at lw_m13 156 rfl) rfl
theorem q3173 : (Jvm.Cond.instanceMethod ({ cls := "RoseGuild", name := "findStreet", desc := "()I" } : Jvm.MethodName)) ∈ lw_all := lw_g (lw_at lw_m13 158 rfl) rfl
theorem q3174 : (Jvm.Cond.selects "RoseGuild" ({ cls := "RoseGuild", name := "findStreet", desc := "()I" } : Jvm.MethodName) ({ cls := "RoseGuild", name := "findStreet", desc := "()I" } : Jvm.MethodName)) ∈ lw_all := lw_g (lw_at lw_m13 159 rfl) rfl
theorem q3175 : (Jvm.Cond.code ({ cls := "RoseGuild", name := "findStreet", desc := "()I" } : Jvm.MethodName) prog_1_method_23_code (1 : Nat) (Option.some Jvm.ClassFile.FieldType.int)) ∈ lw_all := lw_g (lw_at lw_m13 160 rfl) rfl
theorem q3176 : (Jvm.Cond.methodLink "RoseGuild" (242 : Nat) ({ cls := "RoseGuild", name := "textInBuffer", desc := "()Ljava/lang/String;" } : Jvm.MethodName)) ∈ lw_all := lw_g (lw_at lw_m13 161 rfl) rfl
theorem q3177 : (Jvm.Cond.privateMethod ({ cls := "RoseGuild", name := "textInBuffer", desc := "()Ljava/lang/String;" } : Jvm.MethodName)) ∈ lw_tbl := lw_at lw_m13 162 rfl
theorem q3178 : (Jvm.Cond.instanceMethod ({ cls := "RoseGuild", name := "textInBuffer", desc := "()Ljava/lang/String;" } : Jvm.MethodName)) ∈ lw_all := lw_g (lw_at lw_m13 163 rfl) rfl
theorem q3179 : (Jvm.Cond.code ({ cls := "RoseGuild", name := "textInBuffer", desc := "()Ljava/lang/String;" } : Jvm.MethodName) prog_1_method_21_code (3 : Nat) (Option.some (Jvm.ClassFile.FieldType.object "java/lang/String"))) ∈ lw_all := lw_g (lw_at lw_m13 164 rfl) rfl
theorem q3180 : (Jvm.Cond.classLink "RoseGuild" (231 : Nat) "java/lang/StringBuilder") ∈ lw_all := lw_g (lw_at lw_m13 165 rfl) rfl
theorem q3181 : (Jvm.Cond.methodLink "RoseGuild" (233 : Nat) ({ cls := "java/lang/StringBuilder", name := "<init>", desc := "()V" } : Jvm.MethodName)) ∈ lw_all := lw_g (lw_at lw_m13 166 rfl) rfl
theorem q3182 : (Jvm.Cond.methodLink "RoseGuild" (234 : Nat) ({ cls := "java/lang/StringBuilder", name := "append", desc := "(C)Ljava/lang/StringBuilder;" } : Jvm.MethodName)) ∈ lw_all := lw_g (lw_at lw_m13 167 rfl) rfl
theorem q3183 : (Jvm.Cond.methodLink "RoseGuild" (238 : Nat) ({ cls := "java/lang/StringBuilder", name := "toString", desc := "()Ljava/lang/String;" } : Jvm.MethodName)) ∈ lw_all := lw_g (lw_at lw_m13 168 rfl) rfl
theorem q3184 : (Jvm.Cond.methodLink "RoseGuild" (245 : Nat) ({ cls := "RoseGuild$Guild", name := "find", desc := "(Ljava/util/List;Ljava/lang/String;)I" } : Jvm.MethodName)) ∈ lw_all := lw_g (lw_at lw_m13 169 rfl) rfl
theorem q3186 : (Jvm.Cond.instanceMethod ({ cls := "RoseGuild", name := "streetAt", desc := "(II)I" } : Jvm.MethodName)) ∈ lw_all := lw_g (lw_at lw_m13 171 rfl) rfl
theorem q3187 : (Jvm.Cond.selects "RoseGuild" ({ cls := "RoseGuild", name := "streetAt", desc := "(II)I" } : Jvm.MethodName) ({ cls := "RoseGuild", name := "streetAt", desc := "(II)I" } : Jvm.MethodName)) ∈ lw_all := lw_g (lw_at lw_m13 172 rfl) rfl
theorem q3188 : (Jvm.Cond.code ({ cls := "RoseGuild", name := "streetAt", desc := "(II)I" } : Jvm.MethodName) prog_1_method_24_code (4 : Nat) (Option.some Jvm.ClassFile.FieldType.int)) ∈ lw_all := lw_g (lw_at lw_m13 173 rfl) rfl
theorem q3189 : (Jvm.Cond.methodLink "RoseGuild" (108 : Nat) ({ cls := "RoseGuild", name := "isBetween", desc := "(III)Z" } : Jvm.MethodName)) ∈ lw_all := lw_g (lw_at lw_m13 174 rfl) rfl
theorem q3190 : (Jvm.Cond.methodLink "RoseGuild" (253 : Nat) ({ cls := "java/util/LinkedHashMap", name := "get", desc := "(Ljava/lang/Object;)Ljava/lang/Object;" } : Jvm.MethodName)) ∈ lw_all := lw_g (lw_at lw_m13 175 rfl) rfl
theorem q3200 : (Jvm.Cond.instanceMethod ({ cls := "RoseGuild", name := "gardenCount", desc := "()I" } : Jvm.MethodName)) ∈ lw_all := lw_g (lw_at lw_m13 185 rfl) rfl
theorem q3201 : (Jvm.Cond.selects "RoseGuild" ({ cls := "RoseGuild", name := "gardenCount", desc := "()I" } : Jvm.MethodName) ({ cls := "RoseGuild", name := "gardenCount", desc := "()I" } : Jvm.MethodName)) ∈ lw_all := lw_g (lw_at lw_m13 186 rfl) rfl
theorem q3202 : (Jvm.Cond.code ({ cls := "RoseGuild", name := "gardenCount", desc := "()I" } : Jvm.MethodName) prog_1_method_29_code (1 : Nat) (Option.some Jvm.ClassFile.FieldType.int)) ∈ lw_all := lw_g (lw_at lw_m13 187 rfl) rfl
theorem q3204 : (Jvm.Cond.instanceMethod ({ cls := "RoseGuild", name := "findGarden", desc := "()I" } : Jvm.MethodName)) ∈ lw_all := lw_g (lw_at lw_m13 189 rfl) rfl
theorem q3205 : (Jvm.Cond.selects "RoseGuild" ({ cls := "RoseGuild", name := "findGarden", desc := "()I" } : Jvm.MethodName) ({ cls := "RoseGuild", name := "findGarden", desc := "()I" } : Jvm.MethodName)) ∈ lw_all := lw_g (lw_at lw_m13 190 rfl) rfl
theorem q3206 : (Jvm.Cond.code ({ cls := "RoseGuild", name := "findGarden", desc := "()I" } : Jvm.MethodName) prog_1_method_30_code (1 : Nat) (Option.some Jvm.ClassFile.FieldType.int)) ∈ lw_all := lw_g (lw_at lw_m13 191 rfl) rfl
theorem q3208 : (Jvm.Cond.instanceMethod ({ cls := "RoseGuild", name := "leadingGarden", desc := "()I" } : Jvm.MethodName)) ∈ lw_all := lw_g (lw_at lw_m13 193 rfl) rfl
theorem q3209 : (Jvm.Cond.selects "RoseGuild" ({ cls := "RoseGuild", name := "leadingGarden", desc := "()I" } : Jvm.MethodName) ({ cls := "RoseGuild", name := "leadingGarden", desc := "()I" } : Jvm.MethodName)) ∈ lw_all := lw_g (lw_at lw_m13 194 rfl) rfl
theorem q3210 : (Jvm.Cond.code ({ cls := "RoseGuild", name := "leadingGarden", desc := "()I" } : Jvm.MethodName) prog_1_method_35_code (1 : Nat) (Option.some Jvm.ClassFile.FieldType.int)) ∈ lw_all := lw_g (lw_at lw_m13 195 rfl) rfl
theorem q3211 : (Jvm.Cond.methodLink "RoseGuild" (299 : Nat) ({ cls := "RoseGuild$Guild", name := "leader", desc := "()I" } : Jvm.MethodName)) ∈ lw_all := lw_g (lw_at lw_m13 196 rfl) rfl
theorem q3213 : (Jvm.Cond.instanceMethod ({ cls := "RoseGuild", name := "cartCount", desc := "()I" } : Jvm.MethodName)) ∈ lw_all := lw_g (lw_at lw_m13 198 rfl) rfl
theorem q3214 : (Jvm.Cond.selects "RoseGuild" ({ cls := "RoseGuild", name := "cartCount", desc := "()I" } : Jvm.MethodName) ({ cls := "RoseGuild", name := "cartCount", desc := "()I" } : Jvm.MethodName)) ∈ lw_all := lw_g (lw_at lw_m13 199 rfl) rfl
theorem q3215 : (Jvm.Cond.code ({ cls := "RoseGuild", name := "cartCount", desc := "()I" } : Jvm.MethodName) prog_1_method_36_code (1 : Nat) (Option.some Jvm.ClassFile.FieldType.int)) ∈ lw_all := lw_g (lw_at lw_m13 200 rfl) rfl
theorem q3217 : (Jvm.Cond.instanceMethod ({ cls := "RoseGuild", name := "night", desc := "()I" } : Jvm.MethodName)) ∈ lw_all := lw_g (lw_at lw_m13 202 rfl) rfl
theorem q3218 : (Jvm.Cond.selects "RoseGuild" ({ cls := "RoseGuild", name := "night", desc := "()I" } : Jvm.MethodName) ({ cls := "RoseGuild", name := "night", desc := "()I" } : Jvm.MethodName)) ∈ lw_all := lw_g (lw_at lw_m13 203 rfl) rfl
theorem q3219 : (Jvm.Cond.code ({ cls := "RoseGuild", name := "night", desc := "()I" } : Jvm.MethodName) prog_1_method_44_code (1 : Nat) (Option.some Jvm.ClassFile.FieldType.int)) ∈ lw_all := lw_g (lw_at lw_m13 204 rfl) rfl
theorem q3221 : (Jvm.Cond.instanceMethod ({ cls := "RoseGuild", name := "balance", desc := "()I" } : Jvm.MethodName)) ∈ lw_all := lw_g (lw_at lw_m13 206 rfl) rfl
theorem q3222 : (Jvm.Cond.selects "RoseGuild" ({ cls := "RoseGuild", name := "balance", desc := "()I" } : Jvm.MethodName) ({ cls := "RoseGuild", name := "balance", desc := "()I" } : Jvm.MethodName)) ∈ lw_all := lw_g (lw_at lw_m13 207 rfl) rfl
theorem q3223 : (Jvm.Cond.code ({ cls := "RoseGuild", name := "balance", desc := "()I" } : Jvm.MethodName) prog_1_method_45_code (1 : Nat) (Option.some Jvm.ClassFile.FieldType.int)) ∈ lw_all := lw_g (lw_at lw_m13 208 rfl) rfl
theorem q3225 : (Jvm.Cond.instanceMethod ({ cls := "RoseGuild", name := "price", desc := "()I" } : Jvm.MethodName)) ∈ lw_all := lw_g (lw_at lw_m13 210 rfl) rfl
theorem q3226 : (Jvm.Cond.selects "RoseGuild" ({ cls := "RoseGuild", name := "price", desc := "()I" } : Jvm.MethodName) ({ cls := "RoseGuild", name := "price", desc := "()I" } : Jvm.MethodName)) ∈ lw_all := lw_g (lw_at lw_m13 211 rfl) rfl
theorem q3227 : (Jvm.Cond.code ({ cls := "RoseGuild", name := "price", desc := "()I" } : Jvm.MethodName) prog_1_method_46_code (1 : Nat) (Option.some Jvm.ClassFile.FieldType.int)) ∈ lw_all := lw_g (lw_at lw_m13 212 rfl) rfl
theorem q3229 : (Jvm.Cond.instanceMethod ({ cls := "RoseGuild", name := "wind", desc := "()I" } : Jvm.MethodName)) ∈ lw_all := lw_g (lw_at lw_m13 214 rfl) rfl
theorem q3230 : (Jvm.Cond.selects "RoseGuild" ({ cls := "RoseGuild", name := "wind", desc := "()I" } : Jvm.MethodName) ({ cls := "RoseGuild", name := "wind", desc := "()I" } : Jvm.MethodName)) ∈ lw_all := lw_g (lw_at lw_m13 215 rfl) rfl
theorem q3231 : (Jvm.Cond.code ({ cls := "RoseGuild", name := "wind", desc := "()I" } : Jvm.MethodName) prog_1_method_47_code (1 : Nat) (Option.some Jvm.ClassFile.FieldType.int)) ∈ lw_all := lw_g (lw_at lw_m13 216 rfl) rfl
theorem q3232 : (Jvm.Cond.methodLink "RoseGuild" (343 : Nat) ({ cls := "RoseGuild$Guild", name := "wind", desc := "()I" } : Jvm.MethodName)) ∈ lw_all := lw_g (lw_at lw_m13 217 rfl) rfl
theorem q3234 : (Jvm.Cond.instanceMethod ({ cls := "RoseGuild", name := "deliveryCount", desc := "()I" } : Jvm.MethodName)) ∈ lw_all := lw_g (lw_at lw_m13 219 rfl) rfl
theorem q3235 : (Jvm.Cond.selects "RoseGuild" ({ cls := "RoseGuild", name := "deliveryCount", desc := "()I" } : Jvm.MethodName) ({ cls := "RoseGuild", name := "deliveryCount", desc := "()I" } : Jvm.MethodName)) ∈ lw_all := lw_g (lw_at lw_m13 220 rfl) rfl
theorem q3236 : (Jvm.Cond.code ({ cls := "RoseGuild", name := "deliveryCount", desc := "()I" } : Jvm.MethodName) prog_1_method_49_code (1 : Nat) (Option.some Jvm.ClassFile.FieldType.int)) ∈ lw_all := lw_g (lw_at lw_m13 221 rfl) rfl
theorem q3238 : (Jvm.Cond.instanceMethod ({ cls := "RoseGuild", name := "lateCount", desc := "()I" } : Jvm.MethodName)) ∈ lw_all := lw_g (lw_at lw_m13 223 rfl) rfl
theorem q3239 : (Jvm.Cond.selects "RoseGuild" ({ cls := "RoseGuild", name := "lateCount", desc := "()I" } : Jvm.MethodName) ({ cls := "RoseGuild", name := "lateCount", desc := "()I" } : Jvm.MethodName)) ∈ lw_all := lw_g (lw_at lw_m13 224 rfl) rfl
theorem q3240 : (Jvm.Cond.code ({ cls := "RoseGuild", name := "lateCount", desc := "()I" } : Jvm.MethodName) prog_1_method_50_code (1 : Nat) (Option.some Jvm.ClassFile.FieldType.int)) ∈ lw_all := lw_g (lw_at lw_m13 225 rfl) rfl
theorem q3242 : (Jvm.Cond.instanceMethod ({ cls := "RoseGuild", name := "meanLoad", desc := "()D" } : Jvm.MethodName)) ∈ lw_all := lw_g (lw_at lw_m13 227 rfl) rfl
theorem q3243 : (Jvm.Cond.selects "RoseGuild" ({ cls := "RoseGuild", name := "meanLoad", desc := "()D" } : Jvm.MethodName) ({ cls := "RoseGuild", name := "meanLoad", desc := "()D" } : Jvm.MethodName)) ∈ lw_all := lw_g (lw_at lw_m13 228 rfl) rfl
theorem q3244 : (Jvm.Cond.code ({ cls := "RoseGuild", name := "meanLoad", desc := "()D" } : Jvm.MethodName) prog_1_method_51_code (1 : Nat) (Option.some Jvm.ClassFile.FieldType.double)) ∈ lw_all := lw_g (lw_at lw_m13 229 rfl) rfl
theorem q3246 : (Jvm.Cond.instanceMethod ({ cls := "RoseGuild", name := "contradictions", desc := "()I" } : Jvm.MethodName)) ∈ lw_all := lw_g (lw_at lw_m13 231 rfl) rfl
theorem q3247 : (Jvm.Cond.selects "RoseGuild" ({ cls := "RoseGuild", name := "contradictions", desc := "()I" } : Jvm.MethodName) ({ cls := "RoseGuild", name := "contradictions", desc := "()I" } : Jvm.MethodName)) ∈ lw_all := lw_g (lw_at lw_m13 232 rfl) rfl
theorem q3248 : (Jvm.Cond.code ({ cls := "RoseGuild", name := "contradictions", desc := "()I" } : Jvm.MethodName) prog_1_method_53_code (1 : Nat) (Option.some Jvm.ClassFile.FieldType.int)) ∈ lw_all := lw_g (lw_at lw_m13 233 rfl) rfl
theorem q3249 : (Jvm.Cond.methodLink "RoseGuild" (362 : Nat) ({ cls := "RoseGuild$Guild", name := "contradictions", desc := "()I" } : Jvm.MethodName)) ∈ lw_all := lw_g (lw_at lw_m13 234 rfl) rfl
theorem q3255 : (Jvm.Cond.instanceMethod ({ cls := "RoseGuild", name := "nextWinner", desc := "()I" } : Jvm.MethodName)) ∈ lw_all := lw_g (lw_at lw_m14 0 rfl) rfl
theorem q3256 : (Jvm.Cond.selects "RoseGuild" ({ cls := "RoseGuild", name := "nextWinner", desc := "()I" } : Jvm.MethodName) ({ cls := "RoseGuild", name := "nextWinner", desc := "()I" } : Jvm.MethodName)) ∈ lw_all := lw_g (lw_at lw_m14 1 rfl) rfl
theorem q3257 : (Jvm.Cond.code ({ cls := "RoseGuild", name := "nextWinner", desc := "()I" } : Jvm.MethodName) prog_1_method_58_code (3 : Nat) (Option.some Jvm.ClassFile.FieldType.int)) ∈ lw_all := lw_g (lw_at lw_m14 2 rfl) rfl
theorem q3258 : (Jvm.Cond.methodLink "RoseGuild" (365 : Nat) ({ cls := "RoseGuild$Guild", name := "after", desc := "(I)LRoseGuild$Guild;" } : Jvm.MethodName)) ∈ lw_all := lw_g (lw_at lw_m14 3 rfl) rfl
theorem q3263 : (Jvm.Cond.interfaceEntry "RoseGuild" (116 : Nat)) ∈ lw_tbl := lw_at lw_m14 8 rfl
theorem q3264 : (Jvm.Cond.methodLink "RoseGuild" (116 : Nat) ({ cls := "java/util/List", name := "get", desc := "(I)Ljava/lang/Object;" } : Jvm.MethodName)) ∈ lw_all := lw_g (lw_at lw_m14 9 rfl) rfl
theorem q3266 : (Jvm.Cond.instanceMethod ({ cls := "RoseGuild", name := "writeContracts", desc := "()I" } : Jvm.MethodName)) ∈ lw_all := lw_g (lw_at lw_m14 11 rfl) rfl
theorem q3267 : (Jvm.Cond.selects "RoseGuild" ({ cls := "RoseGuild", name := "writeContracts", desc := "()I" } : Jvm.MethodName) ({ cls := "RoseGuild", name := "writeContracts", desc := "()I" } : Jvm.MethodName)) ∈ lw_all := lw_g (lw_at lw_m14 12 rfl) rfl
theorem q3268 : (Jvm.Cond.code ({ cls := "RoseGuild", name := "writeContracts", desc := "()I" } : Jvm.MethodName) prog_1_method_64_code (1 : Nat) (Option.some Jvm.ClassFile.FieldType.int)) ∈ lw_all := lw_g (lw_at lw_m14 13 rfl) rfl
theorem q3269 : (Jvm.Cond.methodLink "RoseGuild" (393 : Nat) ({ cls := "RoseGuild$Guild", name := "contractsInText", desc := "()Ljava/lang/String;" } : Jvm.MethodName)) ∈ lw_all := lw_g (lw_at lw_m14 14 rfl) rfl
theorem q3284 : (Jvm.Cond.methodLink "RoseGuild" (396 : Nat) ({ cls := "java/lang/String", name := "length", desc := "()I" } : Jvm.MethodName)) ∈ lw_all := lw_g (lw_at lw_m14 29 rfl) rfl
theorem q3286 : (Jvm.Cond.instanceMethod ({ cls := "RoseGuild", name := "writeDeliveries", desc := "()I" } : Jvm.MethodName)) ∈ lw_all := lw_g (lw_at lw_m14 31 rfl) rfl
theorem q3287 : (Jvm.Cond.selects "RoseGuild" ({ cls := "RoseGuild", name := "writeDeliveries", desc := "()I" } : Jvm.MethodName) ({ cls := "RoseGuild", name := "writeDeliveries", desc := "()I" } : Jvm.MethodName)) ∈ lw_all := lw_g (lw_at lw_m14 32 rfl) rfl
theorem q3288 : (Jvm.Cond.code ({ cls := "RoseGuild", name := "writeDeliveries", desc := "()I" } : Jvm.MethodName) prog_1_method_65_code (1 : Nat) (Option.some Jvm.ClassFile.FieldType.int)) ∈ lw_all := lw_g (lw_at lw_m14 33 rfl) rfl
theorem q3289 : (Jvm.Cond.methodLink "RoseGuild" (401 : Nat) ({ cls := "RoseGuild$Guild", name := "deliveriesInText", desc := "()Ljava/lang/String;" } : Jvm.MethodName)) ∈ lw_all := lw_g (lw_at lw_m14 34 rfl) rfl
theorem q3296 : (Jvm.Cond.instanceMethod ({ cls := "RoseGuild", name := "outputByte", desc := "(I)I" } : Jvm.MethodName)) ∈ lw_all := lw_g (lw_at lw_m14 41 rfl) rfl
theorem q3297 : (Jvm.Cond.selects "RoseGuild" ({ cls := "RoseGuild", name := "outputByte", desc := "(I)I" } : Jvm.MethodName) ({ cls := "RoseGuild", name := "outputByte", desc := "(I)I" } : Jvm.MethodName)) ∈ lw_all := lw_g (lw_at lw_m14 42 rfl) rfl
theorem q3298 : (Jvm.Cond.code ({ cls := "RoseGuild", name := "outputByte", desc := "(I)I" } : Jvm.MethodName) prog_1_method_66_code (2 : Nat) (Option.some Jvm.ClassFile.FieldType.int)) ∈ lw_all := lw_g (lw_at lw_m14 43 rfl) rfl
theorem q3299 : (Jvm.Cond.methodLink "RoseGuild" (404 : Nat) ({ cls := "java/lang/String", name := "charAt", desc := "(I)C" } : Jvm.MethodName)) ∈ lw_all := lw_g (lw_at lw_m14 44 rfl) rfl
theorem q3301 : (Jvm.Cond.instanceMethod ({ cls := "RoseGuild", name := "undoCount", desc := "()I" } : Jvm.MethodName)) ∈ lw_all := lw_g (lw_at lw_m14 46 rfl) rfl
theorem q3302 : (Jvm.Cond.selects "RoseGuild" ({ cls := "RoseGuild", name := "undoCount", desc := "()I" } : Jvm.MethodName) ({ cls := "RoseGuild", name := "undoCount", desc := "()I" } : Jvm.MethodName)) ∈ lw_all := lw_g (lw_at lw_m14 47 rfl) rfl
theorem q3303 : (Jvm.Cond.code ({ cls := "RoseGuild", name := "undoCount", desc := "()I" } : Jvm.MethodName) prog_1_method_67_code (1 : Nat) (Option.some Jvm.ClassFile.FieldType.int)) ∈ lw_all := lw_g (lw_at lw_m14 48 rfl) rfl
theorem q3309 : (Jvm.Cond.instanceMethod ({ cls := "RoseGuild", name := "append", desc := "(IIIII)I" } : Jvm.MethodName)) ∈ lw_all := lw_g (lw_at lw_m14 54 rfl) rfl
theorem q3310 : (Jvm.Cond.selects "RoseGuild" ({ cls := "RoseGuild", name := "append", desc := "(IIIII)I" } : Jvm.MethodName) ({ cls := "RoseGuild", name := "append", desc := "(IIIII)I" } : Jvm.MethodName)) ∈ lw_all := lw_g (lw_at lw_m14 55 rfl) rfl
theorem q3311 : (Jvm.Cond.code ({ cls := "RoseGuild", name := "append", desc := "(IIIII)I" } : Jvm.MethodName) prog_1_method_12_code (6 : Nat) (Option.some Jvm.ClassFile.FieldType.int)) ∈ lw_all := lw_g (lw_at lw_m14 56 rfl) rfl
theorem q3312 : (Jvm.Cond.methodLink "RoseGuild" (131 : Nat) ({ cls := "RoseGuild", name := "bytesIn", desc := "([I)I" } : Jvm.MethodName)) ∈ lw_all := lw_g (lw_at lw_m14 57 rfl) rfl
theorem q3313 : (Jvm.Cond.static ({ cls := "RoseGuild", name := "bytesIn", desc := "([I)I" } : Jvm.MethodName)) ∈ lw_all := lw_g (lw_at lw_m14 58 rfl) rfl
theorem q3314 : (Jvm.Cond.code ({ cls := "RoseGuild", name := "bytesIn", desc := "([I)I" } : Jvm.MethodName) prog_1_method_10_code (7 : Nat) (Option.some Jvm.ClassFile.FieldType.int)) ∈ lw_all := lw_g (lw_at lw_m14 59 rfl) rfl
theorem q3315 : (Jvm.Cond.methodLink "RoseGuild" (135 : Nat) ({ cls := "RoseGuild", name := "requireState", desc := "(Z)V" } : Jvm.MethodName)) ∈ lw_all := lw_g (lw_at lw_m14 60 rfl) rfl
theorem q3316 : (Jvm.Cond.static ({ cls := "RoseGuild", name := "requireState", desc := "(Z)V" } : Jvm.MethodName)) ∈ lw_all := lw_g (lw_at lw_m14 61 rfl) rfl
theorem q3317 : (Jvm.Cond.code ({ cls := "RoseGuild", name := "requireState", desc := "(Z)V" } : Jvm.MethodName) prog_1_method_6_code (1 : Nat) (Option.none : Option Jvm.ClassFile.FieldType)) ∈ lw_all := lw_g (lw_at lw_m14 62 rfl) rfl
theorem q3318 : (Jvm.Cond.classLink "RoseGuild" (98 : Nat) "java/lang/IllegalStateException") ∈ lw_all := lw_g (lw_at lw_m14 63 rfl) rfl
theorem q3319 : (Jvm.Cond.methodLink "RoseGuild" (100 : Nat) ({ cls := "java/lang/IllegalStateException", name := "<init>", desc := "()V" } : Jvm.MethodName)) ∈ lw_all := lw_g (lw_at lw_m14 64 rfl) rfl
theorem q3323 : (Jvm.Cond.methodLink "RoseGuild" (138 : Nat) ({ cls := "RoseGuild", name := "appendAll", desc := "([I)V" } : Jvm.MethodName)) ∈ lw_all := lw_g (lw_at lw_m14 68 rfl) rfl
theorem q3324 : (Jvm.Cond.privateMethod ({ cls := "RoseGuild", name := "appendAll", desc := "([I)V" } : Jvm.MethodName)) ∈ lw_tbl := lw_at lw_m14 69 rfl
theorem q3325 : (Jvm.Cond.instanceMethod ({ cls := "RoseGuild", name := "appendAll", desc := "([I)V" } : Jvm.MethodName)) ∈ lw_all := lw_g (lw_at lw_m14 70 rfl) rfl
theorem q3326 : (Jvm.Cond.code ({ cls := "RoseGuild", name := "appendAll", desc := "([I)V" } : Jvm.MethodName) prog_1_method_11_code (8 : Nat) (Option.none : Option Jvm.ClassFile.FieldType)) ∈ lw_all := lw_g (lw_at lw_m14 71 rfl) rfl
theorem q3332 : (Jvm.Cond.instanceMethod ({ cls := "RoseGuild", name := "truncate", desc := "(I)I" } : Jvm.MethodName)) ∈ lw_all := lw_g (lw_at lw_m14 77 rfl) rfl
theorem q3333 : (Jvm.Cond.selects "RoseGuild" ({ cls := "RoseGuild", name := "truncate", desc := "(I)I" } : Jvm.MethodName) ({ cls := "RoseGuild", name := "truncate", desc := "(I)I" } : Jvm.MethodName)) ∈ lw_all := lw_g (lw_at lw_m14 78 rfl) rfl
theorem q3334 : (Jvm.Cond.code ({ cls := "RoseGuild", name := "truncate", desc := "(I)I" } : Jvm.MethodName) prog_1_method_13_code (3 : Nat) (Option.some Jvm.ClassFile.FieldType.int)) ∈ lw_all := lw_g (lw_at lw_m14 79 rfl) rfl
theorem q3335 : (Jvm.Cond.methodLink "RoseGuild" (142 : Nat) ({ cls := "RoseGuild", name := "requireArgument", desc := "(Z)V" } : Jvm.MethodName)) ∈ lw_all := lw_g (lw_at lw_m14 80 rfl) rfl
theorem q3336 : (Jvm.Cond.static ({ cls := "RoseGuild", name := "requireArgument", desc := "(Z)V" } : Jvm.MethodName)) ∈ lw_all := lw_g (lw_at lw_m14 81 rfl) rfl
theorem q3337 : (Jvm.Cond.code ({ cls := "RoseGuild", name := "requireArgument", desc := "(Z)V" } : Jvm.MethodName) prog_1_method_5_code (1 : Nat) (Option.none : Option Jvm.ClassFile.FieldType)) ∈ lw_all := lw_g (lw_at lw_m14 82 rfl) rfl
theorem q3338 : (Jvm.Cond.classLink "RoseGuild" (95 : Nat) "java/lang/IllegalArgumentException") ∈ lw_all := lw_g (lw_at lw_m14 83 rfl) rfl
theorem q3339 : (Jvm.Cond.methodLink "RoseGuild" (97 : Nat) ({ cls := "java/lang/IllegalArgumentException", name := "<init>", desc := "()V" } : Jvm.MethodName)) ∈ lw_all := lw_g (lw_at lw_m14 84 rfl) rfl
theorem q3363 : (Jvm.Cond.instanceMethod ({ cls := "RoseGuild", name := "bins", desc := "(I)I" } : Jvm.MethodName)) ∈ lw_all := lw_g (lw_at lw_m14 108 rfl) rfl
theorem q3364 : (Jvm.Cond.selects "RoseGuild" ({ cls := "RoseGuild", name := "bins", desc := "(I)I" } : Jvm.MethodName) ({ cls := "RoseGuild", name := "bins", desc := "(I)I" } : Jvm.MethodName)) ∈ lw_all := lw_g (lw_at lw_m14 109 rfl) rfl
theorem q3365 : (Jvm.Cond.code ({ cls := "RoseGuild", name := "bins", desc := "(I)I" } : Jvm.MethodName) prog_1_method_25_code (2 : Nat) (Option.some Jvm.ClassFile.FieldType.int)) ∈ lw_all := lw_g (lw_at lw_m14 110 rfl) rfl
theorem q3366 : (Jvm.Cond.methodLink "RoseGuild" (261 : Nat) ({ cls := "RoseGuild", name := "streetWith", desc := "(I)LRoseGuild$Street;" } : Jvm.MethodName)) ∈ lw_all := lw_g (lw_at lw_m14 111 rfl) rfl
theorem q3367 : (Jvm.Cond.privateMethod ({ cls := "RoseGuild", name := "streetWith", desc := "(I)LRoseGuild$Street;" } : Jvm.MethodName)) ∈ lw_tbl := lw_at lw_m14 112 rfl
theorem q3368 : (Jvm.Cond.instanceMethod ({ cls := "RoseGuild", name := "streetWith", desc := "(I)LRoseGuild$Street;" } : Jvm.MethodName)) ∈ lw_all := lw_g (lw_at lw_m14 113 rfl) rfl
theorem q3369 : (Jvm.Cond.code ({ cls := "RoseGuild", name := "streetWith", desc := "(I)LRoseGuild$Street;" } : Jvm.MethodName) prog_1_method_7_code (2 : Nat) (Option.some (Jvm.ClassFile.FieldType.object "RoseGuild$Street"))) ∈ lw_all := lw_g (lw_at lw_m14 114 rfl) rfl
theorem q3370 : (Jvm.Cond.methodLink "RoseGuild" (112 : Nat) ({ cls := "RoseGuild", name := "requireIndex", desc := "(Z)V" } : Jvm.MethodName)) ∈ lw_all := lw_g (lw_at lw_m14 115 rfl) rfl
theorem q3371 : (Jvm.Cond.static ({ cls := "RoseGuild", name := "requireIndex", desc := "(Z)V" } : Jvm.MethodName)) ∈ lw_all := lw_g (lw_at lw_m14 116 rfl) rfl
theorem q3372 : (Jvm.Cond.code ({ cls := "RoseGuild", name := "requireIndex", desc := "(Z)V" } : Jvm.MethodName) prog_1_method_4_code (1 : Nat) (Option.none : Option Jvm.ClassFile.FieldType)) ∈ lw_all := lw_g (lw_at lw_m14 117 rfl) rfl
theorem q3373 : (Jvm.Cond.classLink "RoseGuild" (92 : Nat) "java/lang/IndexOutOfBoundsException") ∈ lw_all := lw_g (lw_at lw_m14 118 rfl) rfl
theorem q3374 : (Jvm.Cond.methodLink "RoseGuild" (94 : Nat) ({ cls := "java/lang/IndexOutOfBoundsException", name := "<init>", desc := "()V" } : Jvm.MethodName)) ∈ lw_all := lw_g (lw_at lw_m14 119 rfl) rfl
theorem q3382 : (Jvm.Cond.instanceMethod ({ cls := "RoseGuild", name := "spilled", desc := "(I)I" } : Jvm.MethodName)) ∈ lw_all := lw_g (lw_at lw_m14 127 rfl) rfl
theorem q3383 : (Jvm.Cond.selects "RoseGuild" ({ cls := "RoseGuild", name := "spilled", desc := "(I)I" } : Jvm.MethodName) ({ cls := "RoseGuild", name := "spilled", desc := "(I)I" } : Jvm.MethodName)) ∈ lw_all := lw_g (lw_at lw_m14 128 rfl) rfl
theorem q3384 : (Jvm.Cond.code ({ cls := "RoseGuild", name := "spilled", desc := "(I)I" } : Jvm.MethodName) prog_1_method_26_code (2 : Nat) (Option.some Jvm.ClassFile.FieldType.int)) ∈ lw_all := lw_g (lw_at lw_m14 129 rfl) rfl
theorem q3389 : (Jvm.Cond.instanceMethod ({ cls := "RoseGuild", name := "complaints", desc := "(I)I" } : Jvm.MethodName)) ∈ lw_all := lw_g (lw_at lw_m14 134 rfl) rfl
theorem q3390 : (Jvm.Cond.selects "RoseGuild" ({ cls := "RoseGuild", name := "complaints", desc := "(I)I" } : Jvm.MethodName) ({ cls := "RoseGuild", name := "complaints", desc := "(I)I" } : Jvm.MethodName)) ∈ lw_all := lw_g (lw_at lw_m14 135 rfl) rfl
theorem q3391 : (Jvm.Cond.code ({ cls := "RoseGuild", name := "complaints", desc := "(I)I" } : Jvm.MethodName) prog_1_method_27_code (2 : Nat) (Option.some Jvm.ClassFile.FieldType.int)) ∈ lw_all := lw_g (lw_at lw_m14 136 rfl) rfl
theorem q3396 : (Jvm.Cond.instanceMethod ({ cls := "RoseGuild", name := "wasServed", desc := "(I)Z" } : Jvm.MethodName)) ∈ lw_all := lw_g (lw_at lw_m14 141 rfl) rfl
theorem q3397 : (Jvm.Cond.selects "RoseGuild" ({ cls := "RoseGuild", name := "wasServed", desc := "(I)Z" } : Jvm.MethodName) ({ cls := "RoseGuild", name := "wasServed", desc := "(I)Z" } : Jvm.MethodName)) ∈ lw_all := lw_g (lw_at lw_m14 142 rfl) rfl
theorem q3398 : (Jvm.Cond.code ({ cls := "RoseGuild", name := "wasServed", desc := "(I)Z" } : Jvm.MethodName) prog_1_method_28_code (3 : Nat) (Option.some Jvm.ClassFile.FieldType.boolean)) ∈ lw_all := lw_g (lw_at lw_m14 143 rfl) rfl
theorem q3399 : (Jvm.Cond.methodLink "RoseGuild" (278 : Nat) ({ cls := "java/util/BitSet", name := "get", desc := "(I)Z" } : Jvm.MethodName)) ∈ lw_all := lw_g (lw_at lw_m14 144 rfl) rfl
theorem q3407 : (Jvm.Cond.instanceMethod ({ cls := "RoseGuild", name := "stock", desc := "(I)I" } : Jvm.MethodName)) ∈ lw_all := lw_g (lw_at lw_m14 152 rfl) rfl
theorem q3408 : (Jvm.Cond.selects "RoseGuild" ({ cls := "RoseGuild", name := "stock", desc := "(I)I" } : Jvm.MethodName) ({ cls := "RoseGuild", name := "stock", desc := "(I)I" } : Jvm.MethodName)) ∈ lw_all := lw_g (lw_at lw_m14 153 rfl) rfl
theorem q3409 : (Jvm.Cond.code ({ cls := "RoseGuild", name := "stock", desc := "(I)I" } : Jvm.MethodName) prog_1_method_31_code (2 : Nat) (Option.some Jvm.ClassFile.FieldType.int)) ∈ lw_all := lw_g (lw_at lw_m14 154 rfl) rfl
theorem q3410 : (Jvm.Cond.methodLink "RoseGuild" (283 : Nat) ({ cls := "RoseGuild", name := "gardenWith", desc := "(I)LRoseGuild$Garden;" } : Jvm.MethodName)) ∈ lw_all := lw_g (lw_at lw_m14 155 rfl) rfl
theorem q3411 : (Jvm.Cond.privateMethod ({ cls := "RoseGuild", name := "gardenWith", desc := "(I)LRoseGuild$Garden;" } : Jvm.MethodName)) ∈ lw_tbl := lw_at lw_m14 156 rfl
theorem q3412 : (Jvm.Cond.instanceMethod ({ cls := "RoseGuild", name := "gardenWith", desc := "(I)LRoseGuild$Garden;" } : Jvm.MethodName)) ∈ lw_all := lw_g (lw_at lw_m14 157 rfl) rfl
theorem q3413 : (Jvm.Cond.code ({ cls := "RoseGuild", name := "gardenWith", desc := "(I)LRoseGuild$Garden;" } : Jvm.MethodName) prog_1_method_8_code (2 : Nat) (Option.some (Jvm.ClassFile.FieldType.object "RoseGuild$Garden"))) ∈ lw_all := lw_g (lw_at lw_m14 158 rfl) rfl
theorem q3418 : (Jvm.Cond.instanceMethod ({ cls := "RoseGuild", name := "petals", desc := "(I)I" } : Jvm.MethodName)) ∈ lw_all := lw_g (lw_at lw_m14 163 rfl) rfl
theorem q3419 : (Jvm.Cond.selects "RoseGuild" ({ cls := "RoseGuild", name := "petals", desc := "(I)I" } : Jvm.MethodName) ({ cls := "RoseGuild", name := "petals", desc := "(I)I" } : Jvm.MethodName)) ∈ lw_all := lw_g (lw_at lw_m14 164 rfl) rfl
theorem q3420 : (Jvm.Cond.code ({ cls := "RoseGuild", name := "petals", desc := "(I)I" } : Jvm.MethodName) prog_1_method_32_code (2 : Nat) (Option.some Jvm.ClassFile.FieldType.int)) ∈ lw_all := lw_g (lw_at lw_m14 165 rfl) rfl
theorem q3425 : (Jvm.Cond.instanceMethod ({ cls := "RoseGuild", name := "rotted", desc := "(I)I" } : Jvm.MethodName)) ∈ lw_all := lw_g (lw_at lw_m14 170 rfl) rfl
theorem q3426 : (Jvm.Cond.selects "RoseGuild" ({ cls := "RoseGuild", name := "rotted", desc := "(I)I" } : Jvm.MethodName) ({ cls := "RoseGuild", name := "rotted", desc := "(I)I" } : Jvm.MethodName)) ∈ lw_all := lw_g (lw_at lw_m14 171 rfl) rfl
theorem q3427 : (Jvm.Cond.code ({ cls := "RoseGuild", name := "rotted", desc := "(I)I" } : Jvm.MethodName) prog_1_method_33_code (2 : Nat) (Option.some Jvm.ClassFile.FieldType.int)) ∈ lw_all := lw_g (lw_at lw_m14 172 rfl) rfl
theorem q3432 : (Jvm.Cond.instanceMethod ({ cls := "RoseGuild", name := "prizes", desc := "(I)I" } : Jvm.MethodName)) ∈ lw_all := lw_g (lw_at lw_m14 177 rfl) rfl
theorem q3433 : (Jvm.Cond.selects "RoseGuild" ({ cls := "RoseGuild", name := "prizes", desc := "(I)I" } : Jvm.MethodName) ({ cls := "RoseGuild", name := "prizes", desc := "(I)I" } : Jvm.MethodName)) ∈ lw_all := lw_g (lw_at lw_m14 178 rfl) rfl
theorem q3434 : (Jvm.Cond.code ({ cls := "RoseGuild", name := "prizes", desc := "(I)I" } : Jvm.MethodName) prog_1_method_34_code (2 : Nat) (Option.some Jvm.ClassFile.FieldType.int)) ∈ lw_all := lw_g (lw_at lw_m14 179 rfl) rfl
theorem q3439 : (Jvm.Cond.instanceMethod ({ cls := "RoseGuild", name := "contractStreet", desc := "(I)I" } : Jvm.MethodName)) ∈ lw_all := lw_g (lw_at lw_m14 184 rfl) rfl
theorem q3440 : (Jvm.Cond.selects "RoseGuild" ({ cls := "RoseGuild", name := "contractStreet", desc := "(I)I" } : Jvm.MethodName) ({ cls := "RoseGuild", name := "contractStreet", desc := "(I)I" } : Jvm.MethodName)) ∈ lw_all := lw_g (lw_at lw_m14 185 rfl) rfl
theorem q3441 : (Jvm.Cond.code ({ cls := "RoseGuild", name := "contractStreet", desc := "(I)I" } : Jvm.MethodName) prog_1_method_37_code (3 : Nat) (Option.some Jvm.ClassFile.FieldType.int)) ∈ lw_all := lw_g (lw_at lw_m14 186 rfl) rfl
theorem q3442 : (Jvm.Cond.methodLink "RoseGuild" (302 : Nat) ({ cls := "RoseGuild", name := "cartWith", desc := "(I)LRoseGuild$Cart;" } : Jvm.MethodName)) ∈ lw_all := lw_g (lw_at lw_m14 187 rfl) rfl
theorem q3443 : (Jvm.Cond.privateMethod ({ cls := "RoseGuild", name := "cartWith", desc := "(I)LRoseGuild$Cart;" } : Jvm.MethodName)) ∈ lw_tbl := lw_at lw_m14 188 rfl
theorem q3444 : (Jvm.Cond.instanceMethod ({ cls := "RoseGuild", name := "cartWith", desc := "(I)LRoseGuild$Cart;" } : Jvm.MethodName)) ∈ lw_all := lw_g (lw_at lw_m14 189 rfl) rfl
theorem q3445 : (Jvm.Cond.code ({ cls := "RoseGuild", name := "cartWith", desc := "(I)LRoseGuild$Cart;" } : Jvm.MethodName) prog_1_method_9_code (2 : Nat) (Option.some (Jvm.ClassFile.FieldType.object "RoseGuild$Cart"))) ∈ lw_all := lw_g (lw_at lw_m14 190 rfl) rfl
theorem q3446 : (Jvm.Cond.classLink "RoseGuild" (126 : Nat) "RoseGuild$Cart") ∈ lw_all := lw_g (lw_at lw_m14 191 rfl) rfl
theorem q3451 : (Jvm.Cond.instanceMethod ({ cls := "RoseGuild", name := "contractGarden", desc := "(I)I" } : Jvm.MethodName)) ∈ lw_all := lw_g (lw_at lw_m14 196 rfl) rfl
theorem q3452 : (Jvm.Cond.selects "RoseGuild" ({ cls := "RoseGuild", name := "contractGarden", desc := "(I)I" } : Jvm.MethodName) ({ cls := "RoseGuild", name := "contractGarden", desc := "(I)I" } : Jvm.MethodName)) ∈ lw_all := lw_g (lw_at lw_m14 197 rfl) rfl
theorem q3453 : (Jvm.Cond.code ({ cls := "RoseGuild", name := "contractGarden", desc := "(I)I" } : Jvm.MethodName) prog_1_method_38_code (3 : Nat) (Option.some Jvm.ClassFile.FieldType.int)) ∈ lw_all := lw_g (lw_at lw_m14 198 rfl) rfl
theorem q3458 : (Jvm.Cond.instanceMethod ({ cls := "RoseGuild", name := "nightsLeft", desc := "(I)I" } : Jvm.MethodName)) ∈ lw_all := lw_g (lw_at lw_m14 203 rfl) rfl
theorem q3459 : (Jvm.Cond.selects "RoseGuild" ({ cls := "RoseGuild", name := "nightsLeft", desc := "(I)I" } : Jvm.MethodName) ({ cls := "RoseGuild", name := "nightsLeft", desc := "(I)I" } : Jvm.MethodName)) ∈ lw_all := lw_g (lw_at lw_m14 204 rfl) rfl
theorem q3460 : (Jvm.Cond.code ({ cls := "RoseGuild", name := "nightsLeft", desc := "(I)I" } : Jvm.MethodName) prog_1_method_39_code (3 : Nat) (Option.some Jvm.ClassFile.FieldType.int)) ∈ lw_all := lw_g (lw_at lw_m14 205 rfl) rfl
theorem q3465 : (Jvm.Cond.instanceMethod ({ cls := "RoseGuild", name := "hoursNeeded", desc := "(III)I" } : Jvm.MethodName)) ∈ lw_all := lw_g (lw_at lw_m14 210 rfl) rfl
theorem q3466 : (Jvm.Cond.selects "RoseGuild" ({ cls := "RoseGuild", name := "hoursNeeded", desc := "(III)I" } : Jvm.MethodName) ({ cls := "RoseGuild", name := "hoursNeeded", desc := "(III)I" } : Jvm.MethodName)) ∈ lw_all := lw_g (lw_at lw_m14 211 rfl) rfl
theorem q3467 : (Jvm.Cond.code ({ cls := "RoseGuild", name := "hoursNeeded", desc := "(III)I" } : Jvm.MethodName) prog_1_method_40_code (6 : Nat) (Option.some Jvm.ClassFile.FieldType.int)) ∈ lw_all := lw_g (lw_at lw_m14 212 rfl) rfl
theorem q3468 : (Jvm.Cond.methodLink "RoseGuild" (321 : Nat) ({ cls := "RoseGuild$Cart", name := "hours", desc := "(LRoseGuild$Place;LRoseGuild$Place;)I" } : Jvm.MethodName)) ∈ lw_all := lw_g (lw_at lw_m14 213 rfl) rfl
theorem q3473 : (Jvm.Cond.instanceMethod ({ cls := "RoseGuild", name := "nextLoad", desc := "(I)I" } : Jvm.MethodName)) ∈ lw_all := lw_g (lw_at lw_m14 218 rfl) rfl
theorem q3474 : (Jvm.Cond.selects "RoseGuild" ({ cls := "RoseGuild", name := "nextLoad", desc := "(I)I" } : Jvm.MethodName) ({ cls := "RoseGuild", name := "nextLoad", desc := "(I)I" } : Jvm.MethodName)) ∈ lw_all := lw_g (lw_at lw_m14 219 rfl) rfl
theorem q3475 : (Jvm.Cond.code ({ cls := "RoseGuild", name := "nextLoad", desc := "(I)I" } : Jvm.MethodName) prog_1_method_41_code (2 : Nat) (Option.some Jvm.ClassFile.FieldType.int)) ∈ lw_all := lw_g (lw_at lw_m14 220 rfl) rfl
theorem q3476 : (Jvm.Cond.methodLink "RoseGuild" (325 : Nat) ({ cls := "RoseGuild$Guild", name := "nextLoad", desc := "(LRoseGuild$Cart;)I" } : Jvm.MethodName)) ∈ lw_all := lw_g (lw_at lw_m14 221 rfl) rfl
theorem q3485 : (Jvm.Cond.instanceMethod ({ cls := "RoseGuild", name := "outlook", desc := "(I)I" } : Jvm.MethodName)) ∈ lw_all := lw_g (lw_at lw_m14 230 rfl) rfl
theorem q3486 : (Jvm.Cond.selects "RoseGuild" ({ cls := "RoseGuild", name := "outlook", desc := "(I)I" } : Jvm.MethodName) ({ cls := "RoseGuild", name := "outlook", desc := "(I)I" } : Jvm.MethodName)) ∈ lw_all := lw_g (lw_at lw_m14 231 rfl) rfl
theorem q3487 : (Jvm.Cond.code ({ cls := "RoseGuild", name := "outlook", desc := "(I)I" } : Jvm.MethodName) prog_1_method_42_code (2 : Nat) (Option.some Jvm.ClassFile.FieldType.int)) ∈ lw_all := lw_g (lw_at lw_m14 232 rfl) rfl
theorem q3488 : (Jvm.Cond.methodLink "RoseGuild" (329 : Nat) ({ cls := "RoseGuild$Guild", name := "outlook", desc := "(LRoseGuild$Cart;)I" } : Jvm.MethodName)) ∈ lw_all := lw_g (lw_at lw_m14 233 rfl) rfl
theorem q3497 : (Jvm.Cond.instanceMethod ({ cls := "RoseGuild", name := "quickestGarden", desc := "(II)I" } : Jvm.MethodName)) ∈ lw_all := lw_g (lw_at lw_m15 2 rfl) rfl
theorem q3498 : (Jvm.Cond.selects "RoseGuild" ({ cls := "RoseGuild", name := "quickestGarden", desc := "(II)I" } : Jvm.MethodName) ({ cls := "RoseGuild", name := "quickestGarden", desc := "(II)I" } : Jvm.MethodName)) ∈ lw_all := lw_g (lw_at lw_m15 3 rfl) rfl
theorem q3499 : (Jvm.Cond.code ({ cls := "RoseGuild", name := "quickestGarden", desc := "(II)I" } : Jvm.MethodName) prog_1_method_43_code (8 : Nat) (Option.some Jvm.ClassFile.FieldType.int)) ∈ lw_all := lw_g (lw_at lw_m15 4 rfl) rfl
theorem q3500 : (Jvm.Cond.interfaceEntry "RoseGuild" (332 : Nat)) ∈ lw_tbl := lw_at lw_m15 5 rfl
theorem q3501 : (Jvm.Cond.methodLink "RoseGuild" (332 : Nat) ({ cls := "java/util/List", name := "iterator", desc := "()Ljava/util/Iterator;" } : Jvm.MethodName)) ∈ lw_all := lw_g (lw_at lw_m15 6 rfl) rfl
theorem q3506 : (Jvm.Cond.instanceMethod ({ cls := "RoseGuild", name := "smellReaches", desc := "(III)Z" } : Jvm.MethodName)) ∈ lw_all := lw_g (lw_at lw_m15 11 rfl) rfl
theorem q3507 : (Jvm.Cond.selects "RoseGuild" ({ cls := "RoseGuild", name := "smellReaches", desc := "(III)Z" } : Jvm.MethodName) ({ cls := "RoseGuild", name := "smellReaches", desc := "(III)Z" } : Jvm.MethodName)) ∈ lw_all := lw_g (lw_at lw_m15 12 rfl) rfl
theorem q3508 : (Jvm.Cond.code ({ cls := "RoseGuild", name := "smellReaches", desc := "(III)Z" } : Jvm.MethodName) prog_1_method_48_code (6 : Nat) (Option.some Jvm.ClassFile.FieldType.boolean)) ∈ lw_all := lw_g (lw_at lw_m15 13 rfl) rfl
theorem q3509 : (Jvm.Cond.methodLink "RoseGuild" (346 : Nat) ({ cls := "RoseGuild$Guild", name := "reaches", desc := "(LRoseGuild$Street;ILRoseGuild$Street;)Z" } : Jvm.MethodName)) ∈ lw_all := lw_g (lw_at lw_m15 14 rfl) rfl
theorem q3514 : (Jvm.Cond.instanceMethod ({ cls := "RoseGuild", name := "petalShare", desc := "(I)F" } : Jvm.MethodName)) ∈ lw_all := lw_g (lw_at lw_m15 19 rfl) rfl
theorem q3515 : (Jvm.Cond.selects "RoseGuild" ({ cls := "RoseGuild", name := "petalShare", desc := "(I)F" } : Jvm.MethodName) ({ cls := "RoseGuild", name := "petalShare", desc := "(I)F" } : Jvm.MethodName)) ∈ lw_all := lw_g (lw_at lw_m15 20 rfl) rfl
theorem q3516 : (Jvm.Cond.code ({ cls := "RoseGuild", name := "petalShare", desc := "(I)F" } : Jvm.MethodName) prog_1_method_52_code (4 : Nat) (Option.some Jvm.ClassFile.FieldType.float)) ∈ lw_all := lw_g (lw_at lw_m15 21 rfl) rfl
theorem q3517 : (Jvm.Cond.methodLink "RoseGuild" (359 : Nat) ({ cls := "RoseGuild$Guild", name := "allPetals", desc := "()I" } : Jvm.MethodName)) ∈ lw_all := lw_g (lw_at lw_m15 22 rfl) rfl
theorem q3525 : (Jvm.Cond.instanceMethod ({ cls := "RoseGuild", name := "binsAfter", desc := "(II)I" } : Jvm.MethodName)) ∈ lw_all := lw_g (lw_at lw_m15 30 rfl) rfl
theorem q3526 : (Jvm.Cond.selects "RoseGuild" ({ cls := "RoseGuild", name := "binsAfter", desc := "(II)I" } : Jvm.MethodName) ({ cls := "RoseGuild", name := "binsAfter", desc := "(II)I" } : Jvm.MethodName)) ∈ lw_all := lw_g (lw_at lw_m15 31 rfl) rfl
theorem q3527 : (Jvm.Cond.code ({ cls := "RoseGuild", name := "binsAfter", desc := "(II)I" } : Jvm.MethodName) prog_1_method_54_code (4 : Nat) (Option.some Jvm.ClassFile.FieldType.int)) ∈ lw_all := lw_g (lw_at lw_m15 32 rfl) rfl
theorem q3532 : (Jvm.Cond.instanceMethod ({ cls := "RoseGuild", name := "nightsUntilSpill", desc := "(I)I" } : Jvm.MethodName)) ∈ lw_all := lw_g (lw_at lw_m15 37 rfl) rfl
theorem q3533 : (Jvm.Cond.selects "RoseGuild" ({ cls := "RoseGuild", name := "nightsUntilSpill", desc := "(I)I" } : Jvm.MethodName) ({ cls := "RoseGuild", name := "nightsUntilSpill", desc := "(I)I" } : Jvm.MethodName)) ∈ lw_all := lw_g (lw_at lw_m15 38 rfl) rfl
theorem q3534 : (Jvm.Cond.code ({ cls := "RoseGuild", name := "nightsUntilSpill", desc := "(I)I" } : Jvm.MethodName) prog_1_method_55_code (5 : Nat) (Option.some Jvm.ClassFile.FieldType.int)) ∈ lw_all := lw_g (lw_at lw_m15 39 rfl) rfl
theorem q3535 : (Jvm.Cond.methodLink "RoseGuild" (369 : Nat) ({ cls := "RoseGuild$Guild", name := "passOneNight", desc := "()V" } : Jvm.MethodName)) ∈ lw_all := lw_g (lw_at lw_m15 40 rfl) rfl
theorem q3540 : (Jvm.Cond.instanceMethod ({ cls := "RoseGuild", name := "petalsAfter", desc := "(II)I" } : Jvm.MethodName)) ∈ lw_all := lw_g (lw_at lw_m15 45 rfl) rfl
theorem q3541 : (Jvm.Cond.selects "RoseGuild" ({ cls := "RoseGuild", name := "petalsAfter", desc := "(II)I" } : Jvm.MethodName) ({ cls := "RoseGuild", name := "petalsAfter", desc := "(II)I" } : Jvm.MethodName)) ∈ lw_all := lw_g (lw_at lw_m15 46 rfl) rfl
theorem q3542 : (Jvm.Cond.code ({ cls := "RoseGuild", name := "petalsAfter", desc := "(II)I" } : Jvm.MethodName) prog_1_method_56_code (4 : Nat) (Option.some Jvm.ClassFile.FieldType.int)) ∈ lw_all := lw_g (lw_at lw_m15 47 rfl) rfl
theorem q3547 : (Jvm.Cond.instanceMethod ({ cls := "RoseGuild", name := "balanceAfter", desc := "(I)I" } : Jvm.MethodName)) ∈ lw_all := lw_g (lw_at lw_m15 52 rfl) rfl
theorem q3548 : (Jvm.Cond.selects "RoseGuild" ({ cls := "RoseGuild", name := "balanceAfter", desc := "(I)I" } : Jvm.MethodName) ({ cls := "RoseGuild", name := "balanceAfter", desc := "(I)I" } : Jvm.MethodName)) ∈ lw_all := lw_g (lw_at lw_m15 53 rfl) rfl
theorem q3549 : (Jvm.Cond.code ({ cls := "RoseGuild", name := "balanceAfter", desc := "(I)I" } : Jvm.MethodName) prog_1_method_57_code (2 : Nat) (Option.some Jvm.ClassFile.FieldType.int)) ∈ lw_all := lw_g (lw_at lw_m15 54 rfl) rfl
theorem q3554 : (Jvm.Cond.instanceMethod ({ cls := "RoseGuild", name := "sign", desc := "(IIII)I" } : Jvm.MethodName)) ∈ lw_all := lw_g (lw_at lw_m15 59 rfl) rfl
theorem q3555 : (Jvm.Cond.selects "RoseGuild" ({ cls := "RoseGuild", name := "sign", desc := "(IIII)I" } : Jvm.MethodName) ({ cls := "RoseGuild", name := "sign", desc := "(IIII)I" } : Jvm.MethodName)) ∈ lw_all := lw_g (lw_at lw_m15 60 rfl) rfl
theorem q3556 : (Jvm.Cond.codeWith ({ cls := "RoseGuild", name := "sign", desc := "(IIII)I" } : Jvm.MethodName) prog_1_method_59_code (7 : Nat) (Option.some Jvm.ClassFile.FieldType.int) [((9 : Nat), (31 : Nat), (32 : Nat), (177 : Nat))]) ∈ lw_all := lw_g (lw_at lw_m15 61 rfl) rfl
theorem q3557 : (Jvm.Cond.methodLink "RoseGuild" (372 : Nat) ({ cls := "RoseGuild$Guild", name := "sign", desc := "(IIII)I" } : Jvm.MethodName)) ∈ lw_all := lw_g (lw_at lw_m15 62 rfl) rfl
theorem q3558 : (Jvm.Cond.methodLink "RoseGuild" (376 : Nat) ({ cls := "RoseGuild$Problem", name := "toThrow", desc := "()Ljava/lang/RuntimeException;" } : Jvm.MethodName)) ∈ lw_all := lw_g (lw_at lw_m15 63 rfl) rfl
theorem q3601 : (Jvm.Cond.instanceMethod ({ cls := "RoseGuild", name := "cancel", desc := "(I)I" } : Jvm.MethodName)) ∈ lw_all := lw_g (lw_at lw_m15 106 rfl) rfl
theorem q3602 : (Jvm.Cond.selects "RoseGuild" ({ cls := "RoseGuild", name := "cancel", desc := "(I)I" } : Jvm.MethodName) ({ cls := "RoseGuild", name := "cancel", desc := "(I)I" } : Jvm.MethodName)) ∈ lw_all := lw_g (lw_at lw_m15 107 rfl) rfl
theorem q3603 : (Jvm.Cond.codeWith ({ cls := "RoseGuild", name := "cancel", desc := "(I)I" } : Jvm.MethodName) prog_1_method_60_code (4 : Nat) (Option.some Jvm.ClassFile.FieldType.int) [((8 : Nat), (23 : Nat), (24 : Nat), (177 : Nat))]) ∈ lw_all := lw_g (lw_at lw_m15 108 rfl) rfl
theorem q3604 : (Jvm.Cond.methodLink "RoseGuild" (380 : Nat) ({ cls := "RoseGuild$Guild", name := "cancel", desc := "(I)I" } : Jvm.MethodName)) ∈ lw_all := lw_g (lw_at lw_m15 109 rfl) rfl
theorem q3609 : (Jvm.Cond.instanceMethod ({ cls := "RoseGuild", name := "advance", desc := "(I)I" } : Jvm.MethodName)) ∈ lw_all := lw_g (lw_at lw_m15 114 rfl) rfl
theorem q3610 : (Jvm.Cond.selects "RoseGuild" ({ cls := "RoseGuild", name := "advance", desc := "(I)I" } : Jvm.MethodName) ({ cls := "RoseGuild", name := "advance", desc := "(I)I" } : Jvm.MethodName)) ∈ lw_all := lw_g (lw_at lw_m15 115 rfl) rfl
theorem q3611 : (Jvm.Cond.codeWith ({ cls := "RoseGuild", name := "advance", desc := "(I)I" } : Jvm.MethodName) prog_1_method_61_code (4 : Nat) (Option.some Jvm.ClassFile.FieldType.int) [((8 : Nat), (23 : Nat), (24 : Nat), (177 : Nat))]) ∈ lw_all := lw_g (lw_at lw_m15 116 rfl) rfl
theorem q3612 : (Jvm.Cond.methodLink "RoseGuild" (384 : Nat) ({ cls := "RoseGuild$Guild", name := "advance", desc := "(I)I" } : Jvm.MethodName)) ∈ lw_all := lw_g (lw_at lw_m15 117 rfl) rfl
theorem q3617 : (Jvm.Cond.instanceMethod ({ cls := "RoseGuild", name := "setWindOffset", desc := "(I)I" } : Jvm.MethodName)) ∈ lw_all := lw_g (lw_at lw_m15 122 rfl) rfl
theorem q3618 : (Jvm.Cond.selects "RoseGuild" ({ cls := "RoseGuild", name := "setWindOffset", desc := "(I)I" } : Jvm.MethodName) ({ cls := "RoseGuild", name := "setWindOffset", desc := "(I)I" } : Jvm.MethodName)) ∈ lw_all := lw_g (lw_at lw_m15 123 rfl) rfl
theorem q3619 : (Jvm.Cond.codeWith ({ cls := "RoseGuild", name := "setWindOffset", desc := "(I)I" } : Jvm.MethodName) prog_1_method_62_code (4 : Nat) (Option.some Jvm.ClassFile.FieldType.int) [((8 : Nat), (23 : Nat), (24 : Nat), (177 : Nat))]) ∈ lw_all := lw_g (lw_at lw_m15 124 rfl) rfl
theorem q3620 : (Jvm.Cond.methodLink "RoseGuild" (387 : Nat) ({ cls := "RoseGuild$Guild", name := "setWindOffset", desc := "(I)I" } : Jvm.MethodName)) ∈ lw_all := lw_g (lw_at lw_m15 125 rfl) rfl
theorem q3625 : (Jvm.Cond.instanceMethod ({ cls := "RoseGuild", name := "setPrice", desc := "(I)I" } : Jvm.MethodName)) ∈ lw_all := lw_g (lw_at lw_m15 130 rfl) rfl
theorem q3626 : (Jvm.Cond.selects "RoseGuild" ({ cls := "RoseGuild", name := "setPrice", desc := "(I)I" } : Jvm.MethodName) ({ cls := "RoseGuild", name := "setPrice", desc := "(I)I" } : Jvm.MethodName)) ∈ lw_all := lw_g (lw_at lw_m15 131 rfl) rfl
theorem q3627 : (Jvm.Cond.codeWith ({ cls := "RoseGuild", name := "setPrice", desc := "(I)I" } : Jvm.MethodName) prog_1_method_63_code (4 : Nat) (Option.some Jvm.ClassFile.FieldType.int) [((8 : Nat), (23 : Nat), (24 : Nat), (177 : Nat))]) ∈ lw_all := lw_g (lw_at lw_m15 132 rfl) rfl
theorem q3628 : (Jvm.Cond.methodLink "RoseGuild" (390 : Nat) ({ cls := "RoseGuild$Guild", name := "setPrice", desc := "(I)I" } : Jvm.MethodName)) ∈ lw_all := lw_g (lw_at lw_m15 133 rfl) rfl
theorem q3633 : (Jvm.Cond.instanceMethod ({ cls := "RoseGuild", name := "undo", desc := "()I" } : Jvm.MethodName)) ∈ lw_all := lw_g (lw_at lw_m15 138 rfl) rfl
theorem q3634 : (Jvm.Cond.selects "RoseGuild" ({ cls := "RoseGuild", name := "undo", desc := "()I" } : Jvm.MethodName) ({ cls := "RoseGuild", name := "undo", desc := "()I" } : Jvm.MethodName)) ∈ lw_all := lw_g (lw_at lw_m15 139 rfl) rfl
theorem q3635 : (Jvm.Cond.code ({ cls := "RoseGuild", name := "undo", desc := "()I" } : Jvm.MethodName) prog_1_method_68_code (1 : Nat) (Option.some Jvm.ClassFile.FieldType.int)) ∈ lw_all := lw_g (lw_at lw_m15 140 rfl) rfl
theorem q3636 : (Jvm.Cond.methodLink "RoseGuild" (408 : Nat) ({ cls := "java/util/ArrayDeque", name := "isEmpty", desc := "()Z" } : Jvm.MethodName)) ∈ lw_all := lw_g (lw_at lw_m15 141 rfl) rfl
theorem q3640 : (Jvm.Cond.methodLink "RoseGuild" (409 : Nat) ({ cls := "java/util/ArrayDeque", name := "removeLast", desc := "()Ljava/lang/Object;" } : Jvm.MethodName)) ∈ lw_all := lw_g (lw_at lw_m15 145 rfl) rfl
theorem q3655 : (Jvm.Cond.instanceMethod ({ cls := "RoseGuild", name := "save", desc := "(I)I" } : Jvm.MethodName)) ∈ lw_all := lw_g (lw_at lw_m15 160 rfl) rfl
theorem q3656 : (Jvm.Cond.selects "RoseGuild" ({ cls := "RoseGuild", name := "save", desc := "(I)I" } : Jvm.MethodName) ({ cls := "RoseGuild", name := "save", desc := "(I)I" } : Jvm.MethodName)) ∈ lw_all := lw_g (lw_at lw_m15 161 rfl) rfl
theorem q3657 : (Jvm.Cond.code ({ cls := "RoseGuild", name := "save", desc := "(I)I" } : Jvm.MethodName) prog_1_method_70_code (2 : Nat) (Option.some Jvm.ClassFile.FieldType.int)) ∈ lw_all := lw_g (lw_at lw_m15 162 rfl) rfl
theorem q3658 : (Jvm.Cond.methodLink "RoseGuild" (412 : Nat) ({ cls := "RoseGuild", name := "requireSlot", desc := "(I)V" } : Jvm.MethodName)) ∈ lw_all := lw_g (lw_at lw_m15 163 rfl) rfl
theorem q3659 : (Jvm.Cond.static ({ cls := "RoseGuild", name := "requireSlot", desc := "(I)V" } : Jvm.MethodName)) ∈ lw_all := lw_g (lw_at lw_m15 164 rfl) rfl
theorem q3660 : (Jvm.Cond.code ({ cls := "RoseGuild", name := "requireSlot", desc := "(I)V" } : Jvm.MethodName) prog_1_method_69_code (1 : Nat) (Option.none : Option Jvm.ClassFile.FieldType)) ∈ lw_all := lw_g (lw_at lw_m15 165 rfl) rfl
theorem q3666 : (Jvm.Cond.instanceMethod ({ cls := "RoseGuild", name := "restore", desc := "(I)I" } : Jvm.MethodName)) ∈ lw_all := lw_g (lw_at lw_m15 171 rfl) rfl
theorem q3667 : (Jvm.Cond.selects "RoseGuild" ({ cls := "RoseGuild", name := "restore", desc := "(I)I" } : Jvm.MethodName) ({ cls := "RoseGuild", name := "restore", desc := "(I)I" } : Jvm.MethodName)) ∈ lw_all := lw_g (lw_at lw_m15 172 rfl) rfl
theorem q3668 : (Jvm.Cond.code ({ cls := "RoseGuild", name := "restore", desc := "(I)I" } : Jvm.MethodName) prog_1_method_71_code (2 : Nat) (Option.some Jvm.ClassFile.FieldType.int)) ∈ lw_all := lw_g (lw_at lw_m15 173 rfl) rfl
theorem q3669 : (Jvm.Cond.classLink "RoseGuild" (416 : Nat) "java/util/NoSuchElementException") ∈ lw_all := lw_g (lw_at lw_m15 174 rfl) rfl
theorem q3670 : (Jvm.Cond.methodLink "RoseGuild" (418 : Nat) ({ cls := "java/util/NoSuchElementException", name := "<init>", desc := "()V" } : Jvm.MethodName)) ∈ lw_all := lw_g (lw_at lw_m15 175 rfl) rfl
theorem q4385 : (Jvm.Cond.castable "RoseGuild" "java/lang/Object") ∈ lw_tbl := lw_at lw_m18 170 rfl
theorem in_X1 : ∀ w ∈ wsX10, w ∈ lw_all := lw_in wsX10 [2091, 2093, 2095, 2097, 2099, 2101, 2103, 2105, 2107] (by decide +kernel) (by decide +kernel)

/-! RoseGuild$Parser -/
set_option maxRecDepth 100000
def RX8 : String := "RoseGuild$Parser"
abbrev cX8_init : ByteArray := prog_10_method_1_code
def yX8_init : MethodName := ⟨RX8, "<init>", "(LRoseGuild;)V"⟩
def dkwX8_init_1 : List UInt8 := [181, 0, 28, 42, 18, 31, 181, 0, 33, 42, 182, 0, 37, 177]
abbrev dktX8_init_1 : List UInt8 := dkwX8_init_1 ++ []
def dkwX8_init_0 : List UInt8 := [42, 43, 181, 0, 3, 42, 183, 0, 9, 42, 42, 180, 0, 3, 180, 0, 15, 181, 0, 19, 42, 178, 0, 22]
abbrev dktX8_init_0 : List UInt8 := dkwX8_init_0 ++ dktX8_init_1
theorem dksX8_init_0 : cX8_init.data.toList.drop 0 = dktX8_init_0 := by decide +kernel
theorem dksX8_init_1 : cX8_init.data.toList.drop 24 = dktX8_init_1 := dk_seg dksX8_init_0 24 rfl rfl
theorem dX8_init_0 : decode cX8_init 0 = .ok (.aload_n 0, 1) := dk_42 (dk_at dksX8_init_0 0 rfl rfl)
theorem dX8_init_1 : decode cX8_init 1 = .ok (.aload_n 1, 1) := dk_43 (dk_at dksX8_init_0 1 rfl rfl)
theorem dX8_init_2 : decode cX8_init 2 = .ok (.putfield 3, 3) := dk_181 0 3 (dk_at dksX8_init_0 2 rfl rfl)
theorem dX8_init_5 : decode cX8_init 5 = .ok (.aload_n 0, 1) := dk_42 (dk_at dksX8_init_0 5 rfl rfl)
theorem dX8_init_6 : decode cX8_init 6 = .ok (.invokespecial 9, 3) := dk_183 0 9 (dk_at dksX8_init_0 6 rfl rfl)
theorem dX8_init_9 : decode cX8_init 9 = .ok (.aload_n 0, 1) := dk_42 (dk_at dksX8_init_0 9 rfl rfl)
theorem dX8_init_10 : decode cX8_init 10 = .ok (.aload_n 0, 1) := dk_42 (dk_at dksX8_init_0 10 rfl rfl)
theorem dX8_init_11 : decode cX8_init 11 = .ok (.getfield 3, 3) := dk_180 0 3 (dk_at dksX8_init_0 11 rfl rfl)
theorem dX8_init_14 : decode cX8_init 14 = .ok (.getfield 15, 3) := dk_180 0 15 (dk_at dksX8_init_0 14 rfl rfl)
theorem dX8_init_17 : decode cX8_init 17 = .ok (.putfield 19, 3) := dk_181 0 19 (dk_at dksX8_init_0 17 rfl rfl)
theorem dX8_init_20 : decode cX8_init 20 = .ok (.aload_n 0, 1) := dk_42 (dk_at dksX8_init_0 20 rfl rfl)
theorem dX8_init_21 : decode cX8_init 21 = .ok (.getstatic 22, 3) := dk_178 0 22 (dk_at dksX8_init_0 21 rfl rfl)
theorem dX8_init_24 : decode cX8_init 24 = .ok (.putfield 28, 3) := dk_181 0 28 (dk_at dksX8_init_1 0 rfl rfl)
theorem dX8_init_27 : decode cX8_init 27 = .ok (.aload_n 0, 1) := dk_42 (dk_at dksX8_init_1 3 rfl rfl)
theorem dX8_init_28 : decode cX8_init 28 = .ok (.ldc 31, 2) := dk_18 31 (dk_at dksX8_init_1 4 rfl rfl)
theorem dX8_init_30 : decode cX8_init 30 = .ok (.putfield 33, 3) := dk_181 0 33 (dk_at dksX8_init_1 6 rfl rfl)
theorem dX8_init_33 : decode cX8_init 33 = .ok (.aload_n 0, 1) := dk_42 (dk_at dksX8_init_1 9 rfl rfl)
theorem dX8_init_34 : decode cX8_init 34 = .ok (.invokevirtual 37, 3) := dk_182 0 37 (dk_at dksX8_init_1 10 rfl rfl)
theorem dX8_init_37 : decode cX8_init 37 = .ok (.return_, 1) := dk_177 (dk_at dksX8_init_1 13 rfl rfl)
abbrev cX8_advance : ByteArray := prog_10_method_5_code
def yX8_advance : MethodName := ⟨RX8, "advance", "()V"⟩
def dkwX8_advance_10 : List UInt8 := [180, 0, 52, 4, 96, 181, 0, 52, 42, 178, 0, 92, 181, 0, 28, 177]
abbrev dktX8_advance_10 : List UInt8 := dkwX8_advance_10 ++ []
def dkwX8_advance_9 : List UInt8 := [180, 0, 52, 4, 96, 181, 0, 52, 167, 255, 207, 42, 178, 0, 89, 181, 0, 28, 167, 0, 20, 42, 89]
abbrev dktX8_advance_9 : List UInt8 := dkwX8_advance_9 ++ dktX8_advance_10
def dkwX8_advance_8 : List UInt8 := [180, 0, 79, 104, 42, 42, 180, 0, 52, 182, 0, 44, 96, 16, 48, 100, 184, 0, 83, 181, 0, 79, 42, 89]
abbrev dktX8_advance_8 : List UInt8 := dkwX8_advance_8 ++ dktX8_advance_9
def dkwX8_advance_7 : List UInt8 := [42, 3, 181, 0, 79, 42, 42, 180, 0, 52, 182, 0, 76, 153, 0, 44, 42, 18, 82, 16, 10, 42]
abbrev dktX8_advance_7 : List UInt8 := dkwX8_advance_7 ++ dktX8_advance_8
def dkwX8_advance_6 : List UInt8 := [181, 0, 33, 42, 178, 0, 73, 181, 0, 28, 167, 0, 98, 42, 42, 180, 0, 52, 182, 0, 76, 153, 0, 70]
abbrev dktX8_advance_6 : List UInt8 := dkwX8_advance_6 ++ dktX8_advance_7
def dkwX8_advance_5 : List UInt8 := [182, 0, 65, 87, 42, 89, 180, 0, 52, 4, 96, 181, 0, 52, 167, 255, 221, 42, 43, 182, 0, 69]
abbrev dktX8_advance_5 : List UInt8 := dkwX8_advance_5 ++ dktX8_advance_6
def dkwX8_advance_4 : List UInt8 := [76, 42, 42, 180, 0, 52, 182, 0, 58, 153, 0, 30, 43, 42, 42, 180, 0, 52, 182, 0, 44, 146]
abbrev dktX8_advance_4 : List UInt8 := dkwX8_advance_4 ++ dktX8_advance_5
def dkwX8_advance_3 : List UInt8 := [181, 0, 28, 167, 0, 173, 42, 42, 180, 0, 52, 182, 0, 58, 153, 0, 67, 187, 0, 62, 89, 183, 0, 64]
abbrev dktX8_advance_3 : List UInt8 := dkwX8_advance_3 ++ dktX8_advance_4
def dkwX8_advance_2 : List UInt8 := [42, 18, 31, 181, 0, 33, 42, 42, 180, 0, 52, 182, 0, 44, 2, 160, 0, 13, 42, 178, 0, 22]
abbrev dktX8_advance_2 : List UInt8 := dkwX8_advance_2 ++ dktX8_advance_3
def dkwX8_advance_1 : List UInt8 := [160, 0, 16, 42, 89, 180, 0, 52, 4, 96, 181, 0, 52, 167, 255, 220, 42, 42, 180, 0, 52, 181, 0, 55]
abbrev dktX8_advance_1 : List UInt8 := dkwX8_advance_1 ++ dktX8_advance_2
def dkwX8_advance_0 : List UInt8 := [42, 42, 180, 0, 52, 182, 0, 44, 16, 32, 159, 0, 16, 42, 42, 180, 0, 52, 182, 0, 44, 16, 10]
abbrev dktX8_advance_0 : List UInt8 := dkwX8_advance_0 ++ dktX8_advance_1
theorem dksX8_advance_0 : cX8_advance.data.toList.drop 0 = dktX8_advance_0 := by decide +kernel
theorem dksX8_advance_1 : cX8_advance.data.toList.drop 23 = dktX8_advance_1 := dk_seg dksX8_advance_0 23 rfl rfl
theorem dksX8_advance_2 : cX8_advance.data.toList.drop 47 = dktX8_advance_2 := dk_seg dksX8_advance_1 24 rfl rfl
theorem dksX8_advance_3 : cX8_advance.data.toList.drop 69 = dktX8_advance_3 := dk_seg dksX8_advance_2 22 rfl rfl
theorem dksX8_advance_4 : cX8_advance.data.toList.drop 93 = dktX8_advance_4 := dk_seg dksX8_advance_3 24 rfl rfl
theorem dksX8_advance_5 : cX8_advance.data.toList.drop 115 = dktX8_advance_5 := dk_seg dksX8_advance_4 22 rfl rfl
theorem dksX8_advance_6 : cX8_advance.data.toList.drop 137 = dktX8_advance_6 := dk_seg dksX8_advance_5 22 rfl rfl
theorem dksX8_advance_7 : cX8_advance.data.toList.drop 161 = dktX8_advance_7 := dk_seg dksX8_advance_6 24 rfl rfl
theorem dksX8_advance_8 : cX8_advance.data.toList.drop 183 = dktX8_advance_8 := dk_seg dksX8_advance_7 22 rfl rfl
theorem dksX8_advance_9 : cX8_advance.data.toList.drop 207 = dktX8_advance_9 := dk_seg dksX8_advance_8 24 rfl rfl
theorem dksX8_advance_10 : cX8_advance.data.toList.drop 230 = dktX8_advance_10 := dk_seg dksX8_advance_9 23 rfl rfl
theorem dX8_advance_0 : decode cX8_advance 0 = .ok (.aload_n 0, 1) := dk_42 (dk_at dksX8_advance_0 0 rfl rfl)
theorem dX8_advance_1 : decode cX8_advance 1 = .ok (.aload_n 0, 1) := dk_42 (dk_at dksX8_advance_0 1 rfl rfl)
theorem dX8_advance_2 : decode cX8_advance 2 = .ok (.getfield 52, 3) := dk_180 0 52 (dk_at dksX8_advance_0 2 rfl rfl)
theorem dX8_advance_5 : decode cX8_advance 5 = .ok (.invokevirtual 44, 3) := dk_182 0 44 (dk_at dksX8_advance_0 5 rfl rfl)
theorem dX8_advance_8 : decode cX8_advance 8 = .ok (.bipush 32, 2) := dk_16 32 (dk_at dksX8_advance_0 8 rfl rfl)
theorem dX8_advance_10 : decode cX8_advance 10 = .ok (.if_icmp .eq 16, 3) := dk_159 0 16 (dk_at dksX8_advance_0 10 rfl rfl)
theorem dX8_advance_13 : decode cX8_advance 13 = .ok (.aload_n 0, 1) := dk_42 (dk_at dksX8_advance_0 13 rfl rfl)
theorem dX8_advance_14 : decode cX8_advance 14 = .ok (.aload_n 0, 1) := dk_42 (dk_at dksX8_advance_0 14 rfl rfl)
theorem dX8_advance_15 : decode cX8_advance 15 = .ok (.getfield 52, 3) := dk_180 0 52 (dk_at dksX8_advance_0 15 rfl rfl)
theorem dX8_advance_18 : decode cX8_advance 18 = .ok (.invokevirtual 44, 3) := dk_182 0 44 (dk_at dksX8_advance_0 18 rfl rfl)
theorem dX8_advance_21 : decode cX8_advance 21 = .ok (.bipush 10, 2) := dk_16 10 (dk_at dksX8_advance_0 21 rfl rfl)
theorem dX8_advance_23 : decode cX8_advance 23 = .ok (.if_icmp .ne 16, 3) := dk_160 0 16 (dk_at dksX8_advance_1 0 rfl rfl)
theorem dX8_advance_26 : decode cX8_advance 26 = .ok (.aload_n 0, 1) := dk_42 (dk_at dksX8_advance_1 3 rfl rfl)
theorem dX8_advance_27 : decode cX8_advance 27 = .ok (.dup, 1) := dk_89 (dk_at dksX8_advance_1 4 rfl rfl)
theorem dX8_advance_28 : decode cX8_advance 28 = .ok (.getfield 52, 3) := dk_180 0 52 (dk_at dksX8_advance_1 5 rfl rfl)
theorem dX8_advance_31 : decode cX8_advance 31 = .ok (.iconst 1, 1) := dk_4 (dk_at dksX8_advance_1 8 rfl rfl)
theorem dX8_advance_32 : decode cX8_advance 32 = .ok (.iadd, 1) := dk_96 (dk_at dksX8_advance_1 9 rfl rfl)
theorem dX8_advance_33 : decode cX8_advance 33 = .ok (.putfield 52, 3) := dk_181 0 52 (dk_at dksX8_advance_1 10 rfl rfl)
theorem dX8_advance_36 : decode cX8_advance 36 = .ok (.goto (-36), 3) := dk_167 255 220 (dk_at dksX8_advance_1 13 rfl rfl)
theorem dX8_advance_39 : decode cX8_advance 39 = .ok (.aload_n 0, 1) := dk_42 (dk_at dksX8_advance_1 16 rfl rfl)
theorem dX8_advance_40 : decode cX8_advance 40 = .ok (.aload_n 0, 1) := dk_42 (dk_at dksX8_advance_1 17 rfl rfl)
theorem dX8_advance_41 : decode cX8_advance 41 = .ok (.getfield 52, 3) := dk_180 0 52 (dk_at dksX8_advance_1 18 rfl rfl)
theorem dX8_advance_44 : decode cX8_advance 44 = .ok (.putfield 55, 3) := dk_181 0 55 (dk_at dksX8_advance_1 21 rfl rfl)
theorem dX8_advance_47 : decode cX8_advance 47 = .ok (.aload_n 0, 1) := dk_42 (dk_at dksX8_advance_2 0 rfl rfl)
theorem dX8_advance_48 : decode cX8_advance 48 = .ok (.ldc 31, 2) := dk_18 31 (dk_at dksX8_advance_2 1 rfl rfl)
theorem dX8_advance_50 : decode cX8_advance 50 = .ok (.putfield 33, 3) := dk_181 0 33 (dk_at dksX8_advance_2 3 rfl rfl)
theorem dX8_advance_53 : decode cX8_advance 53 = .ok (.aload_n 0, 1) := dk_42 (dk_at dksX8_advance_2 6 rfl rfl)
theorem dX8_advance_54 : decode cX8_advance 54 = .ok (.aload_n 0, 1) := dk_42 (dk_at dksX8_advance_2 7 rfl rfl)
theorem dX8_advance_55 : decode cX8_advance 55 = .ok (.getfield 52, 3) := dk_180 0 52 (dk_at dksX8_advance_2 8 rfl rfl)
theorem dX8_advance_58 : decode cX8_advance 58 = .ok (.invokevirtual 44, 3) := dk_182 0 44 (dk_at dksX8_advance_2 11 rfl rfl)
theorem dX8_advance_61 : decode cX8_advance 61 = .ok (.iconst (-1), 1) := dk_2 (dk_at dksX8_advance_2 14 rfl rfl)
theorem dX8_advance_62 : decode cX8_advance 62 = .ok (.if_icmp .ne 13, 3) := dk_160 0 13 (dk_at dksX8_advance_2 15 rfl rfl)
theorem dX8_advance_65 : decode cX8_advance 65 = .ok (.aload_n 0, 1) := dk_42 (dk_at dksX8_advance_2 18 rfl rfl)
theorem dX8_advance_66 : decode cX8_advance 66 = .ok (.getstatic 22, 3) := dk_178 0 22 (dk_at dksX8_advance_2 19 rfl rfl)
theorem dX8_advance_69 : decode cX8_advance 69 = .ok (.putfield 28, 3) := dk_181 0 28 (dk_at dksX8_advance_3 0 rfl rfl)
theorem dX8_advance_72 : decode cX8_advance 72 = .ok (.goto 173, 3) := dk_167 0 173 (dk_at dksX8_advance_3 3 rfl rfl)
theorem dX8_advance_75 : decode cX8_advance 75 = .ok (.aload_n 0, 1) := dk_42 (dk_at dksX8_advance_3 6 rfl rfl)
theorem dX8_advance_76 : decode cX8_advance 76 = .ok (.aload_n 0, 1) := dk_42 (dk_at dksX8_advance_3 7 rfl rfl)
theorem dX8_advance_77 : decode cX8_advance 77 = .ok (.getfield 52, 3) := dk_180 0 52 (dk_at dksX8_advance_3 8 rfl rfl)
theorem dX8_advance_80 : decode cX8_advance 80 = .ok (.invokevirtual 58, 3) := dk_182 0 58 (dk_at dksX8_advance_3 11 rfl rfl)
theorem dX8_advance_83 : decode cX8_advance 83 = .ok (.ifCond .eq 67, 3) := dk_153 0 67 (dk_at dksX8_advance_3 14 rfl rfl)
theorem dX8_advance_86 : decode cX8_advance 86 = .ok (.new 62, 3) := dk_187 0 62 (dk_at dksX8_advance_3 17 rfl rfl)
theorem dX8_advance_89 : decode cX8_advance 89 = .ok (.dup, 1) := dk_89 (dk_at dksX8_advance_3 20 rfl rfl)
theorem dX8_advance_90 : decode cX8_advance 90 = .ok (.invokespecial 64, 3) := dk_183 0 64 (dk_at dksX8_advance_3 21 rfl rfl)
theorem dX8_advance_93 : decode cX8_advance 93 = .ok (.astore_n 1, 1) := dk_76 (dk_at dksX8_advance_4 0 rfl rfl)
theorem dX8_advance_94 : decode cX8_advance 94 = .ok (.aload_n 0, 1) := dk_42 (dk_at dksX8_advance_4 1 rfl rfl)
theorem dX8_advance_95 : decode cX8_advance 95 = .ok (.aload_n 0, 1) := dk_42 (dk_at dksX8_advance_4 2 rfl rfl)
theorem dX8_advance_96 : decode cX8_advance 96 = .ok (.getfield 52, 3) := dk_180 0 52 (dk_at dksX8_advance_4 3 rfl rfl)
theorem dX8_advance_99 : decode cX8_advance 99 = .ok (.invokevirtual 58, 3) := dk_182 0 58 (dk_at dksX8_advance_4 6 rfl rfl)
theorem dX8_advance_102 : decode cX8_advance 102 = .ok (.ifCond .eq 30, 3) := dk_153 0 30 (dk_at dksX8_advance_4 9 rfl rfl)
theorem dX8_advance_105 : decode cX8_advance 105 = .ok (.aload_n 1, 1) := dk_43 (dk_at dksX8_advance_4 12 rfl rfl)
theorem dX8_advance_106 : decode cX8_advance 106 = .ok (.aload_n 0, 1) := dk_42 (dk_at dksX8_advance_4 13 rfl rfl)
theorem dX8_advance_107 : decode cX8_advance 107 = .ok (.aload_n 0, 1) := dk_42 (dk_at dksX8_advance_4 14 rfl rfl)
theorem dX8_advance_108 : decode cX8_advance 108 = .ok (.getfield 52, 3) := dk_180 0 52 (dk_at dksX8_advance_4 15 rfl rfl)
theorem dX8_advance_111 : decode cX8_advance 111 = .ok (.invokevirtual 44, 3) := dk_182 0 44 (dk_at dksX8_advance_4 18 rfl rfl)
theorem dX8_advance_114 : decode cX8_advance 114 = .ok (.i2c, 1) := dk_146 (dk_at dksX8_advance_4 21 rfl rfl)
theorem dX8_advance_115 : decode cX8_advance 115 = .ok (.invokevirtual 65, 3) := dk_182 0 65 (dk_at dksX8_advance_5 0 rfl rfl)
theorem dX8_advance_118 : decode cX8_advance 118 = .ok (.pop, 1) := dk_87 (dk_at dksX8_advance_5 3 rfl rfl)
theorem dX8_advance_119 : decode cX8_advance 119 = .ok (.aload_n 0, 1) := dk_42 (dk_at dksX8_advance_5 4 rfl rfl)
theorem dX8_advance_120 : decode cX8_advance 120 = .ok (.dup, 1) := dk_89 (dk_at dksX8_advance_5 5 rfl rfl)
theorem dX8_advance_121 : decode cX8_advance 121 = .ok (.getfield 52, 3) := dk_180 0 52 (dk_at dksX8_advance_5 6 rfl rfl)
theorem dX8_advance_124 : decode cX8_advance 124 = .ok (.iconst 1, 1) := dk_4 (dk_at dksX8_advance_5 9 rfl rfl)
theorem dX8_advance_125 : decode cX8_advance 125 = .ok (.iadd, 1) := dk_96 (dk_at dksX8_advance_5 10 rfl rfl)
theorem dX8_advance_126 : decode cX8_advance 126 = .ok (.putfield 52, 3) := dk_181 0 52 (dk_at dksX8_advance_5 11 rfl rfl)
theorem dX8_advance_129 : decode cX8_advance 129 = .ok (.goto (-35), 3) := dk_167 255 221 (dk_at dksX8_advance_5 14 rfl rfl)
theorem dX8_advance_132 : decode cX8_advance 132 = .ok (.aload_n 0, 1) := dk_42 (dk_at dksX8_advance_5 17 rfl rfl)
theorem dX8_advance_133 : decode cX8_advance 133 = .ok (.aload_n 1, 1) := dk_43 (dk_at dksX8_advance_5 18 rfl rfl)
theorem dX8_advance_134 : decode cX8_advance 134 = .ok (.invokevirtual 69, 3) := dk_182 0 69 (dk_at dksX8_advance_5 19 rfl rfl)
theorem dX8_advance_137 : decode cX8_advance 137 = .ok (.putfield 33, 3) := dk_181 0 33 (dk_at dksX8_advance_6 0 rfl rfl)
theorem dX8_advance_140 : decode cX8_advance 140 = .ok (.aload_n 0, 1) := dk_42 (dk_at dksX8_advance_6 3 rfl rfl)
theorem dX8_advance_141 : decode cX8_advance 141 = .ok (.getstatic 73, 3) := dk_178 0 73 (dk_at dksX8_advance_6 4 rfl rfl)
theorem dX8_advance_144 : decode cX8_advance 144 = .ok (.putfield 28, 3) := dk_181 0 28 (dk_at dksX8_advance_6 7 rfl rfl)
theorem dX8_advance_147 : decode cX8_advance 147 = .ok (.goto 98, 3) := dk_167 0 98 (dk_at dksX8_advance_6 10 rfl rfl)
theorem dX8_advance_150 : decode cX8_advance 150 = .ok (.aload_n 0, 1) := dk_42 (dk_at dksX8_advance_6 13 rfl rfl)
theorem dX8_advance_151 : decode cX8_advance 151 = .ok (.aload_n 0, 1) := dk_42 (dk_at dksX8_advance_6 14 rfl rfl)
theorem dX8_advance_152 : decode cX8_advance 152 = .ok (.getfield 52, 3) := dk_180 0 52 (dk_at dksX8_advance_6 15 rfl rfl)
theorem dX8_advance_155 : decode cX8_advance 155 = .ok (.invokevirtual 76, 3) := dk_182 0 76 (dk_at dksX8_advance_6 18 rfl rfl)
theorem dX8_advance_158 : decode cX8_advance 158 = .ok (.ifCond .eq 70, 3) := dk_153 0 70 (dk_at dksX8_advance_6 21 rfl rfl)
theorem dX8_advance_161 : decode cX8_advance 161 = .ok (.aload_n 0, 1) := dk_42 (dk_at dksX8_advance_7 0 rfl rfl)
theorem dX8_advance_162 : decode cX8_advance 162 = .ok (.iconst 0, 1) := dk_3 (dk_at dksX8_advance_7 1 rfl rfl)
theorem dX8_advance_163 : decode cX8_advance 163 = .ok (.putfield 79, 3) := dk_181 0 79 (dk_at dksX8_advance_7 2 rfl rfl)
theorem dX8_advance_166 : decode cX8_advance 166 = .ok (.aload_n 0, 1) := dk_42 (dk_at dksX8_advance_7 5 rfl rfl)
theorem dX8_advance_167 : decode cX8_advance 167 = .ok (.aload_n 0, 1) := dk_42 (dk_at dksX8_advance_7 6 rfl rfl)
theorem dX8_advance_168 : decode cX8_advance 168 = .ok (.getfield 52, 3) := dk_180 0 52 (dk_at dksX8_advance_7 7 rfl rfl)
theorem dX8_advance_171 : decode cX8_advance 171 = .ok (.invokevirtual 76, 3) := dk_182 0 76 (dk_at dksX8_advance_7 10 rfl rfl)
theorem dX8_advance_174 : decode cX8_advance 174 = .ok (.ifCond .eq 44, 3) := dk_153 0 44 (dk_at dksX8_advance_7 13 rfl rfl)
theorem dX8_advance_177 : decode cX8_advance 177 = .ok (.aload_n 0, 1) := dk_42 (dk_at dksX8_advance_7 16 rfl rfl)
theorem dX8_advance_178 : decode cX8_advance 178 = .ok (.ldc 82, 2) := dk_18 82 (dk_at dksX8_advance_7 17 rfl rfl)
theorem dX8_advance_180 : decode cX8_advance 180 = .ok (.bipush 10, 2) := dk_16 10 (dk_at dksX8_advance_7 19 rfl rfl)
theorem dX8_advance_182 : decode cX8_advance 182 = .ok (.aload_n 0, 1) := dk_42 (dk_at dksX8_advance_7 21 rfl rfl)
theorem dX8_advance_183 : decode cX8_advance 183 = .ok (.getfield 79, 3) := dk_180 0 79 (dk_at dksX8_advance_8 0 rfl rfl)
theorem dX8_advance_186 : decode cX8_advance 186 = .ok (.imul, 1) := dk_104 (dk_at dksX8_advance_8 3 rfl rfl)
theorem dX8_advance_187 : decode cX8_advance 187 = .ok (.aload_n 0, 1) := dk_42 (dk_at dksX8_advance_8 4 rfl rfl)
theorem dX8_advance_188 : decode cX8_advance 188 = .ok (.aload_n 0, 1) := dk_42 (dk_at dksX8_advance_8 5 rfl rfl)
theorem dX8_advance_189 : decode cX8_advance 189 = .ok (.getfield 52, 3) := dk_180 0 52 (dk_at dksX8_advance_8 6 rfl rfl)
theorem dX8_advance_192 : decode cX8_advance 192 = .ok (.invokevirtual 44, 3) := dk_182 0 44 (dk_at dksX8_advance_8 9 rfl rfl)
theorem dX8_advance_195 : decode cX8_advance 195 = .ok (.iadd, 1) := dk_96 (dk_at dksX8_advance_8 12 rfl rfl)
theorem dX8_advance_196 : decode cX8_advance 196 = .ok (.bipush 48, 2) := dk_16 48 (dk_at dksX8_advance_8 13 rfl rfl)
theorem dX8_advance_198 : decode cX8_advance 198 = .ok (.isub, 1) := dk_100 (dk_at dksX8_advance_8 15 rfl rfl)
theorem dX8_advance_199 : decode cX8_advance 199 = .ok (.invokestatic 83, 3) := dk_184 0 83 (dk_at dksX8_advance_8 16 rfl rfl)
theorem dX8_advance_202 : decode cX8_advance 202 = .ok (.putfield 79, 3) := dk_181 0 79 (dk_at dksX8_advance_8 19 rfl rfl)
theorem dX8_advance_205 : decode cX8_advance 205 = .ok (.aload_n 0, 1) := dk_42 (dk_at dksX8_advance_8 22 rfl rfl)
theorem dX8_advance_206 : decode cX8_advance 206 = .ok (.dup, 1) := dk_89 (dk_at dksX8_advance_8 23 rfl rfl)
theorem dX8_advance_207 : decode cX8_advance 207 = .ok (.getfield 52, 3) := dk_180 0 52 (dk_at dksX8_advance_9 0 rfl rfl)
theorem dX8_advance_210 : decode cX8_advance 210 = .ok (.iconst 1, 1) := dk_4 (dk_at dksX8_advance_9 3 rfl rfl)
theorem dX8_advance_211 : decode cX8_advance 211 = .ok (.iadd, 1) := dk_96 (dk_at dksX8_advance_9 4 rfl rfl)
theorem dX8_advance_212 : decode cX8_advance 212 = .ok (.putfield 52, 3) := dk_181 0 52 (dk_at dksX8_advance_9 5 rfl rfl)
theorem dX8_advance_215 : decode cX8_advance 215 = .ok (.goto (-49), 3) := dk_167 255 207 (dk_at dksX8_advance_9 8 rfl rfl)
theorem dX8_advance_218 : decode cX8_advance 218 = .ok (.aload_n 0, 1) := dk_42 (dk_at dksX8_advance_9 11 rfl rfl)
theorem dX8_advance_219 : decode cX8_advance 219 = .ok (.getstatic 89, 3) := dk_178 0 89 (dk_at dksX8_advance_9 12 rfl rfl)
theorem dX8_advance_222 : decode cX8_advance 222 = .ok (.putfield 28, 3) := dk_181 0 28 (dk_at dksX8_advance_9 15 rfl rfl)
theorem dX8_advance_225 : decode cX8_advance 225 = .ok (.goto 20, 3) := dk_167 0 20 (dk_at dksX8_advance_9 18 rfl rfl)
theorem dX8_advance_228 : decode cX8_advance 228 = .ok (.aload_n 0, 1) := dk_42 (dk_at dksX8_advance_9 21 rfl rfl)
theorem dX8_advance_229 : decode cX8_advance 229 = .ok (.dup, 1) := dk_89 (dk_at dksX8_advance_9 22 rfl rfl)
theorem dX8_advance_230 : decode cX8_advance 230 = .ok (.getfield 52, 3) := dk_180 0 52 (dk_at dksX8_advance_10 0 rfl rfl)
theorem dX8_advance_233 : decode cX8_advance 233 = .ok (.iconst 1, 1) := dk_4 (dk_at dksX8_advance_10 3 rfl rfl)
theorem dX8_advance_234 : decode cX8_advance 234 = .ok (.iadd, 1) := dk_96 (dk_at dksX8_advance_10 4 rfl rfl)
theorem dX8_advance_235 : decode cX8_advance 235 = .ok (.putfield 52, 3) := dk_181 0 52 (dk_at dksX8_advance_10 5 rfl rfl)
theorem dX8_advance_238 : decode cX8_advance 238 = .ok (.aload_n 0, 1) := dk_42 (dk_at dksX8_advance_10 8 rfl rfl)
theorem dX8_advance_239 : decode cX8_advance 239 = .ok (.getstatic 92, 3) := dk_178 0 92 (dk_at dksX8_advance_10 9 rfl rfl)
theorem dX8_advance_242 : decode cX8_advance 242 = .ok (.putfield 28, 3) := dk_181 0 28 (dk_at dksX8_advance_10 12 rfl rfl)
theorem dX8_advance_245 : decode cX8_advance 245 = .ok (.return_, 1) := dk_177 (dk_at dksX8_advance_10 15 rfl rfl)
abbrev cX8_byteAt : ByteArray := prog_10_method_2_code
def yX8_byteAt : MethodName := ⟨RX8, "byteAt", "(I)I"⟩
def dkwX8_byteAt_1 : List UInt8 := [2, 172]
abbrev dktX8_byteAt_1 : List UInt8 := dkwX8_byteAt_1 ++ []
def dkwX8_byteAt_0 : List UInt8 := [27, 42, 180, 0, 19, 162, 0, 19, 42, 180, 0, 3, 180, 0, 40, 27, 51, 17, 0, 255, 126, 167, 0, 4]
abbrev dktX8_byteAt_0 : List UInt8 := dkwX8_byteAt_0 ++ dktX8_byteAt_1
theorem dksX8_byteAt_0 : cX8_byteAt.data.toList.drop 0 = dktX8_byteAt_0 := by decide +kernel
theorem dksX8_byteAt_1 : cX8_byteAt.data.toList.drop 24 = dktX8_byteAt_1 := dk_seg dksX8_byteAt_0 24 rfl rfl
theorem dX8_byteAt_0 : decode cX8_byteAt 0 = .ok (.iload_n 1, 1) := dk_27 (dk_at dksX8_byteAt_0 0 rfl rfl)
theorem dX8_byteAt_1 : decode cX8_byteAt 1 = .ok (.aload_n 0, 1) := dk_42 (dk_at dksX8_byteAt_0 1 rfl rfl)
theorem dX8_byteAt_2 : decode cX8_byteAt 2 = .ok (.getfield 19, 3) := dk_180 0 19 (dk_at dksX8_byteAt_0 2 rfl rfl)
theorem dX8_byteAt_5 : decode cX8_byteAt 5 = .ok (.if_icmp .ge 19, 3) := dk_162 0 19 (dk_at dksX8_byteAt_0 5 rfl rfl)
theorem dX8_byteAt_8 : decode cX8_byteAt 8 = .ok (.aload_n 0, 1) := dk_42 (dk_at dksX8_byteAt_0 8 rfl rfl)
theorem dX8_byteAt_9 : decode cX8_byteAt 9 = .ok (.getfield 3, 3) := dk_180 0 3 (dk_at dksX8_byteAt_0 9 rfl rfl)
theorem dX8_byteAt_12 : decode cX8_byteAt 12 = .ok (.getfield 40, 3) := dk_180 0 40 (dk_at dksX8_byteAt_0 12 rfl rfl)
theorem dX8_byteAt_15 : decode cX8_byteAt 15 = .ok (.iload_n 1, 1) := dk_27 (dk_at dksX8_byteAt_0 15 rfl rfl)
theorem dX8_byteAt_16 : decode cX8_byteAt 16 = .ok (.baload, 1) := dk_51 (dk_at dksX8_byteAt_0 16 rfl rfl)
theorem dX8_byteAt_17 : decode cX8_byteAt 17 = .ok (.sipush 255, 3) := dk_17 0 255 (dk_at dksX8_byteAt_0 17 rfl rfl)
theorem dX8_byteAt_20 : decode cX8_byteAt 20 = .ok (.iand, 1) := dk_126 (dk_at dksX8_byteAt_0 20 rfl rfl)
theorem dX8_byteAt_21 : decode cX8_byteAt 21 = .ok (.goto 4, 3) := dk_167 0 4 (dk_at dksX8_byteAt_0 21 rfl rfl)
theorem dX8_byteAt_24 : decode cX8_byteAt 24 = .ok (.iconst (-1), 1) := dk_2 (dk_at dksX8_byteAt_1 0 rfl rfl)
theorem dX8_byteAt_25 : decode cX8_byteAt 25 = .ok (.ireturn, 1) := dk_172 (dk_at dksX8_byteAt_1 1 rfl rfl)
abbrev cX8_isLetter : ByteArray := prog_10_method_3_code
def yX8_isLetter : MethodName := ⟨RX8, "isLetter", "(I)Z"⟩
def dkwX8_isLetter_0 : List UInt8 := [42, 27, 182, 0, 44, 16, 97, 16, 122, 184, 0, 48, 172]
abbrev dktX8_isLetter_0 : List UInt8 := dkwX8_isLetter_0 ++ []
theorem dksX8_isLetter_0 : cX8_isLetter.data.toList.drop 0 = dktX8_isLetter_0 := by decide +kernel
theorem dX8_isLetter_0 : decode cX8_isLetter 0 = .ok (.aload_n 0, 1) := dk_42 (dk_at dksX8_isLetter_0 0 rfl rfl)
theorem dX8_isLetter_1 : decode cX8_isLetter 1 = .ok (.iload_n 1, 1) := dk_27 (dk_at dksX8_isLetter_0 1 rfl rfl)
theorem dX8_isLetter_2 : decode cX8_isLetter 2 = .ok (.invokevirtual 44, 3) := dk_182 0 44 (dk_at dksX8_isLetter_0 2 rfl rfl)
theorem dX8_isLetter_5 : decode cX8_isLetter 5 = .ok (.bipush 97, 2) := dk_16 97 (dk_at dksX8_isLetter_0 5 rfl rfl)
theorem dX8_isLetter_7 : decode cX8_isLetter 7 = .ok (.bipush 122, 2) := dk_16 122 (dk_at dksX8_isLetter_0 7 rfl rfl)
theorem dX8_isLetter_9 : decode cX8_isLetter 9 = .ok (.invokestatic 48, 3) := dk_184 0 48 (dk_at dksX8_isLetter_0 9 rfl rfl)
theorem dX8_isLetter_12 : decode cX8_isLetter 12 = .ok (.ireturn, 1) := dk_172 (dk_at dksX8_isLetter_0 12 rfl rfl)
abbrev cX8_isDigit : ByteArray := prog_10_method_4_code
def yX8_isDigit : MethodName := ⟨RX8, "isDigit", "(I)Z"⟩
def dkwX8_isDigit_0 : List UInt8 := [42, 27, 182, 0, 44, 16, 48, 16, 57, 184, 0, 48, 172]
abbrev dktX8_isDigit_0 : List UInt8 := dkwX8_isDigit_0 ++ []
theorem dksX8_isDigit_0 : cX8_isDigit.data.toList.drop 0 = dktX8_isDigit_0 := by decide +kernel
theorem dX8_isDigit_0 : decode cX8_isDigit 0 = .ok (.aload_n 0, 1) := dk_42 (dk_at dksX8_isDigit_0 0 rfl rfl)
theorem dX8_isDigit_1 : decode cX8_isDigit 1 = .ok (.iload_n 1, 1) := dk_27 (dk_at dksX8_isDigit_0 1 rfl rfl)
theorem dX8_isDigit_2 : decode cX8_isDigit 2 = .ok (.invokevirtual 44, 3) := dk_182 0 44 (dk_at dksX8_isDigit_0 2 rfl rfl)
theorem dX8_isDigit_5 : decode cX8_isDigit 5 = .ok (.bipush 48, 2) := dk_16 48 (dk_at dksX8_isDigit_0 5 rfl rfl)
theorem dX8_isDigit_7 : decode cX8_isDigit 7 = .ok (.bipush 57, 2) := dk_16 57 (dk_at dksX8_isDigit_0 7 rfl rfl)
theorem dX8_isDigit_9 : decode cX8_isDigit 9 = .ok (.invokestatic 48, 3) := dk_184 0 48 (dk_at dksX8_isDigit_0 9 rfl rfl)
theorem dX8_isDigit_12 : decode cX8_isDigit 12 = .ok (.ireturn, 1) := dk_172 (dk_at dksX8_isDigit_0 12 rfl rfl)
abbrev cX8_word : ByteArray := prog_10_method_8_code
def yX8_word : MethodName := ⟨RX8, "word", "()Ljava/lang/String;"⟩
theorem dX8_word_0 : decode cX8_word 0 = .ok (.aload_n 0, 1) := by decide +kernel
theorem dX8_word_1 : decode cX8_word 1 = .ok (.getfield 33, 3) := by decide +kernel
theorem dX8_word_4 : decode cX8_word 4 = .ok (.areturn, 1) := by decide +kernel
abbrev cX8_require : ByteArray := prog_10_method_6_code
def yX8_require : MethodName := ⟨RX8, "require", "(ZI)V"⟩
def dkwX8_require_0 : List UInt8 := [27, 154, 0, 16, 187, 0, 95, 89, 28, 42, 180, 0, 55, 183, 0, 97, 191, 177]
abbrev dktX8_require_0 : List UInt8 := dkwX8_require_0 ++ []
theorem dksX8_require_0 : cX8_require.data.toList.drop 0 = dktX8_require_0 := by decide +kernel
theorem dX8_require_0 : decode cX8_require 0 = .ok (.iload_n 1, 1) := dk_27 (dk_at dksX8_require_0 0 rfl rfl)
theorem dX8_require_1 : decode cX8_require 1 = .ok (.ifCond .ne 16, 3) := dk_154 0 16 (dk_at dksX8_require_0 1 rfl rfl)
theorem dX8_require_4 : decode cX8_require 4 = .ok (.new 95, 3) := dk_187 0 95 (dk_at dksX8_require_0 4 rfl rfl)
theorem dX8_require_7 : decode cX8_require 7 = .ok (.dup, 1) := dk_89 (dk_at dksX8_require_0 7 rfl rfl)
theorem dX8_require_8 : decode cX8_require 8 = .ok (.iload_n 2, 1) := dk_28 (dk_at dksX8_require_0 8 rfl rfl)
theorem dX8_require_9 : decode cX8_require 9 = .ok (.aload_n 0, 1) := dk_42 (dk_at dksX8_require_0 9 rfl rfl)
theorem dX8_require_10 : decode cX8_require 10 = .ok (.getfield 55, 3) := dk_180 0 55 (dk_at dksX8_require_0 10 rfl rfl)
theorem dX8_require_13 : decode cX8_require 13 = .ok (.invokespecial 97, 3) := dk_183 0 97 (dk_at dksX8_require_0 13 rfl rfl)
theorem dX8_require_16 : decode cX8_require 16 = .ok (.athrow, 1) := dk_191 (dk_at dksX8_require_0 16 rfl rfl)
theorem dX8_require_17 : decode cX8_require 17 = .ok (.return_, 1) := dk_177 (dk_at dksX8_require_0 17 rfl rfl)
abbrev cX8_number : ByteArray := prog_10_method_12_code
def yX8_number : MethodName := ⟨RX8, "number", "(II)I"⟩
def dkwX8_number_0 : List UInt8 := [42, 27, 28, 182, 0, 107, 62, 42, 182, 0, 37, 29, 172]
abbrev dktX8_number_0 : List UInt8 := dkwX8_number_0 ++ []
theorem dksX8_number_0 : cX8_number.data.toList.drop 0 = dktX8_number_0 := by decide +kernel
theorem dX8_number_0 : decode cX8_number 0 = .ok (.aload_n 0, 1) := dk_42 (dk_at dksX8_number_0 0 rfl rfl)
theorem dX8_number_1 : decode cX8_number 1 = .ok (.iload_n 1, 1) := dk_27 (dk_at dksX8_number_0 1 rfl rfl)
theorem dX8_number_2 : decode cX8_number 2 = .ok (.iload_n 2, 1) := dk_28 (dk_at dksX8_number_0 2 rfl rfl)
theorem dX8_number_3 : decode cX8_number 3 = .ok (.invokevirtual 107, 3) := dk_182 0 107 (dk_at dksX8_number_0 3 rfl rfl)
theorem dX8_number_6 : decode cX8_number 6 = .ok (.istore_n 3, 1) := dk_62 (dk_at dksX8_number_0 6 rfl rfl)
theorem dX8_number_7 : decode cX8_number 7 = .ok (.aload_n 0, 1) := dk_42 (dk_at dksX8_number_0 7 rfl rfl)
theorem dX8_number_8 : decode cX8_number 8 = .ok (.invokevirtual 37, 3) := dk_182 0 37 (dk_at dksX8_number_0 8 rfl rfl)
theorem dX8_number_11 : decode cX8_number 11 = .ok (.iload_n 3, 1) := dk_29 (dk_at dksX8_number_0 11 rfl rfl)
theorem dX8_number_12 : decode cX8_number 12 = .ok (.ireturn, 1) := dk_172 (dk_at dksX8_number_0 12 rfl rfl)
abbrev cX8_peekNumber : ByteArray := prog_10_method_11_code
def yX8_peekNumber : MethodName := ⟨RX8, "peekNumber", "(II)I"⟩
def dkwX8_peekNumber_1 : List UInt8 := [180, 0, 79, 27, 28, 184, 0, 48, 5, 182, 0, 103, 42, 180, 0, 79, 172]
abbrev dktX8_peekNumber_1 : List UInt8 := dkwX8_peekNumber_1 ++ []
def dkwX8_peekNumber_0 : List UInt8 := [42, 42, 180, 0, 28, 178, 0, 89, 166, 0, 7, 4, 167, 0, 4, 3, 4, 182, 0, 103, 42, 42]
abbrev dktX8_peekNumber_0 : List UInt8 := dkwX8_peekNumber_0 ++ dktX8_peekNumber_1
theorem dksX8_peekNumber_0 : cX8_peekNumber.data.toList.drop 0 = dktX8_peekNumber_0 := by decide +kernel
theorem dksX8_peekNumber_1 : cX8_peekNumber.data.toList.drop 22 = dktX8_peekNumber_1 := dk_seg dksX8_peekNumber_0 22 rfl rfl
theorem dX8_peekNumber_0 : decode cX8_peekNumber 0 = .ok (.aload_n 0, 1) := dk_42 (dk_at dksX8_peekNumber_0 0 rfl rfl)
theorem dX8_peekNumber_1 : decode cX8_peekNumber 1 = .ok (.aload_n 0, 1) := dk_42 (dk_at dksX8_peekNumber_0 1 rfl rfl)
theorem dX8_peekNumber_2 : decode cX8_peekNumber 2 = .ok (.getfield 28, 3) := dk_180 0 28 (dk_at dksX8_peekNumber_0 2 rfl rfl)
theorem dX8_peekNumber_5 : decode cX8_peekNumber 5 = .ok (.getstatic 89, 3) := dk_178 0 89 (dk_at dksX8_peekNumber_0 5 rfl rfl)
theorem dX8_peekNumber_8 : decode cX8_peekNumber 8 = .ok (.if_acmp .ne 7, 3) := dk_166 0 7 (dk_at dksX8_peekNumber_0 8 rfl rfl)
theorem dX8_peekNumber_11 : decode cX8_peekNumber 11 = .ok (.iconst 1, 1) := dk_4 (dk_at dksX8_peekNumber_0 11 rfl rfl)
theorem dX8_peekNumber_12 : decode cX8_peekNumber 12 = .ok (.goto 4, 3) := dk_167 0 4 (dk_at dksX8_peekNumber_0 12 rfl rfl)
theorem dX8_peekNumber_15 : decode cX8_peekNumber 15 = .ok (.iconst 0, 1) := dk_3 (dk_at dksX8_peekNumber_0 15 rfl rfl)
theorem dX8_peekNumber_16 : decode cX8_peekNumber 16 = .ok (.iconst 1, 1) := dk_4 (dk_at dksX8_peekNumber_0 16 rfl rfl)
theorem dX8_peekNumber_17 : decode cX8_peekNumber 17 = .ok (.invokevirtual 103, 3) := dk_182 0 103 (dk_at dksX8_peekNumber_0 17 rfl rfl)
theorem dX8_peekNumber_20 : decode cX8_peekNumber 20 = .ok (.aload_n 0, 1) := dk_42 (dk_at dksX8_peekNumber_0 20 rfl rfl)
theorem dX8_peekNumber_21 : decode cX8_peekNumber 21 = .ok (.aload_n 0, 1) := dk_42 (dk_at dksX8_peekNumber_0 21 rfl rfl)
theorem dX8_peekNumber_22 : decode cX8_peekNumber 22 = .ok (.getfield 79, 3) := dk_180 0 79 (dk_at dksX8_peekNumber_1 0 rfl rfl)
theorem dX8_peekNumber_25 : decode cX8_peekNumber 25 = .ok (.iload_n 1, 1) := dk_27 (dk_at dksX8_peekNumber_1 3 rfl rfl)
theorem dX8_peekNumber_26 : decode cX8_peekNumber 26 = .ok (.iload_n 2, 1) := dk_28 (dk_at dksX8_peekNumber_1 4 rfl rfl)
theorem dX8_peekNumber_27 : decode cX8_peekNumber 27 = .ok (.invokestatic 48, 3) := dk_184 0 48 (dk_at dksX8_peekNumber_1 5 rfl rfl)
theorem dX8_peekNumber_30 : decode cX8_peekNumber 30 = .ok (.iconst 2, 1) := dk_5 (dk_at dksX8_peekNumber_1 8 rfl rfl)
theorem dX8_peekNumber_31 : decode cX8_peekNumber 31 = .ok (.invokevirtual 103, 3) := dk_182 0 103 (dk_at dksX8_peekNumber_1 9 rfl rfl)
theorem dX8_peekNumber_34 : decode cX8_peekNumber 34 = .ok (.aload_n 0, 1) := dk_42 (dk_at dksX8_peekNumber_1 12 rfl rfl)
theorem dX8_peekNumber_35 : decode cX8_peekNumber 35 = .ok (.getfield 79, 3) := dk_180 0 79 (dk_at dksX8_peekNumber_1 13 rfl rfl)
theorem dX8_peekNumber_38 : decode cX8_peekNumber 38 = .ok (.ireturn, 1) := dk_172 (dk_at dksX8_peekNumber_1 16 rfl rfl)
abbrev cX8_sign : ByteArray := prog_10_method_10_code
def yX8_sign : MethodName := ⟨RX8, "sign", "(I)V"⟩
def dkwX8_sign_0 : List UInt8 := [42, 42, 27, 182, 0, 100, 4, 182, 0, 103, 42, 182, 0, 37, 177]
abbrev dktX8_sign_0 : List UInt8 := dkwX8_sign_0 ++ []
theorem dksX8_sign_0 : cX8_sign.data.toList.drop 0 = dktX8_sign_0 := by decide +kernel
theorem dX8_sign_0 : decode cX8_sign 0 = .ok (.aload_n 0, 1) := dk_42 (dk_at dksX8_sign_0 0 rfl rfl)
theorem dX8_sign_1 : decode cX8_sign 1 = .ok (.aload_n 0, 1) := dk_42 (dk_at dksX8_sign_0 1 rfl rfl)
theorem dX8_sign_2 : decode cX8_sign 2 = .ok (.iload_n 1, 1) := dk_27 (dk_at dksX8_sign_0 2 rfl rfl)
theorem dX8_sign_3 : decode cX8_sign 3 = .ok (.invokevirtual 100, 3) := dk_182 0 100 (dk_at dksX8_sign_0 3 rfl rfl)
theorem dX8_sign_6 : decode cX8_sign 6 = .ok (.iconst 1, 1) := dk_4 (dk_at dksX8_sign_0 6 rfl rfl)
theorem dX8_sign_7 : decode cX8_sign 7 = .ok (.invokevirtual 103, 3) := dk_182 0 103 (dk_at dksX8_sign_0 7 rfl rfl)
theorem dX8_sign_10 : decode cX8_sign 10 = .ok (.aload_n 0, 1) := dk_42 (dk_at dksX8_sign_0 10 rfl rfl)
theorem dX8_sign_11 : decode cX8_sign 11 = .ok (.invokevirtual 37, 3) := dk_182 0 37 (dk_at dksX8_sign_0 11 rfl rfl)
theorem dX8_sign_14 : decode cX8_sign 14 = .ok (.return_, 1) := dk_177 (dk_at dksX8_sign_0 14 rfl rfl)
abbrev cX8_isSign : ByteArray := prog_10_method_9_code
def yX8_isSign : MethodName := ⟨RX8, "isSign", "(I)Z"⟩
def dkwX8_isSign_1 : List UInt8 := [167, 0, 4, 3, 172]
abbrev dktX8_isSign_1 : List UInt8 := dkwX8_isSign_1 ++ []
def dkwX8_isSign_0 : List UInt8 := [42, 180, 0, 28, 178, 0, 92, 166, 0, 19, 42, 42, 180, 0, 55, 182, 0, 44, 27, 160, 0, 7, 4]
abbrev dktX8_isSign_0 : List UInt8 := dkwX8_isSign_0 ++ dktX8_isSign_1
theorem dksX8_isSign_0 : cX8_isSign.data.toList.drop 0 = dktX8_isSign_0 := by decide +kernel
theorem dksX8_isSign_1 : cX8_isSign.data.toList.drop 23 = dktX8_isSign_1 := dk_seg dksX8_isSign_0 23 rfl rfl
theorem dX8_isSign_0 : decode cX8_isSign 0 = .ok (.aload_n 0, 1) := dk_42 (dk_at dksX8_isSign_0 0 rfl rfl)
theorem dX8_isSign_1 : decode cX8_isSign 1 = .ok (.getfield 28, 3) := dk_180 0 28 (dk_at dksX8_isSign_0 1 rfl rfl)
theorem dX8_isSign_4 : decode cX8_isSign 4 = .ok (.getstatic 92, 3) := dk_178 0 92 (dk_at dksX8_isSign_0 4 rfl rfl)
theorem dX8_isSign_7 : decode cX8_isSign 7 = .ok (.if_acmp .ne 19, 3) := dk_166 0 19 (dk_at dksX8_isSign_0 7 rfl rfl)
theorem dX8_isSign_10 : decode cX8_isSign 10 = .ok (.aload_n 0, 1) := dk_42 (dk_at dksX8_isSign_0 10 rfl rfl)
theorem dX8_isSign_11 : decode cX8_isSign 11 = .ok (.aload_n 0, 1) := dk_42 (dk_at dksX8_isSign_0 11 rfl rfl)
theorem dX8_isSign_12 : decode cX8_isSign 12 = .ok (.getfield 55, 3) := dk_180 0 55 (dk_at dksX8_isSign_0 12 rfl rfl)
theorem dX8_isSign_15 : decode cX8_isSign 15 = .ok (.invokevirtual 44, 3) := dk_182 0 44 (dk_at dksX8_isSign_0 15 rfl rfl)
theorem dX8_isSign_18 : decode cX8_isSign 18 = .ok (.iload_n 1, 1) := dk_27 (dk_at dksX8_isSign_0 18 rfl rfl)
theorem dX8_isSign_19 : decode cX8_isSign 19 = .ok (.if_icmp .ne 7, 3) := dk_160 0 7 (dk_at dksX8_isSign_0 19 rfl rfl)
theorem dX8_isSign_22 : decode cX8_isSign 22 = .ok (.iconst 1, 1) := dk_4 (dk_at dksX8_isSign_0 22 rfl rfl)
theorem dX8_isSign_23 : decode cX8_isSign 23 = .ok (.goto 4, 3) := dk_167 0 4 (dk_at dksX8_isSign_1 0 rfl rfl)
theorem dX8_isSign_26 : decode cX8_isSign 26 = .ok (.iconst 0, 1) := dk_3 (dk_at dksX8_isSign_1 3 rfl rfl)
theorem dX8_isSign_27 : decode cX8_isSign 27 = .ok (.ireturn, 1) := dk_172 (dk_at dksX8_isSign_1 4 rfl rfl)
abbrev cX8_peekName : ByteArray := prog_10_method_13_code
def yX8_peekName : MethodName := ⟨RX8, "peekName", "()Ljava/lang/String;"⟩
def dkwX8_peekName_2 : List UInt8 := [176]
abbrev dktX8_peekName_2 : List UInt8 := dkwX8_peekName_2 ++ []
def dkwX8_peekName_1 : List UInt8 := [180, 0, 33, 182, 0, 110, 16, 6, 163, 0, 7, 4, 167, 0, 4, 3, 5, 182, 0, 103, 42, 180, 0, 33]
abbrev dktX8_peekName_1 : List UInt8 := dkwX8_peekName_1 ++ dktX8_peekName_2
def dkwX8_peekName_0 : List UInt8 := [42, 42, 180, 0, 28, 178, 0, 73, 166, 0, 7, 4, 167, 0, 4, 3, 4, 182, 0, 103, 42, 42]
abbrev dktX8_peekName_0 : List UInt8 := dkwX8_peekName_0 ++ dktX8_peekName_1
theorem dksX8_peekName_0 : cX8_peekName.data.toList.drop 0 = dktX8_peekName_0 := by decide +kernel
theorem dksX8_peekName_1 : cX8_peekName.data.toList.drop 22 = dktX8_peekName_1 := dk_seg dksX8_peekName_0 22 rfl rfl
theorem dksX8_peekName_2 : cX8_peekName.data.toList.drop 46 = dktX8_peekName_2 := dk_seg dksX8_peekName_1 24 rfl rfl
theorem dX8_peekName_0 : decode cX8_peekName 0 = .ok (.aload_n 0, 1) := dk_42 (dk_at dksX8_peekName_0 0 rfl rfl)
theorem dX8_peekName_1 : decode cX8_peekName 1 = .ok (.aload_n 0, 1) := dk_42 (dk_at dksX8_peekName_0 1 rfl rfl)
theorem dX8_peekName_2 : decode cX8_peekName 2 = .ok (.getfield 28, 3) := dk_180 0 28 (dk_at dksX8_peekName_0 2 rfl rfl)
theorem dX8_peekName_5 : decode cX8_peekName 5 = .ok (.getstatic 73, 3) := dk_178 0 73 (dk_at dksX8_peekName_0 5 rfl rfl)
theorem dX8_peekName_8 : decode cX8_peekName 8 = .ok (.if_acmp .ne 7, 3) := dk_166 0 7 (dk_at dksX8_peekName_0 8 rfl rfl)
theorem dX8_peekName_11 : decode cX8_peekName 11 = .ok (.iconst 1, 1) := dk_4 (dk_at dksX8_peekName_0 11 rfl rfl)
theorem dX8_peekName_12 : decode cX8_peekName 12 = .ok (.goto 4, 3) := dk_167 0 4 (dk_at dksX8_peekName_0 12 rfl rfl)
theorem dX8_peekName_15 : decode cX8_peekName 15 = .ok (.iconst 0, 1) := dk_3 (dk_at dksX8_peekName_0 15 rfl rfl)
theorem dX8_peekName_16 : decode cX8_peekName 16 = .ok (.iconst 1, 1) := dk_4 (dk_at dksX8_peekName_0 16 rfl rfl)
theorem dX8_peekName_17 : decode cX8_peekName 17 = .ok (.invokevirtual 103, 3) := dk_182 0 103 (dk_at dksX8_peekName_0 17 rfl rfl)
theorem dX8_peekName_20 : decode cX8_peekName 20 = .ok (.aload_n 0, 1) := dk_42 (dk_at dksX8_peekName_0 20 rfl rfl)
theorem dX8_peekName_21 : decode cX8_peekName 21 = .ok (.aload_n 0, 1) := dk_42 (dk_at dksX8_peekName_0 21 rfl rfl)
theorem dX8_peekName_22 : decode cX8_peekName 22 = .ok (.getfield 33, 3) := dk_180 0 33 (dk_at dksX8_peekName_1 0 rfl rfl)
theorem dX8_peekName_25 : decode cX8_peekName 25 = .ok (.invokevirtual 110, 3) := dk_182 0 110 (dk_at dksX8_peekName_1 3 rfl rfl)
theorem dX8_peekName_28 : decode cX8_peekName 28 = .ok (.bipush 6, 2) := dk_16 6 (dk_at dksX8_peekName_1 6 rfl rfl)
theorem dX8_peekName_30 : decode cX8_peekName 30 = .ok (.if_icmp .gt 7, 3) := dk_163 0 7 (dk_at dksX8_peekName_1 8 rfl rfl)
theorem dX8_peekName_33 : decode cX8_peekName 33 = .ok (.iconst 1, 1) := dk_4 (dk_at dksX8_peekName_1 11 rfl rfl)
theorem dX8_peekName_34 : decode cX8_peekName 34 = .ok (.goto 4, 3) := dk_167 0 4 (dk_at dksX8_peekName_1 12 rfl rfl)
theorem dX8_peekName_37 : decode cX8_peekName 37 = .ok (.iconst 0, 1) := dk_3 (dk_at dksX8_peekName_1 15 rfl rfl)
theorem dX8_peekName_38 : decode cX8_peekName 38 = .ok (.iconst 2, 1) := dk_5 (dk_at dksX8_peekName_1 16 rfl rfl)
theorem dX8_peekName_39 : decode cX8_peekName 39 = .ok (.invokevirtual 103, 3) := dk_182 0 103 (dk_at dksX8_peekName_1 17 rfl rfl)
theorem dX8_peekName_42 : decode cX8_peekName 42 = .ok (.aload_n 0, 1) := dk_42 (dk_at dksX8_peekName_1 20 rfl rfl)
theorem dX8_peekName_43 : decode cX8_peekName 43 = .ok (.getfield 33, 3) := dk_180 0 33 (dk_at dksX8_peekName_1 21 rfl rfl)
theorem dX8_peekName_46 : decode cX8_peekName 46 = .ok (.areturn, 1) := dk_176 (dk_at dksX8_peekName_2 0 rfl rfl)
abbrev cX8_isEnd : ByteArray := prog_10_method_7_code
def yX8_isEnd : MethodName := ⟨RX8, "isEnd", "()Z"⟩
def dkwX8_isEnd_0 : List UInt8 := [42, 180, 0, 28, 178, 0, 22, 166, 0, 7, 4, 167, 0, 4, 3, 172]
abbrev dktX8_isEnd_0 : List UInt8 := dkwX8_isEnd_0 ++ []
theorem dksX8_isEnd_0 : cX8_isEnd.data.toList.drop 0 = dktX8_isEnd_0 := by decide +kernel
theorem dX8_isEnd_0 : decode cX8_isEnd 0 = .ok (.aload_n 0, 1) := dk_42 (dk_at dksX8_isEnd_0 0 rfl rfl)
theorem dX8_isEnd_1 : decode cX8_isEnd 1 = .ok (.getfield 28, 3) := dk_180 0 28 (dk_at dksX8_isEnd_0 1 rfl rfl)
theorem dX8_isEnd_4 : decode cX8_isEnd 4 = .ok (.getstatic 22, 3) := dk_178 0 22 (dk_at dksX8_isEnd_0 4 rfl rfl)
theorem dX8_isEnd_7 : decode cX8_isEnd 7 = .ok (.if_acmp .ne 7, 3) := dk_166 0 7 (dk_at dksX8_isEnd_0 7 rfl rfl)
theorem dX8_isEnd_10 : decode cX8_isEnd 10 = .ok (.iconst 1, 1) := dk_4 (dk_at dksX8_isEnd_0 10 rfl rfl)
theorem dX8_isEnd_11 : decode cX8_isEnd 11 = .ok (.goto 4, 3) := dk_167 0 4 (dk_at dksX8_isEnd_0 11 rfl rfl)
theorem dX8_isEnd_14 : decode cX8_isEnd 14 = .ok (.iconst 0, 1) := dk_3 (dk_at dksX8_isEnd_0 14 rfl rfl)
theorem dX8_isEnd_15 : decode cX8_isEnd 15 = .ok (.ireturn, 1) := dk_172 (dk_at dksX8_isEnd_0 15 rfl rfl)
theorem q186 : (Jvm.Cond.initialized "RoseGuild$Parser") ∈ lw_all := lw_g (lw_at lw_m1 51 rfl) rfl
theorem q2080 : (Jvm.Cond.fieldLinkNest "RoseGuild$Parser" (40 : Nat) "RoseGuild" "text" "[B" "RoseGuild") ∈ lw_tbl := lw_at lw_m9 25 rfl
theorem q2081 : (Jvm.Cond.fieldLinkNest "RoseGuild$Parser" (15 : Nat) "RoseGuild" "textLength" "I" "RoseGuild") ∈ lw_tbl := lw_at lw_m9 26 rfl
theorem q2125 : (Jvm.Cond.instanceMethod ({ cls := "RoseGuild$Parser", name := "<init>", desc := "(LRoseGuild;)V" } : Jvm.MethodName)) ∈ lw_all := lw_g (lw_at lw_m9 70 rfl) rfl
theorem q2126 : (Jvm.Cond.code ({ cls := "RoseGuild$Parser", name := "<init>", desc := "(LRoseGuild;)V" } : Jvm.MethodName) prog_10_method_1_code (2 : Nat) (Option.none : Option Jvm.ClassFile.FieldType)) ∈ lw_all := lw_g (lw_at lw_m9 71 rfl) rfl
theorem q2127 : (Jvm.Cond.methodLink "RoseGuild$Parser" (9 : Nat) ({ cls := "java/lang/Object", name := "<init>", desc := "()V" } : Jvm.MethodName)) ∈ lw_all := lw_g (lw_at lw_m9 72 rfl) rfl
theorem q2128 : (Jvm.Cond.fieldLink "RoseGuild$Parser" (22 : Nat) "RoseGuild$TokenKind" "END" "LRoseGuild$TokenKind;") ∈ lw_all := lw_g (lw_at lw_m9 73 rfl) rfl
theorem q2130 : (Jvm.Cond.stringRef "RoseGuild$Parser" (31 : Nat) "") ∈ lw_tbl := lw_at lw_m9 75 rfl
theorem q2131 : (Jvm.Cond.methodLink "RoseGuild$Parser" (37 : Nat) ({ cls := "RoseGuild$Parser", name := "advance", desc := "()V" } : Jvm.MethodName)) ∈ lw_all := lw_g (lw_at lw_m9 76 rfl) rfl
theorem q2132 : (Jvm.Cond.instanceMethod ({ cls := "RoseGuild$Parser", name := "advance", desc := "()V" } : Jvm.MethodName)) ∈ lw_all := lw_g (lw_at lw_m9 77 rfl) rfl
theorem q2133 : (Jvm.Cond.sameMethod "RoseGuild$Parser" "RoseGuild$Parser" "advance" "()V") ∈ lw_all := lw_g (lw_at lw_m9 78 rfl) rfl
theorem q2136 : (Jvm.Cond.code ({ cls := "RoseGuild$Parser", name := "advance", desc := "()V" } : Jvm.MethodName) prog_10_method_5_code (2 : Nat) (Option.none : Option Jvm.ClassFile.FieldType)) ∈ lw_all := lw_g (lw_at lw_m9 81 rfl) rfl
theorem q2137 : (Jvm.Cond.methodLink "RoseGuild$Parser" (44 : Nat) ({ cls := "RoseGuild$Parser", name := "byteAt", desc := "(I)I" } : Jvm.MethodName)) ∈ lw_all := lw_g (lw_at lw_m9 82 rfl) rfl
theorem q2138 : (Jvm.Cond.privateMethod ({ cls := "RoseGuild$Parser", name := "byteAt", desc := "(I)I" } : Jvm.MethodName)) ∈ lw_tbl := lw_at lw_m9 83 rfl
theorem q2139 : (Jvm.Cond.instanceMethod ({ cls := "RoseGuild$Parser", name := "byteAt", desc := "(I)I" } : Jvm.MethodName)) ∈ lw_all := lw_g (lw_at lw_m9 84 rfl) rfl
theorem q2140 : (Jvm.Cond.instantiable "RoseGuild$Parser" (7 : Nat)) ∈ lw_all := lw_g (lw_at lw_m9 85 rfl) rfl
theorem q2141 : (Jvm.Cond.code ({ cls := "RoseGuild$Parser", name := "byteAt", desc := "(I)I" } : Jvm.MethodName) prog_10_method_2_code (2 : Nat) (Option.some Jvm.ClassFile.FieldType.int)) ∈ lw_all := lw_g (lw_at lw_m9 86 rfl) rfl
theorem q2142 : (Jvm.Cond.methodLink "RoseGuild$Parser" (58 : Nat) ({ cls := "RoseGuild$Parser", name := "isLetter", desc := "(I)Z" } : Jvm.MethodName)) ∈ lw_all := lw_g (lw_at lw_m9 87 rfl) rfl
theorem q2143 : (Jvm.Cond.privateMethod ({ cls := "RoseGuild$Parser", name := "isLetter", desc := "(I)Z" } : Jvm.MethodName)) ∈ lw_tbl := lw_at lw_m9 88 rfl
theorem q2144 : (Jvm.Cond.instanceMethod ({ cls := "RoseGuild$Parser", name := "isLetter", desc := "(I)Z" } : Jvm.MethodName)) ∈ lw_all := lw_g (lw_at lw_m9 89 rfl) rfl
theorem q2145 : (Jvm.Cond.code ({ cls := "RoseGuild$Parser", name := "isLetter", desc := "(I)Z" } : Jvm.MethodName) prog_10_method_3_code (2 : Nat) (Option.some Jvm.ClassFile.FieldType.boolean)) ∈ lw_all := lw_g (lw_at lw_m9 90 rfl) rfl
theorem q2146 : (Jvm.Cond.methodLinkNest "RoseGuild$Parser" (48 : Nat) ({ cls := "RoseGuild", name := "isBetween", desc := "(III)Z" } : Jvm.MethodName) "RoseGuild") ∈ lw_tbl := lw_at lw_m9 91 rfl
theorem q2149 : (Jvm.Cond.classLink "RoseGuild$Parser" (62 : Nat) "java/lang/StringBuilder") ∈ lw_all := lw_g (lw_at lw_m9 94 rfl) rfl
theorem q2150 : (Jvm.Cond.methodLink "RoseGuild$Parser" (64 : Nat) ({ cls := "java/lang/StringBuilder", name := "<init>", desc := "()V" } : Jvm.MethodName)) ∈ lw_all := lw_g (lw_at lw_m9 95 rfl) rfl
theorem q2151 : (Jvm.Cond.methodLink "RoseGuild$Parser" (65 : Nat) ({ cls := "java/lang/StringBuilder", name := "append", desc := "(C)Ljava/lang/StringBuilder;" } : Jvm.MethodName)) ∈ lw_all := lw_g (lw_at lw_m9 96 rfl) rfl
theorem q2152 : (Jvm.Cond.methodLink "RoseGuild$Parser" (69 : Nat) ({ cls := "java/lang/StringBuilder", name := "toString", desc := "()Ljava/lang/String;" } : Jvm.MethodName)) ∈ lw_all := lw_g (lw_at lw_m9 97 rfl) rfl
theorem q2153 : (Jvm.Cond.fieldLink "RoseGuild$Parser" (73 : Nat) "RoseGuild$TokenKind" "WORD" "LRoseGuild$TokenKind;") ∈ lw_all := lw_g (lw_at lw_m9 98 rfl) rfl
theorem q2155 : (Jvm.Cond.methodLink "RoseGuild$Parser" (76 : Nat) ({ cls := "RoseGuild$Parser", name := "isDigit", desc := "(I)Z" } : Jvm.MethodName)) ∈ lw_all := lw_g (lw_at lw_m9 100 rfl) rfl
theorem q2156 : (Jvm.Cond.privateMethod ({ cls := "RoseGuild$Parser", name := "isDigit", desc := "(I)Z" } : Jvm.MethodName)) ∈ lw_tbl := lw_at lw_m9 101 rfl
theorem q2157 : (Jvm.Cond.instanceMethod ({ cls := "RoseGuild$Parser", name := "isDigit", desc := "(I)Z" } : Jvm.MethodName)) ∈ lw_all := lw_g (lw_at lw_m9 102 rfl) rfl
theorem q2158 : (Jvm.Cond.code ({ cls := "RoseGuild$Parser", name := "isDigit", desc := "(I)Z" } : Jvm.MethodName) prog_10_method_4_code (2 : Nat) (Option.some Jvm.ClassFile.FieldType.boolean)) ∈ lw_all := lw_g (lw_at lw_m9 103 rfl) rfl
theorem q2159 : (Jvm.Cond.constant "RoseGuild$Parser" (82 : Nat) (1000000 : Int32)) ∈ lw_all := lw_g (lw_at lw_m9 104 rfl) rfl
theorem q2160 : (Jvm.Cond.methodLink "RoseGuild$Parser" (83 : Nat) ({ cls := "java/lang/Math", name := "min", desc := "(II)I" } : Jvm.MethodName)) ∈ lw_all := lw_g (lw_at lw_m9 105 rfl) rfl
theorem q2161 : (Jvm.Cond.fieldLink "RoseGuild$Parser" (89 : Nat) "RoseGuild$TokenKind" "NUMBER" "LRoseGuild$TokenKind;") ∈ lw_all := lw_g (lw_at lw_m9 106 rfl) rfl
theorem q2163 : (Jvm.Cond.fieldLink "RoseGuild$Parser" (92 : Nat) "RoseGuild$TokenKind" "SIGN" "LRoseGuild$TokenKind;") ∈ lw_all := lw_g (lw_at lw_m9 108 rfl) rfl
theorem q2166 : (Jvm.Cond.fieldLink "RoseGuild$Parser" (19 : Nat) "RoseGuild$Parser" "end" "I") ∈ lw_all := lw_g (lw_at lw_m9 111 rfl) rfl
theorem q2167 : (Jvm.Cond.fieldLink "RoseGuild$Parser" (52 : Nat) "RoseGuild$Parser" "next" "I") ∈ lw_all := lw_g (lw_at lw_m9 112 rfl) rfl
theorem q2168 : (Jvm.Cond.fieldLink "RoseGuild$Parser" (55 : Nat) "RoseGuild$Parser" "start" "I") ∈ lw_all := lw_g (lw_at lw_m9 113 rfl) rfl
theorem q2169 : (Jvm.Cond.fieldLink "RoseGuild$Parser" (79 : Nat) "RoseGuild$Parser" "number" "I") ∈ lw_all := lw_g (lw_at lw_m9 114 rfl) rfl
theorem q2170 : (Jvm.Cond.fieldLink "RoseGuild$Parser" (28 : Nat) "RoseGuild$Parser" "kind" "LRoseGuild$TokenKind;") ∈ lw_all := lw_g (lw_at lw_m9 115 rfl) rfl
theorem q2171 : (Jvm.Cond.fieldLink "RoseGuild$Parser" (33 : Nat) "RoseGuild$Parser" "word" "Ljava/lang/String;") ∈ lw_all := lw_g (lw_at lw_m9 116 rfl) rfl
theorem q2172 : (Jvm.Cond.fieldLink "RoseGuild$Parser" (3 : Nat) "RoseGuild$Parser" "this$0" "LRoseGuild;") ∈ lw_all := lw_g (lw_at lw_m9 117 rfl) rfl
theorem q2176 : (Jvm.Cond.soleField "RoseGuild$Parser" "end") ∈ lw_all := lw_g (lw_at lw_m9 121 rfl) rfl
theorem q2178 : (Jvm.Cond.soleField "RoseGuild$Parser" "next") ∈ lw_all := lw_g (lw_at lw_m9 123 rfl) rfl
theorem q2180 : (Jvm.Cond.soleField "RoseGuild$Parser" "start") ∈ lw_all := lw_g (lw_at lw_m9 125 rfl) rfl
theorem q2182 : (Jvm.Cond.soleField "RoseGuild$Parser" "number") ∈ lw_all := lw_g (lw_at lw_m9 127 rfl) rfl
theorem q2184 : (Jvm.Cond.soleField "RoseGuild$Parser" "kind") ∈ lw_all := lw_g (lw_at lw_m9 129 rfl) rfl
theorem q2186 : (Jvm.Cond.soleField "RoseGuild$Parser" "word") ∈ lw_all := lw_g (lw_at lw_m9 131 rfl) rfl
theorem q2188 : (Jvm.Cond.soleField "RoseGuild$Parser" "this$0") ∈ lw_all := lw_g (lw_at lw_m9 133 rfl) rfl
theorem q2196 : (Jvm.Cond.declares ({ cls := "RoseGuild$Parser", name := "word", desc := "()Ljava/lang/String;" } : Jvm.MethodName)) ∈ lw_tbl := lw_at lw_m9 141 rfl
theorem q2198 : (Jvm.Cond.instanceMethod ({ cls := "RoseGuild$Parser", name := "word", desc := "()Ljava/lang/String;" } : Jvm.MethodName)) ∈ lw_all := lw_g (lw_at lw_m9 143 rfl) rfl
theorem q2199 : (Jvm.Cond.code ({ cls := "RoseGuild$Parser", name := "word", desc := "()Ljava/lang/String;" } : Jvm.MethodName) prog_10_method_8_code (1 : Nat) (Option.some (Jvm.ClassFile.FieldType.object "java/lang/String"))) ∈ lw_all := lw_g (lw_at lw_m9 144 rfl) rfl
theorem q2204 : (Jvm.Cond.declares ({ cls := "RoseGuild$Parser", name := "require", desc := "(ZI)V" } : Jvm.MethodName)) ∈ lw_tbl := lw_at lw_m9 149 rfl
theorem q2206 : (Jvm.Cond.instanceMethod ({ cls := "RoseGuild$Parser", name := "require", desc := "(ZI)V" } : Jvm.MethodName)) ∈ lw_all := lw_g (lw_at lw_m9 151 rfl) rfl
theorem q2207 : (Jvm.Cond.code ({ cls := "RoseGuild$Parser", name := "require", desc := "(ZI)V" } : Jvm.MethodName) prog_10_method_6_code (3 : Nat) (Option.none : Option Jvm.ClassFile.FieldType)) ∈ lw_all := lw_g (lw_at lw_m9 152 rfl) rfl
theorem q2208 : (Jvm.Cond.classLink "RoseGuild$Parser" (95 : Nat) "RoseGuild$SyntaxProblem") ∈ lw_all := lw_g (lw_at lw_m9 153 rfl) rfl
theorem q2217 : (Jvm.Cond.methodLink "RoseGuild$Parser" (97 : Nat) ({ cls := "RoseGuild$SyntaxProblem", name := "<init>", desc := "(II)V" } : Jvm.MethodName)) ∈ lw_all := lw_g (lw_at lw_m9 162 rfl) rfl
theorem q2238 : (Jvm.Cond.declares ({ cls := "RoseGuild$Parser", name := "advance", desc := "()V" } : Jvm.MethodName)) ∈ lw_tbl := lw_at lw_m9 183 rfl
theorem q2243 : (Jvm.Cond.declares ({ cls := "RoseGuild$Parser", name := "number", desc := "(II)I" } : Jvm.MethodName)) ∈ lw_tbl := lw_at lw_m9 188 rfl
theorem q2245 : (Jvm.Cond.instanceMethod ({ cls := "RoseGuild$Parser", name := "number", desc := "(II)I" } : Jvm.MethodName)) ∈ lw_all := lw_g (lw_at lw_m9 190 rfl) rfl
theorem q2246 : (Jvm.Cond.code ({ cls := "RoseGuild$Parser", name := "number", desc := "(II)I" } : Jvm.MethodName) prog_10_method_12_code (4 : Nat) (Option.some Jvm.ClassFile.FieldType.int)) ∈ lw_all := lw_g (lw_at lw_m9 191 rfl) rfl
theorem q2247 : (Jvm.Cond.methodLink "RoseGuild$Parser" (107 : Nat) ({ cls := "RoseGuild$Parser", name := "peekNumber", desc := "(II)I" } : Jvm.MethodName)) ∈ lw_all := lw_g (lw_at lw_m9 192 rfl) rfl
theorem q2248 : (Jvm.Cond.instanceMethod ({ cls := "RoseGuild$Parser", name := "peekNumber", desc := "(II)I" } : Jvm.MethodName)) ∈ lw_all := lw_g (lw_at lw_m9 193 rfl) rfl
theorem q2249 : (Jvm.Cond.sameMethod "RoseGuild$Parser" "RoseGuild$Parser" "peekNumber" "(II)I") ∈ lw_all := lw_g (lw_at lw_m9 194 rfl) rfl
theorem q2252 : (Jvm.Cond.code ({ cls := "RoseGuild$Parser", name := "peekNumber", desc := "(II)I" } : Jvm.MethodName) prog_10_method_11_code (3 : Nat) (Option.some Jvm.ClassFile.FieldType.int)) ∈ lw_all := lw_g (lw_at lw_m9 197 rfl) rfl
theorem q2253 : (Jvm.Cond.methodLink "RoseGuild$Parser" (103 : Nat) ({ cls := "RoseGuild$Parser", name := "require", desc := "(ZI)V" } : Jvm.MethodName)) ∈ lw_all := lw_g (lw_at lw_m9 198 rfl) rfl
theorem q2257 : (Jvm.Cond.declares ({ cls := "RoseGuild$Parser", name := "sign", desc := "(I)V" } : Jvm.MethodName)) ∈ lw_tbl := lw_at lw_m9 202 rfl
theorem q2259 : (Jvm.Cond.instanceMethod ({ cls := "RoseGuild$Parser", name := "sign", desc := "(I)V" } : Jvm.MethodName)) ∈ lw_all := lw_g (lw_at lw_m9 204 rfl) rfl
theorem q2260 : (Jvm.Cond.code ({ cls := "RoseGuild$Parser", name := "sign", desc := "(I)V" } : Jvm.MethodName) prog_10_method_10_code (2 : Nat) (Option.none : Option Jvm.ClassFile.FieldType)) ∈ lw_all := lw_g (lw_at lw_m9 205 rfl) rfl
theorem q2261 : (Jvm.Cond.methodLink "RoseGuild$Parser" (100 : Nat) ({ cls := "RoseGuild$Parser", name := "isSign", desc := "(I)Z" } : Jvm.MethodName)) ∈ lw_all := lw_g (lw_at lw_m9 206 rfl) rfl
theorem q2262 : (Jvm.Cond.instanceMethod ({ cls := "RoseGuild$Parser", name := "isSign", desc := "(I)Z" } : Jvm.MethodName)) ∈ lw_all := lw_g (lw_at lw_m9 207 rfl) rfl
theorem q2263 : (Jvm.Cond.sameMethod "RoseGuild$Parser" "RoseGuild$Parser" "isSign" "(I)Z") ∈ lw_all := lw_g (lw_at lw_m9 208 rfl) rfl
theorem q2266 : (Jvm.Cond.code ({ cls := "RoseGuild$Parser", name := "isSign", desc := "(I)Z" } : Jvm.MethodName) prog_10_method_9_code (2 : Nat) (Option.some Jvm.ClassFile.FieldType.boolean)) ∈ lw_all := lw_g (lw_at lw_m9 211 rfl) rfl
theorem q2280 : (Jvm.Cond.declares ({ cls := "RoseGuild$Parser", name := "peekName", desc := "()Ljava/lang/String;" } : Jvm.MethodName)) ∈ lw_tbl := lw_at lw_m9 225 rfl
theorem q2282 : (Jvm.Cond.instanceMethod ({ cls := "RoseGuild$Parser", name := "peekName", desc := "()Ljava/lang/String;" } : Jvm.MethodName)) ∈ lw_all := lw_g (lw_at lw_m9 227 rfl) rfl
theorem q2283 : (Jvm.Cond.code ({ cls := "RoseGuild$Parser", name := "peekName", desc := "()Ljava/lang/String;" } : Jvm.MethodName) prog_10_method_13_code (1 : Nat) (Option.some (Jvm.ClassFile.FieldType.object "java/lang/String"))) ∈ lw_all := lw_g (lw_at lw_m9 228 rfl) rfl
theorem q2284 : (Jvm.Cond.methodLink "RoseGuild$Parser" (110 : Nat) ({ cls := "java/lang/String", name := "length", desc := "()I" } : Jvm.MethodName)) ∈ lw_all := lw_g (lw_at lw_m9 229 rfl) rfl
theorem q2382 : (Jvm.Cond.declares ({ cls := "RoseGuild$Parser", name := "peekNumber", desc := "(II)I" } : Jvm.MethodName)) ∈ lw_tbl := lw_at lw_m10 87 rfl
theorem q2424 : (Jvm.Cond.declares ({ cls := "RoseGuild$Parser", name := "isEnd", desc := "()Z" } : Jvm.MethodName)) ∈ lw_tbl := lw_at lw_m10 129 rfl
theorem q2426 : (Jvm.Cond.instanceMethod ({ cls := "RoseGuild$Parser", name := "isEnd", desc := "()Z" } : Jvm.MethodName)) ∈ lw_all := lw_g (lw_at lw_m10 131 rfl) rfl
theorem q2427 : (Jvm.Cond.code ({ cls := "RoseGuild$Parser", name := "isEnd", desc := "()Z" } : Jvm.MethodName) prog_10_method_7_code (1 : Nat) (Option.some Jvm.ClassFile.FieldType.boolean)) ∈ lw_all := lw_g (lw_at lw_m10 132 rfl) rfl
theorem q2493 : (Jvm.Cond.declares ({ cls := "RoseGuild$Parser", name := "isSign", desc := "(I)Z" } : Jvm.MethodName)) ∈ lw_tbl := lw_at lw_m10 198 rfl
theorem q4338 : (Jvm.Cond.sameMethod "RoseGuild$Parser" "RoseGuild$Parser" "byteAt" "(I)I") ∈ lw_all := lw_g (lw_at lw_m18 123 rfl) rfl
theorem q4339 : (Jvm.Cond.sameMethod "RoseGuild$Parser" "RoseGuild$Parser" "isLetter" "(I)Z") ∈ lw_all := lw_g (lw_at lw_m18 124 rfl) rfl
theorem q4340 : (Jvm.Cond.sameMethod "RoseGuild$Parser" "RoseGuild$Parser" "isDigit" "(I)Z") ∈ lw_all := lw_g (lw_at lw_m18 125 rfl) rfl
theorem q4342 : (Jvm.Cond.sameMethod "RoseGuild$Parser" "RoseGuild$Parser" "require" "(ZI)V") ∈ lw_all := lw_g (lw_at lw_m18 127 rfl) rfl
theorem q4427 : (Jvm.Cond.castable "RoseGuild$Parser" "java/lang/Object") ∈ lw_tbl := lw_at lw_m18 212 rfl

/-! RoseGuild$SetupParser -/
set_option maxRecDepth 100000
def RX9 : String := "RoseGuild$SetupParser"
def TX9 : u_T := fun k => match k with
  | 0 => ("RoseGuild$Parser", "end", "I", true)
  | 1 => ("RoseGuild$Parser", "next", "I", false)
  | 2 => ("RoseGuild$Parser", "start", "I", false)
  | 3 => ("RoseGuild$Parser", "number", "I", false)
  | 4 => ("RoseGuild$Parser", "kind", "LRoseGuild$TokenKind;", false)
  | 5 => ("RoseGuild$Parser", "word", "Ljava/lang/String;", false)
  | 6 => ("RoseGuild$Parser", "this$0", "LRoseGuild;", true)
  | _ => ("RoseGuild$SetupParser", "this$0", "LRoseGuild;", true)
def tyX9 : Nat → FieldType := fun k => match k with
  | 0 => .int
  | 1 => .int
  | 2 => .int
  | 3 => .int
  | 4 => .object "RoseGuild$TokenKind"
  | 5 => .object "java/lang/String"
  | 6 => .object "RoseGuild"
  | _ => .object "RoseGuild"
abbrev wsX90 : List Cond := u_ws RX9 TX9 8
-- two fields of one name: no nmX9
theorem tyX9_ok : ∀ k, k < 8 → parseFieldDescriptor (TX9 k).2.2.1 = some (tyX9 k) := by decide +kernel
abbrev cX9_init : ByteArray := prog_15_method_1_code
def yX9_init : MethodName := ⟨RX9, "<init>", "(LRoseGuild;)V"⟩
def dkwX9_init_0 : List UInt8 := [42, 43, 181, 0, 3, 42, 43, 183, 0, 9, 177]
abbrev dktX9_init_0 : List UInt8 := dkwX9_init_0 ++ []
theorem dksX9_init_0 : cX9_init.data.toList.drop 0 = dktX9_init_0 := by decide +kernel
theorem dX9_init_0 : decode cX9_init 0 = .ok (.aload_n 0, 1) := dk_42 (dk_at dksX9_init_0 0 rfl rfl)
theorem dX9_init_1 : decode cX9_init 1 = .ok (.aload_n 1, 1) := dk_43 (dk_at dksX9_init_0 1 rfl rfl)
theorem dX9_init_2 : decode cX9_init 2 = .ok (.putfield 3, 3) := dk_181 0 3 (dk_at dksX9_init_0 2 rfl rfl)
theorem dX9_init_5 : decode cX9_init 5 = .ok (.aload_n 0, 1) := dk_42 (dk_at dksX9_init_0 5 rfl rfl)
theorem dX9_init_6 : decode cX9_init 6 = .ok (.aload_n 1, 1) := dk_43 (dk_at dksX9_init_0 6 rfl rfl)
theorem dX9_init_7 : decode cX9_init 7 = .ok (.invokespecial 9, 3) := dk_183 0 9 (dk_at dksX9_init_0 7 rfl rfl)
theorem dX9_init_10 : decode cX9_init 10 = .ok (.return_, 1) := dk_177 (dk_at dksX9_init_0 10 rfl rfl)
abbrev cX9_parse : ByteArray := prog_15_method_2_code
def yX9_parse : MethodName := ⟨RX9, "parse", "()LRoseGuild$Guild;"⟩
def dkwX9_parse_7 : List UInt8 := [167, 255, 239, 42, 42, 182, 0, 64, 4, 182, 0, 27, 43, 176]
abbrev dktX9_parse_7 : List UInt8 := dkwX9_parse_7 ++ []
def dkwX9_parse_6 : List UInt8 := [182, 0, 21, 4, 182, 0, 27, 42, 182, 0, 15, 18, 59, 182, 0, 21, 153, 0, 11, 42, 43, 182, 0, 61]
abbrev dktX9_parse_6 : List UInt8 := dkwX9_parse_6 ++ dktX9_parse_7
def dkwX9_parse_5 : List UInt8 := [18, 54, 182, 0, 21, 153, 0, 11, 42, 43, 182, 0, 56, 167, 255, 239, 42, 42, 182, 0, 15, 18, 59]
abbrev dktX9_parse_5 : List UInt8 := dkwX9_parse_5 ++ dktX9_parse_6
def dkwX9_parse_4 : List UInt8 := [182, 0, 50, 167, 255, 239, 42, 42, 182, 0, 15, 18, 54, 182, 0, 21, 4, 182, 0, 27, 42, 182, 0, 15]
abbrev dktX9_parse_4 : List UInt8 := dkwX9_parse_4 ++ dktX9_parse_5
def dkwX9_parse_3 : List UInt8 := [18, 48, 182, 0, 21, 4, 182, 0, 27, 42, 182, 0, 15, 18, 48, 182, 0, 21, 153, 0, 11, 42, 43]
abbrev dktX9_parse_3 : List UInt8 := dkwX9_parse_3 ++ dktX9_parse_4
def dkwX9_parse_2 : List UInt8 := [182, 0, 37, 42, 3, 6, 182, 0, 37, 183, 0, 41, 76, 42, 16, 59, 182, 0, 44, 42, 42, 182, 0, 15]
abbrev dktX9_parse_2 : List UInt8 := dkwX9_parse_2 ++ dktX9_parse_3
def dkwX9_parse_1 : List UInt8 := [16, 12, 182, 0, 37, 42, 3, 16, 9, 182, 0, 37, 42, 3, 16, 99, 182, 0, 37, 42, 3, 16, 99]
abbrev dktX9_parse_1 : List UInt8 := dkwX9_parse_1 ++ dktX9_parse_2
def dkwX9_parse_0 : List UInt8 := [42, 42, 182, 0, 15, 18, 19, 182, 0, 21, 4, 182, 0, 27, 42, 182, 0, 31, 187, 0, 35, 89, 42, 4]
abbrev dktX9_parse_0 : List UInt8 := dkwX9_parse_0 ++ dktX9_parse_1
theorem dksX9_parse_0 : cX9_parse.data.toList.drop 0 = dktX9_parse_0 := by decide +kernel
theorem dksX9_parse_1 : cX9_parse.data.toList.drop 24 = dktX9_parse_1 := dk_seg dksX9_parse_0 24 rfl rfl
theorem dksX9_parse_2 : cX9_parse.data.toList.drop 47 = dktX9_parse_2 := dk_seg dksX9_parse_1 23 rfl rfl
theorem dksX9_parse_3 : cX9_parse.data.toList.drop 71 = dktX9_parse_3 := dk_seg dksX9_parse_2 24 rfl rfl
theorem dksX9_parse_4 : cX9_parse.data.toList.drop 94 = dktX9_parse_4 := dk_seg dksX9_parse_3 23 rfl rfl
theorem dksX9_parse_5 : cX9_parse.data.toList.drop 118 = dktX9_parse_5 := dk_seg dksX9_parse_4 24 rfl rfl
theorem dksX9_parse_6 : cX9_parse.data.toList.drop 141 = dktX9_parse_6 := dk_seg dksX9_parse_5 23 rfl rfl
theorem dksX9_parse_7 : cX9_parse.data.toList.drop 165 = dktX9_parse_7 := dk_seg dksX9_parse_6 24 rfl rfl
theorem dX9_parse_0 : decode cX9_parse 0 = .ok (.aload_n 0, 1) := dk_42 (dk_at dksX9_parse_0 0 rfl rfl)
theorem dX9_parse_1 : decode cX9_parse 1 = .ok (.aload_n 0, 1) := dk_42 (dk_at dksX9_parse_0 1 rfl rfl)
theorem dX9_parse_2 : decode cX9_parse 2 = .ok (.invokevirtual 15, 3) := dk_182 0 15 (dk_at dksX9_parse_0 2 rfl rfl)
theorem dX9_parse_5 : decode cX9_parse 5 = .ok (.ldc 19, 2) := dk_18 19 (dk_at dksX9_parse_0 5 rfl rfl)
theorem dX9_parse_7 : decode cX9_parse 7 = .ok (.invokevirtual 21, 3) := dk_182 0 21 (dk_at dksX9_parse_0 7 rfl rfl)
theorem dX9_parse_10 : decode cX9_parse 10 = .ok (.iconst 1, 1) := dk_4 (dk_at dksX9_parse_0 10 rfl rfl)
theorem dX9_parse_11 : decode cX9_parse 11 = .ok (.invokevirtual 27, 3) := dk_182 0 27 (dk_at dksX9_parse_0 11 rfl rfl)
theorem dX9_parse_14 : decode cX9_parse 14 = .ok (.aload_n 0, 1) := dk_42 (dk_at dksX9_parse_0 14 rfl rfl)
theorem dX9_parse_15 : decode cX9_parse 15 = .ok (.invokevirtual 31, 3) := dk_182 0 31 (dk_at dksX9_parse_0 15 rfl rfl)
theorem dX9_parse_18 : decode cX9_parse 18 = .ok (.new 35, 3) := dk_187 0 35 (dk_at dksX9_parse_0 18 rfl rfl)
theorem dX9_parse_21 : decode cX9_parse 21 = .ok (.dup, 1) := dk_89 (dk_at dksX9_parse_0 21 rfl rfl)
theorem dX9_parse_22 : decode cX9_parse 22 = .ok (.aload_n 0, 1) := dk_42 (dk_at dksX9_parse_0 22 rfl rfl)
theorem dX9_parse_23 : decode cX9_parse 23 = .ok (.iconst 1, 1) := dk_4 (dk_at dksX9_parse_0 23 rfl rfl)
theorem dX9_parse_24 : decode cX9_parse 24 = .ok (.bipush 12, 2) := dk_16 12 (dk_at dksX9_parse_1 0 rfl rfl)
theorem dX9_parse_26 : decode cX9_parse 26 = .ok (.invokevirtual 37, 3) := dk_182 0 37 (dk_at dksX9_parse_1 2 rfl rfl)
theorem dX9_parse_29 : decode cX9_parse 29 = .ok (.aload_n 0, 1) := dk_42 (dk_at dksX9_parse_1 5 rfl rfl)
theorem dX9_parse_30 : decode cX9_parse 30 = .ok (.iconst 0, 1) := dk_3 (dk_at dksX9_parse_1 6 rfl rfl)
theorem dX9_parse_31 : decode cX9_parse 31 = .ok (.bipush 9, 2) := dk_16 9 (dk_at dksX9_parse_1 7 rfl rfl)
theorem dX9_parse_33 : decode cX9_parse 33 = .ok (.invokevirtual 37, 3) := dk_182 0 37 (dk_at dksX9_parse_1 9 rfl rfl)
theorem dX9_parse_36 : decode cX9_parse 36 = .ok (.aload_n 0, 1) := dk_42 (dk_at dksX9_parse_1 12 rfl rfl)
theorem dX9_parse_37 : decode cX9_parse 37 = .ok (.iconst 0, 1) := dk_3 (dk_at dksX9_parse_1 13 rfl rfl)
theorem dX9_parse_38 : decode cX9_parse 38 = .ok (.bipush 99, 2) := dk_16 99 (dk_at dksX9_parse_1 14 rfl rfl)
theorem dX9_parse_40 : decode cX9_parse 40 = .ok (.invokevirtual 37, 3) := dk_182 0 37 (dk_at dksX9_parse_1 16 rfl rfl)
theorem dX9_parse_43 : decode cX9_parse 43 = .ok (.aload_n 0, 1) := dk_42 (dk_at dksX9_parse_1 19 rfl rfl)
theorem dX9_parse_44 : decode cX9_parse 44 = .ok (.iconst 0, 1) := dk_3 (dk_at dksX9_parse_1 20 rfl rfl)
theorem dX9_parse_45 : decode cX9_parse 45 = .ok (.bipush 99, 2) := dk_16 99 (dk_at dksX9_parse_1 21 rfl rfl)
theorem dX9_parse_47 : decode cX9_parse 47 = .ok (.invokevirtual 37, 3) := dk_182 0 37 (dk_at dksX9_parse_2 0 rfl rfl)
theorem dX9_parse_50 : decode cX9_parse 50 = .ok (.aload_n 0, 1) := dk_42 (dk_at dksX9_parse_2 3 rfl rfl)
theorem dX9_parse_51 : decode cX9_parse 51 = .ok (.iconst 0, 1) := dk_3 (dk_at dksX9_parse_2 4 rfl rfl)
theorem dX9_parse_52 : decode cX9_parse 52 = .ok (.iconst 3, 1) := dk_6 (dk_at dksX9_parse_2 5 rfl rfl)
theorem dX9_parse_53 : decode cX9_parse 53 = .ok (.invokevirtual 37, 3) := dk_182 0 37 (dk_at dksX9_parse_2 6 rfl rfl)
theorem dX9_parse_56 : decode cX9_parse 56 = .ok (.invokespecial 41, 3) := dk_183 0 41 (dk_at dksX9_parse_2 9 rfl rfl)
theorem dX9_parse_59 : decode cX9_parse 59 = .ok (.astore_n 1, 1) := dk_76 (dk_at dksX9_parse_2 12 rfl rfl)
theorem dX9_parse_60 : decode cX9_parse 60 = .ok (.aload_n 0, 1) := dk_42 (dk_at dksX9_parse_2 13 rfl rfl)
theorem dX9_parse_61 : decode cX9_parse 61 = .ok (.bipush 59, 2) := dk_16 59 (dk_at dksX9_parse_2 14 rfl rfl)
theorem dX9_parse_63 : decode cX9_parse 63 = .ok (.invokevirtual 44, 3) := dk_182 0 44 (dk_at dksX9_parse_2 16 rfl rfl)
theorem dX9_parse_66 : decode cX9_parse 66 = .ok (.aload_n 0, 1) := dk_42 (dk_at dksX9_parse_2 19 rfl rfl)
theorem dX9_parse_67 : decode cX9_parse 67 = .ok (.aload_n 0, 1) := dk_42 (dk_at dksX9_parse_2 20 rfl rfl)
theorem dX9_parse_68 : decode cX9_parse 68 = .ok (.invokevirtual 15, 3) := dk_182 0 15 (dk_at dksX9_parse_2 21 rfl rfl)
theorem dX9_parse_71 : decode cX9_parse 71 = .ok (.ldc 48, 2) := dk_18 48 (dk_at dksX9_parse_3 0 rfl rfl)
theorem dX9_parse_73 : decode cX9_parse 73 = .ok (.invokevirtual 21, 3) := dk_182 0 21 (dk_at dksX9_parse_3 2 rfl rfl)
theorem dX9_parse_76 : decode cX9_parse 76 = .ok (.iconst 1, 1) := dk_4 (dk_at dksX9_parse_3 5 rfl rfl)
theorem dX9_parse_77 : decode cX9_parse 77 = .ok (.invokevirtual 27, 3) := dk_182 0 27 (dk_at dksX9_parse_3 6 rfl rfl)
theorem dX9_parse_80 : decode cX9_parse 80 = .ok (.aload_n 0, 1) := dk_42 (dk_at dksX9_parse_3 9 rfl rfl)
theorem dX9_parse_81 : decode cX9_parse 81 = .ok (.invokevirtual 15, 3) := dk_182 0 15 (dk_at dksX9_parse_3 10 rfl rfl)
theorem dX9_parse_84 : decode cX9_parse 84 = .ok (.ldc 48, 2) := dk_18 48 (dk_at dksX9_parse_3 13 rfl rfl)
theorem dX9_parse_86 : decode cX9_parse 86 = .ok (.invokevirtual 21, 3) := dk_182 0 21 (dk_at dksX9_parse_3 15 rfl rfl)
theorem dX9_parse_89 : decode cX9_parse 89 = .ok (.ifCond .eq 11, 3) := dk_153 0 11 (dk_at dksX9_parse_3 18 rfl rfl)
theorem dX9_parse_92 : decode cX9_parse 92 = .ok (.aload_n 0, 1) := dk_42 (dk_at dksX9_parse_3 21 rfl rfl)
theorem dX9_parse_93 : decode cX9_parse 93 = .ok (.aload_n 1, 1) := dk_43 (dk_at dksX9_parse_3 22 rfl rfl)
theorem dX9_parse_94 : decode cX9_parse 94 = .ok (.invokevirtual 50, 3) := dk_182 0 50 (dk_at dksX9_parse_4 0 rfl rfl)
theorem dX9_parse_97 : decode cX9_parse 97 = .ok (.goto (-17), 3) := dk_167 255 239 (dk_at dksX9_parse_4 3 rfl rfl)
theorem dX9_parse_100 : decode cX9_parse 100 = .ok (.aload_n 0, 1) := dk_42 (dk_at dksX9_parse_4 6 rfl rfl)
theorem dX9_parse_101 : decode cX9_parse 101 = .ok (.aload_n 0, 1) := dk_42 (dk_at dksX9_parse_4 7 rfl rfl)
theorem dX9_parse_102 : decode cX9_parse 102 = .ok (.invokevirtual 15, 3) := dk_182 0 15 (dk_at dksX9_parse_4 8 rfl rfl)
theorem dX9_parse_105 : decode cX9_parse 105 = .ok (.ldc 54, 2) := dk_18 54 (dk_at dksX9_parse_4 11 rfl rfl)
theorem dX9_parse_107 : decode cX9_parse 107 = .ok (.invokevirtual 21, 3) := dk_182 0 21 (dk_at dksX9_parse_4 13 rfl rfl)
theorem dX9_parse_110 : decode cX9_parse 110 = .ok (.iconst 1, 1) := dk_4 (dk_at dksX9_parse_4 16 rfl rfl)
theorem dX9_parse_111 : decode cX9_parse 111 = .ok (.invokevirtual 27, 3) := dk_182 0 27 (dk_at dksX9_parse_4 17 rfl rfl)
theorem dX9_parse_114 : decode cX9_parse 114 = .ok (.aload_n 0, 1) := dk_42 (dk_at dksX9_parse_4 20 rfl rfl)
theorem dX9_parse_115 : decode cX9_parse 115 = .ok (.invokevirtual 15, 3) := dk_182 0 15 (dk_at dksX9_parse_4 21 rfl rfl)
theorem dX9_parse_118 : decode cX9_parse 118 = .ok (.ldc 54, 2) := dk_18 54 (dk_at dksX9_parse_5 0 rfl rfl)
theorem dX9_parse_120 : decode cX9_parse 120 = .ok (.invokevirtual 21, 3) := dk_182 0 21 (dk_at dksX9_parse_5 2 rfl rfl)
theorem dX9_parse_123 : decode cX9_parse 123 = .ok (.ifCond .eq 11, 3) := dk_153 0 11 (dk_at dksX9_parse_5 5 rfl rfl)
theorem dX9_parse_126 : decode cX9_parse 126 = .ok (.aload_n 0, 1) := dk_42 (dk_at dksX9_parse_5 8 rfl rfl)
theorem dX9_parse_127 : decode cX9_parse 127 = .ok (.aload_n 1, 1) := dk_43 (dk_at dksX9_parse_5 9 rfl rfl)
theorem dX9_parse_128 : decode cX9_parse 128 = .ok (.invokevirtual 56, 3) := dk_182 0 56 (dk_at dksX9_parse_5 10 rfl rfl)
theorem dX9_parse_131 : decode cX9_parse 131 = .ok (.goto (-17), 3) := dk_167 255 239 (dk_at dksX9_parse_5 13 rfl rfl)
theorem dX9_parse_134 : decode cX9_parse 134 = .ok (.aload_n 0, 1) := dk_42 (dk_at dksX9_parse_5 16 rfl rfl)
theorem dX9_parse_135 : decode cX9_parse 135 = .ok (.aload_n 0, 1) := dk_42 (dk_at dksX9_parse_5 17 rfl rfl)
theorem dX9_parse_136 : decode cX9_parse 136 = .ok (.invokevirtual 15, 3) := dk_182 0 15 (dk_at dksX9_parse_5 18 rfl rfl)
theorem dX9_parse_139 : decode cX9_parse 139 = .ok (.ldc 59, 2) := dk_18 59 (dk_at dksX9_parse_5 21 rfl rfl)
theorem dX9_parse_141 : decode cX9_parse 141 = .ok (.invokevirtual 21, 3) := dk_182 0 21 (dk_at dksX9_parse_6 0 rfl rfl)
theorem dX9_parse_144 : decode cX9_parse 144 = .ok (.iconst 1, 1) := dk_4 (dk_at dksX9_parse_6 3 rfl rfl)
theorem dX9_parse_145 : decode cX9_parse 145 = .ok (.invokevirtual 27, 3) := dk_182 0 27 (dk_at dksX9_parse_6 4 rfl rfl)
theorem dX9_parse_148 : decode cX9_parse 148 = .ok (.aload_n 0, 1) := dk_42 (dk_at dksX9_parse_6 7 rfl rfl)
theorem dX9_parse_149 : decode cX9_parse 149 = .ok (.invokevirtual 15, 3) := dk_182 0 15 (dk_at dksX9_parse_6 8 rfl rfl)
theorem dX9_parse_152 : decode cX9_parse 152 = .ok (.ldc 59, 2) := dk_18 59 (dk_at dksX9_parse_6 11 rfl rfl)
theorem dX9_parse_154 : decode cX9_parse 154 = .ok (.invokevirtual 21, 3) := dk_182 0 21 (dk_at dksX9_parse_6 13 rfl rfl)
theorem dX9_parse_157 : decode cX9_parse 157 = .ok (.ifCond .eq 11, 3) := dk_153 0 11 (dk_at dksX9_parse_6 16 rfl rfl)
theorem dX9_parse_160 : decode cX9_parse 160 = .ok (.aload_n 0, 1) := dk_42 (dk_at dksX9_parse_6 19 rfl rfl)
theorem dX9_parse_161 : decode cX9_parse 161 = .ok (.aload_n 1, 1) := dk_43 (dk_at dksX9_parse_6 20 rfl rfl)
theorem dX9_parse_162 : decode cX9_parse 162 = .ok (.invokevirtual 61, 3) := dk_182 0 61 (dk_at dksX9_parse_6 21 rfl rfl)
theorem dX9_parse_165 : decode cX9_parse 165 = .ok (.goto (-17), 3) := dk_167 255 239 (dk_at dksX9_parse_7 0 rfl rfl)
theorem dX9_parse_168 : decode cX9_parse 168 = .ok (.aload_n 0, 1) := dk_42 (dk_at dksX9_parse_7 3 rfl rfl)
theorem dX9_parse_169 : decode cX9_parse 169 = .ok (.aload_n 0, 1) := dk_42 (dk_at dksX9_parse_7 4 rfl rfl)
theorem dX9_parse_170 : decode cX9_parse 170 = .ok (.invokevirtual 64, 3) := dk_182 0 64 (dk_at dksX9_parse_7 5 rfl rfl)
theorem dX9_parse_173 : decode cX9_parse 173 = .ok (.iconst 1, 1) := dk_4 (dk_at dksX9_parse_7 8 rfl rfl)
theorem dX9_parse_174 : decode cX9_parse 174 = .ok (.invokevirtual 27, 3) := dk_182 0 27 (dk_at dksX9_parse_7 9 rfl rfl)
theorem dX9_parse_177 : decode cX9_parse 177 = .ok (.aload_n 1, 1) := dk_43 (dk_at dksX9_parse_7 12 rfl rfl)
theorem dX9_parse_178 : decode cX9_parse 178 = .ok (.areturn, 1) := dk_176 (dk_at dksX9_parse_7 13 rfl rfl)
abbrev cX9_parseStreet : ByteArray := prog_15_method_5_code
def yX9_parseStreet : MethodName := ⟨RX9, "parseStreet", "(LRoseGuild$Guild;)V"⟩
def dkwX9_parseStreet_3 : List UInt8 := [4, 17, 0, 200, 182, 0, 37, 183, 0, 112, 182, 0, 115, 42, 16, 59, 182, 0, 44, 177]
abbrev dktX9_parseStreet_3 : List UInt8 := dkwX9_parseStreet_3 ++ []
def dkwX9_parseStreet_2 : List UInt8 := [182, 0, 37, 54, 4, 43, 187, 0, 110, 89, 43, 180, 0, 92, 185, 0, 96, 1, 0, 44, 45, 21, 4, 42]
abbrev dktX9_parseStreet_2 : List UInt8 := dkwX9_parseStreet_2 ++ dktX9_parseStreet_3
def dkwX9_parseStreet_1 : List UInt8 := [42, 182, 0, 31, 42, 43, 180, 0, 92, 182, 0, 102, 77, 42, 43, 182, 0, 106, 78, 42, 4, 16, 50]
abbrev dktX9_parseStreet_1 : List UInt8 := dkwX9_parseStreet_1 ++ dktX9_parseStreet_2
def dkwX9_parseStreet_0 : List UInt8 := [42, 43, 180, 0, 92, 185, 0, 96, 1, 0, 16, 8, 162, 0, 7, 4, 167, 0, 4, 3, 8, 182, 0, 27]
abbrev dktX9_parseStreet_0 : List UInt8 := dkwX9_parseStreet_0 ++ dktX9_parseStreet_1
theorem dksX9_parseStreet_0 : cX9_parseStreet.data.toList.drop 0 = dktX9_parseStreet_0 := by decide +kernel
theorem dksX9_parseStreet_1 : cX9_parseStreet.data.toList.drop 24 = dktX9_parseStreet_1 := dk_seg dksX9_parseStreet_0 24 rfl rfl
theorem dksX9_parseStreet_2 : cX9_parseStreet.data.toList.drop 47 = dktX9_parseStreet_2 := dk_seg dksX9_parseStreet_1 23 rfl rfl
theorem dksX9_parseStreet_3 : cX9_parseStreet.data.toList.drop 71 = dktX9_parseStreet_3 := dk_seg dksX9_parseStreet_2 24 rfl rfl
theorem dX9_parseStreet_0 : decode cX9_parseStreet 0 = .ok (.aload_n 0, 1) := dk_42 (dk_at dksX9_parseStreet_0 0 rfl rfl)
theorem dX9_parseStreet_1 : decode cX9_parseStreet 1 = .ok (.aload_n 1, 1) := dk_43 (dk_at dksX9_parseStreet_0 1 rfl rfl)
theorem dX9_parseStreet_2 : decode cX9_parseStreet 2 = .ok (.getfield 92, 3) := dk_180 0 92 (dk_at dksX9_parseStreet_0 2 rfl rfl)
theorem dX9_parseStreet_5 : decode cX9_parseStreet 5 = .ok (.invokeinterface 96 1, 5) := by decide +kernel
theorem dX9_parseStreet_10 : decode cX9_parseStreet 10 = .ok (.bipush 8, 2) := dk_16 8 (dk_at dksX9_parseStreet_0 10 rfl rfl)
theorem dX9_parseStreet_12 : decode cX9_parseStreet 12 = .ok (.if_icmp .ge 7, 3) := dk_162 0 7 (dk_at dksX9_parseStreet_0 12 rfl rfl)
theorem dX9_parseStreet_15 : decode cX9_parseStreet 15 = .ok (.iconst 1, 1) := dk_4 (dk_at dksX9_parseStreet_0 15 rfl rfl)
theorem dX9_parseStreet_16 : decode cX9_parseStreet 16 = .ok (.goto 4, 3) := dk_167 0 4 (dk_at dksX9_parseStreet_0 16 rfl rfl)
theorem dX9_parseStreet_19 : decode cX9_parseStreet 19 = .ok (.iconst 0, 1) := dk_3 (dk_at dksX9_parseStreet_0 19 rfl rfl)
theorem dX9_parseStreet_20 : decode cX9_parseStreet 20 = .ok (.iconst 5, 1) := dk_8 (dk_at dksX9_parseStreet_0 20 rfl rfl)
theorem dX9_parseStreet_21 : decode cX9_parseStreet 21 = .ok (.invokevirtual 27, 3) := dk_182 0 27 (dk_at dksX9_parseStreet_0 21 rfl rfl)
theorem dX9_parseStreet_24 : decode cX9_parseStreet 24 = .ok (.aload_n 0, 1) := dk_42 (dk_at dksX9_parseStreet_1 0 rfl rfl)
theorem dX9_parseStreet_25 : decode cX9_parseStreet 25 = .ok (.invokevirtual 31, 3) := dk_182 0 31 (dk_at dksX9_parseStreet_1 1 rfl rfl)
theorem dX9_parseStreet_28 : decode cX9_parseStreet 28 = .ok (.aload_n 0, 1) := dk_42 (dk_at dksX9_parseStreet_1 4 rfl rfl)
theorem dX9_parseStreet_29 : decode cX9_parseStreet 29 = .ok (.aload_n 1, 1) := dk_43 (dk_at dksX9_parseStreet_1 5 rfl rfl)
theorem dX9_parseStreet_30 : decode cX9_parseStreet 30 = .ok (.getfield 92, 3) := dk_180 0 92 (dk_at dksX9_parseStreet_1 6 rfl rfl)
theorem dX9_parseStreet_33 : decode cX9_parseStreet 33 = .ok (.invokevirtual 102, 3) := dk_182 0 102 (dk_at dksX9_parseStreet_1 9 rfl rfl)
theorem dX9_parseStreet_36 : decode cX9_parseStreet 36 = .ok (.astore_n 2, 1) := dk_77 (dk_at dksX9_parseStreet_1 12 rfl rfl)
theorem dX9_parseStreet_37 : decode cX9_parseStreet 37 = .ok (.aload_n 0, 1) := dk_42 (dk_at dksX9_parseStreet_1 13 rfl rfl)
theorem dX9_parseStreet_38 : decode cX9_parseStreet 38 = .ok (.aload_n 1, 1) := dk_43 (dk_at dksX9_parseStreet_1 14 rfl rfl)
theorem dX9_parseStreet_39 : decode cX9_parseStreet 39 = .ok (.invokevirtual 106, 3) := dk_182 0 106 (dk_at dksX9_parseStreet_1 15 rfl rfl)
theorem dX9_parseStreet_42 : decode cX9_parseStreet 42 = .ok (.astore_n 3, 1) := dk_78 (dk_at dksX9_parseStreet_1 18 rfl rfl)
theorem dX9_parseStreet_43 : decode cX9_parseStreet 43 = .ok (.aload_n 0, 1) := dk_42 (dk_at dksX9_parseStreet_1 19 rfl rfl)
theorem dX9_parseStreet_44 : decode cX9_parseStreet 44 = .ok (.iconst 1, 1) := dk_4 (dk_at dksX9_parseStreet_1 20 rfl rfl)
theorem dX9_parseStreet_45 : decode cX9_parseStreet 45 = .ok (.bipush 50, 2) := dk_16 50 (dk_at dksX9_parseStreet_1 21 rfl rfl)
theorem dX9_parseStreet_47 : decode cX9_parseStreet 47 = .ok (.invokevirtual 37, 3) := dk_182 0 37 (dk_at dksX9_parseStreet_2 0 rfl rfl)
theorem dX9_parseStreet_50 : decode cX9_parseStreet 50 = .ok (.istore 4, 2) := dk_54 4 (dk_at dksX9_parseStreet_2 3 rfl rfl)
theorem dX9_parseStreet_52 : decode cX9_parseStreet 52 = .ok (.aload_n 1, 1) := dk_43 (dk_at dksX9_parseStreet_2 5 rfl rfl)
theorem dX9_parseStreet_53 : decode cX9_parseStreet 53 = .ok (.new 110, 3) := dk_187 0 110 (dk_at dksX9_parseStreet_2 6 rfl rfl)
theorem dX9_parseStreet_56 : decode cX9_parseStreet 56 = .ok (.dup, 1) := dk_89 (dk_at dksX9_parseStreet_2 9 rfl rfl)
theorem dX9_parseStreet_57 : decode cX9_parseStreet 57 = .ok (.aload_n 1, 1) := dk_43 (dk_at dksX9_parseStreet_2 10 rfl rfl)
theorem dX9_parseStreet_58 : decode cX9_parseStreet 58 = .ok (.getfield 92, 3) := dk_180 0 92 (dk_at dksX9_parseStreet_2 11 rfl rfl)
theorem dX9_parseStreet_61 : decode cX9_parseStreet 61 = .ok (.invokeinterface 96 1, 5) := by decide +kernel
theorem dX9_parseStreet_66 : decode cX9_parseStreet 66 = .ok (.aload_n 2, 1) := dk_44 (dk_at dksX9_parseStreet_2 19 rfl rfl)
theorem dX9_parseStreet_67 : decode cX9_parseStreet 67 = .ok (.aload_n 3, 1) := dk_45 (dk_at dksX9_parseStreet_2 20 rfl rfl)
theorem dX9_parseStreet_68 : decode cX9_parseStreet 68 = .ok (.iload 4, 2) := dk_21 4 (dk_at dksX9_parseStreet_2 21 rfl rfl)
theorem dX9_parseStreet_70 : decode cX9_parseStreet 70 = .ok (.aload_n 0, 1) := dk_42 (dk_at dksX9_parseStreet_2 23 rfl rfl)
theorem dX9_parseStreet_71 : decode cX9_parseStreet 71 = .ok (.iconst 1, 1) := dk_4 (dk_at dksX9_parseStreet_3 0 rfl rfl)
theorem dX9_parseStreet_72 : decode cX9_parseStreet 72 = .ok (.sipush 200, 3) := dk_17 0 200 (dk_at dksX9_parseStreet_3 1 rfl rfl)
theorem dX9_parseStreet_75 : decode cX9_parseStreet 75 = .ok (.invokevirtual 37, 3) := dk_182 0 37 (dk_at dksX9_parseStreet_3 4 rfl rfl)
theorem dX9_parseStreet_78 : decode cX9_parseStreet 78 = .ok (.invokespecial 112, 3) := dk_183 0 112 (dk_at dksX9_parseStreet_3 7 rfl rfl)
theorem dX9_parseStreet_81 : decode cX9_parseStreet 81 = .ok (.invokevirtual 115, 3) := dk_182 0 115 (dk_at dksX9_parseStreet_3 10 rfl rfl)
theorem dX9_parseStreet_84 : decode cX9_parseStreet 84 = .ok (.aload_n 0, 1) := dk_42 (dk_at dksX9_parseStreet_3 13 rfl rfl)
theorem dX9_parseStreet_85 : decode cX9_parseStreet 85 = .ok (.bipush 59, 2) := dk_16 59 (dk_at dksX9_parseStreet_3 14 rfl rfl)
theorem dX9_parseStreet_87 : decode cX9_parseStreet 87 = .ok (.invokevirtual 44, 3) := dk_182 0 44 (dk_at dksX9_parseStreet_3 16 rfl rfl)
theorem dX9_parseStreet_90 : decode cX9_parseStreet 90 = .ok (.return_, 1) := dk_177 (dk_at dksX9_parseStreet_3 19 rfl rfl)
abbrev cX9_newName : ByteArray := prog_15_method_3_code
def yX9_newName : MethodName := ⟨RX9, "newName", "(Ljava/util/List;)Ljava/lang/String;"⟩
def dkwX9_newName_1 : List UInt8 := [42, 182, 0, 31, 44, 176]
abbrev dktX9_newName_1 : List UInt8 := dkwX9_newName_1 ++ []
def dkwX9_newName_0 : List UInt8 := [42, 182, 0, 68, 77, 42, 43, 44, 184, 0, 71, 2, 160, 0, 7, 4, 167, 0, 4, 3, 6, 182, 0, 27]
abbrev dktX9_newName_0 : List UInt8 := dkwX9_newName_0 ++ dktX9_newName_1
theorem dksX9_newName_0 : cX9_newName.data.toList.drop 0 = dktX9_newName_0 := by decide +kernel
theorem dksX9_newName_1 : cX9_newName.data.toList.drop 24 = dktX9_newName_1 := dk_seg dksX9_newName_0 24 rfl rfl
theorem dX9_newName_0 : decode cX9_newName 0 = .ok (.aload_n 0, 1) := dk_42 (dk_at dksX9_newName_0 0 rfl rfl)
theorem dX9_newName_1 : decode cX9_newName 1 = .ok (.invokevirtual 68, 3) := dk_182 0 68 (dk_at dksX9_newName_0 1 rfl rfl)
theorem dX9_newName_4 : decode cX9_newName 4 = .ok (.astore_n 2, 1) := dk_77 (dk_at dksX9_newName_0 4 rfl rfl)
theorem dX9_newName_5 : decode cX9_newName 5 = .ok (.aload_n 0, 1) := dk_42 (dk_at dksX9_newName_0 5 rfl rfl)
theorem dX9_newName_6 : decode cX9_newName 6 = .ok (.aload_n 1, 1) := dk_43 (dk_at dksX9_newName_0 6 rfl rfl)
theorem dX9_newName_7 : decode cX9_newName 7 = .ok (.aload_n 2, 1) := dk_44 (dk_at dksX9_newName_0 7 rfl rfl)
theorem dX9_newName_8 : decode cX9_newName 8 = .ok (.invokestatic 71, 3) := dk_184 0 71 (dk_at dksX9_newName_0 8 rfl rfl)
theorem dX9_newName_11 : decode cX9_newName 11 = .ok (.iconst (-1), 1) := dk_2 (dk_at dksX9_newName_0 11 rfl rfl)
theorem dX9_newName_12 : decode cX9_newName 12 = .ok (.if_icmp .ne 7, 3) := dk_160 0 7 (dk_at dksX9_newName_0 12 rfl rfl)
theorem dX9_newName_15 : decode cX9_newName 15 = .ok (.iconst 1, 1) := dk_4 (dk_at dksX9_newName_0 15 rfl rfl)
theorem dX9_newName_16 : decode cX9_newName 16 = .ok (.goto 4, 3) := dk_167 0 4 (dk_at dksX9_newName_0 16 rfl rfl)
theorem dX9_newName_19 : decode cX9_newName 19 = .ok (.iconst 0, 1) := dk_3 (dk_at dksX9_newName_0 19 rfl rfl)
theorem dX9_newName_20 : decode cX9_newName 20 = .ok (.iconst 3, 1) := dk_6 (dk_at dksX9_newName_0 20 rfl rfl)
theorem dX9_newName_21 : decode cX9_newName 21 = .ok (.invokevirtual 27, 3) := dk_182 0 27 (dk_at dksX9_newName_0 21 rfl rfl)
theorem dX9_newName_24 : decode cX9_newName 24 = .ok (.aload_n 0, 1) := dk_42 (dk_at dksX9_newName_1 0 rfl rfl)
theorem dX9_newName_25 : decode cX9_newName 25 = .ok (.invokevirtual 31, 3) := dk_182 0 31 (dk_at dksX9_newName_1 1 rfl rfl)
theorem dX9_newName_28 : decode cX9_newName 28 = .ok (.aload_n 2, 1) := dk_44 (dk_at dksX9_newName_1 4 rfl rfl)
theorem dX9_newName_29 : decode cX9_newName 29 = .ok (.areturn, 1) := dk_176 (dk_at dksX9_newName_1 5 rfl rfl)
abbrev cX9_freePoint : ByteArray := prog_15_method_4_code
def yX9_freePoint : MethodName := ⟨RX9, "freePoint", "(LRoseGuild$Guild;)LRoseGuild$Point;"⟩
def dkwX9_freePoint_2 : List UInt8 := [182, 0, 31, 45, 176]
abbrev dktX9_freePoint_2 : List UInt8 := dkwX9_freePoint_2 ++ []
def dkwX9_freePoint_1 : List UInt8 := [42, 43, 180, 0, 83, 45, 182, 0, 87, 154, 0, 7, 4, 167, 0, 4, 3, 7, 182, 0, 27, 42]
abbrev dktX9_freePoint_1 : List UInt8 := dkwX9_freePoint_1 ++ dktX9_freePoint_2
def dkwX9_freePoint_0 : List UInt8 := [42, 3, 16, 9, 182, 0, 37, 61, 187, 0, 75, 89, 28, 42, 3, 16, 9, 182, 0, 77, 183, 0, 80, 78]
abbrev dktX9_freePoint_0 : List UInt8 := dkwX9_freePoint_0 ++ dktX9_freePoint_1
theorem dksX9_freePoint_0 : cX9_freePoint.data.toList.drop 0 = dktX9_freePoint_0 := by decide +kernel
theorem dksX9_freePoint_1 : cX9_freePoint.data.toList.drop 24 = dktX9_freePoint_1 := dk_seg dksX9_freePoint_0 24 rfl rfl
theorem dksX9_freePoint_2 : cX9_freePoint.data.toList.drop 46 = dktX9_freePoint_2 := dk_seg dksX9_freePoint_1 22 rfl rfl
theorem dX9_freePoint_0 : decode cX9_freePoint 0 = .ok (.aload_n 0, 1) := dk_42 (dk_at dksX9_freePoint_0 0 rfl rfl)
theorem dX9_freePoint_1 : decode cX9_freePoint 1 = .ok (.iconst 0, 1) := dk_3 (dk_at dksX9_freePoint_0 1 rfl rfl)
theorem dX9_freePoint_2 : decode cX9_freePoint 2 = .ok (.bipush 9, 2) := dk_16 9 (dk_at dksX9_freePoint_0 2 rfl rfl)
theorem dX9_freePoint_4 : decode cX9_freePoint 4 = .ok (.invokevirtual 37, 3) := dk_182 0 37 (dk_at dksX9_freePoint_0 4 rfl rfl)
theorem dX9_freePoint_7 : decode cX9_freePoint 7 = .ok (.istore_n 2, 1) := dk_61 (dk_at dksX9_freePoint_0 7 rfl rfl)
theorem dX9_freePoint_8 : decode cX9_freePoint 8 = .ok (.new 75, 3) := dk_187 0 75 (dk_at dksX9_freePoint_0 8 rfl rfl)
theorem dX9_freePoint_11 : decode cX9_freePoint 11 = .ok (.dup, 1) := dk_89 (dk_at dksX9_freePoint_0 11 rfl rfl)
theorem dX9_freePoint_12 : decode cX9_freePoint 12 = .ok (.iload_n 2, 1) := dk_28 (dk_at dksX9_freePoint_0 12 rfl rfl)
theorem dX9_freePoint_13 : decode cX9_freePoint 13 = .ok (.aload_n 0, 1) := dk_42 (dk_at dksX9_freePoint_0 13 rfl rfl)
theorem dX9_freePoint_14 : decode cX9_freePoint 14 = .ok (.iconst 0, 1) := dk_3 (dk_at dksX9_freePoint_0 14 rfl rfl)
theorem dX9_freePoint_15 : decode cX9_freePoint 15 = .ok (.bipush 9, 2) := dk_16 9 (dk_at dksX9_freePoint_0 15 rfl rfl)
theorem dX9_freePoint_17 : decode cX9_freePoint 17 = .ok (.invokevirtual 77, 3) := dk_182 0 77 (dk_at dksX9_freePoint_0 17 rfl rfl)
theorem dX9_freePoint_20 : decode cX9_freePoint 20 = .ok (.invokespecial 80, 3) := dk_183 0 80 (dk_at dksX9_freePoint_0 20 rfl rfl)
theorem dX9_freePoint_23 : decode cX9_freePoint 23 = .ok (.astore_n 3, 1) := dk_78 (dk_at dksX9_freePoint_0 23 rfl rfl)
theorem dX9_freePoint_24 : decode cX9_freePoint 24 = .ok (.aload_n 0, 1) := dk_42 (dk_at dksX9_freePoint_1 0 rfl rfl)
theorem dX9_freePoint_25 : decode cX9_freePoint 25 = .ok (.aload_n 1, 1) := dk_43 (dk_at dksX9_freePoint_1 1 rfl rfl)
theorem dX9_freePoint_26 : decode cX9_freePoint 26 = .ok (.getfield 83, 3) := dk_180 0 83 (dk_at dksX9_freePoint_1 2 rfl rfl)
theorem dX9_freePoint_29 : decode cX9_freePoint 29 = .ok (.aload_n 3, 1) := dk_45 (dk_at dksX9_freePoint_1 5 rfl rfl)
theorem dX9_freePoint_30 : decode cX9_freePoint 30 = .ok (.invokevirtual 87, 3) := dk_182 0 87 (dk_at dksX9_freePoint_1 6 rfl rfl)
theorem dX9_freePoint_33 : decode cX9_freePoint 33 = .ok (.ifCond .ne 7, 3) := dk_154 0 7 (dk_at dksX9_freePoint_1 9 rfl rfl)
theorem dX9_freePoint_36 : decode cX9_freePoint 36 = .ok (.iconst 1, 1) := dk_4 (dk_at dksX9_freePoint_1 12 rfl rfl)
theorem dX9_freePoint_37 : decode cX9_freePoint 37 = .ok (.goto 4, 3) := dk_167 0 4 (dk_at dksX9_freePoint_1 13 rfl rfl)
theorem dX9_freePoint_40 : decode cX9_freePoint 40 = .ok (.iconst 0, 1) := dk_3 (dk_at dksX9_freePoint_1 16 rfl rfl)
theorem dX9_freePoint_41 : decode cX9_freePoint 41 = .ok (.iconst 4, 1) := dk_7 (dk_at dksX9_freePoint_1 17 rfl rfl)
theorem dX9_freePoint_42 : decode cX9_freePoint 42 = .ok (.invokevirtual 27, 3) := dk_182 0 27 (dk_at dksX9_freePoint_1 18 rfl rfl)
theorem dX9_freePoint_45 : decode cX9_freePoint 45 = .ok (.aload_n 0, 1) := dk_42 (dk_at dksX9_freePoint_1 21 rfl rfl)
theorem dX9_freePoint_46 : decode cX9_freePoint 46 = .ok (.invokevirtual 31, 3) := dk_182 0 31 (dk_at dksX9_freePoint_2 0 rfl rfl)
theorem dX9_freePoint_49 : decode cX9_freePoint 49 = .ok (.aload_n 3, 1) := dk_45 (dk_at dksX9_freePoint_2 3 rfl rfl)
theorem dX9_freePoint_50 : decode cX9_freePoint 50 = .ok (.areturn, 1) := dk_176 (dk_at dksX9_freePoint_2 4 rfl rfl)
abbrev cX9_parseGarden : ByteArray := prog_15_method_6_code
def yX9_parseGarden : MethodName := ⟨RX9, "parseGarden", "(LRoseGuild$Guild;)V"⟩
def dkwX9_parseGarden_3 : List UInt8 := [42, 16, 59, 182, 0, 44, 177]
abbrev dktX9_parseGarden_3 : List UInt8 := dkwX9_parseGarden_3 ++ []
def dkwX9_parseGarden_2 : List UInt8 := [43, 180, 0, 119, 185, 0, 96, 1, 0, 44, 45, 42, 4, 16, 30, 182, 0, 37, 183, 0, 124, 182, 0, 127]
abbrev dktX9_parseGarden_2 : List UInt8 := dkwX9_parseGarden_2 ++ dktX9_parseGarden_3
def dkwX9_parseGarden_1 : List UInt8 := [42, 182, 0, 31, 42, 43, 180, 0, 119, 182, 0, 102, 77, 42, 43, 182, 0, 106, 78, 43, 187, 0, 122, 89]
abbrev dktX9_parseGarden_1 : List UInt8 := dkwX9_parseGarden_1 ++ dktX9_parseGarden_2
def dkwX9_parseGarden_0 : List UInt8 := [42, 43, 180, 0, 119, 185, 0, 96, 1, 0, 16, 6, 162, 0, 7, 4, 167, 0, 4, 3, 8, 182, 0, 27]
abbrev dktX9_parseGarden_0 : List UInt8 := dkwX9_parseGarden_0 ++ dktX9_parseGarden_1
theorem dksX9_parseGarden_0 : cX9_parseGarden.data.toList.drop 0 = dktX9_parseGarden_0 := by decide +kernel
theorem dksX9_parseGarden_1 : cX9_parseGarden.data.toList.drop 24 = dktX9_parseGarden_1 := dk_seg dksX9_parseGarden_0 24 rfl rfl
theorem dksX9_parseGarden_2 : cX9_parseGarden.data.toList.drop 48 = dktX9_parseGarden_2 := dk_seg dksX9_parseGarden_1 24 rfl rfl
theorem dksX9_parseGarden_3 : cX9_parseGarden.data.toList.drop 72 = dktX9_parseGarden_3 := dk_seg dksX9_parseGarden_2 24 rfl rfl
theorem dX9_parseGarden_0 : decode cX9_parseGarden 0 = .ok (.aload_n 0, 1) := dk_42 (dk_at dksX9_parseGarden_0 0 rfl rfl)
theorem dX9_parseGarden_1 : decode cX9_parseGarden 1 = .ok (.aload_n 1, 1) := dk_43 (dk_at dksX9_parseGarden_0 1 rfl rfl)
theorem dX9_parseGarden_2 : decode cX9_parseGarden 2 = .ok (.getfield 119, 3) := dk_180 0 119 (dk_at dksX9_parseGarden_0 2 rfl rfl)
theorem dX9_parseGarden_5 : decode cX9_parseGarden 5 = .ok (.invokeinterface 96 1, 5) := by decide +kernel
theorem dX9_parseGarden_10 : decode cX9_parseGarden 10 = .ok (.bipush 6, 2) := dk_16 6 (dk_at dksX9_parseGarden_0 10 rfl rfl)
theorem dX9_parseGarden_12 : decode cX9_parseGarden 12 = .ok (.if_icmp .ge 7, 3) := dk_162 0 7 (dk_at dksX9_parseGarden_0 12 rfl rfl)
theorem dX9_parseGarden_15 : decode cX9_parseGarden 15 = .ok (.iconst 1, 1) := dk_4 (dk_at dksX9_parseGarden_0 15 rfl rfl)
theorem dX9_parseGarden_16 : decode cX9_parseGarden 16 = .ok (.goto 4, 3) := dk_167 0 4 (dk_at dksX9_parseGarden_0 16 rfl rfl)
theorem dX9_parseGarden_19 : decode cX9_parseGarden 19 = .ok (.iconst 0, 1) := dk_3 (dk_at dksX9_parseGarden_0 19 rfl rfl)
theorem dX9_parseGarden_20 : decode cX9_parseGarden 20 = .ok (.iconst 5, 1) := dk_8 (dk_at dksX9_parseGarden_0 20 rfl rfl)
theorem dX9_parseGarden_21 : decode cX9_parseGarden 21 = .ok (.invokevirtual 27, 3) := dk_182 0 27 (dk_at dksX9_parseGarden_0 21 rfl rfl)
theorem dX9_parseGarden_24 : decode cX9_parseGarden 24 = .ok (.aload_n 0, 1) := dk_42 (dk_at dksX9_parseGarden_1 0 rfl rfl)
theorem dX9_parseGarden_25 : decode cX9_parseGarden 25 = .ok (.invokevirtual 31, 3) := dk_182 0 31 (dk_at dksX9_parseGarden_1 1 rfl rfl)
theorem dX9_parseGarden_28 : decode cX9_parseGarden 28 = .ok (.aload_n 0, 1) := dk_42 (dk_at dksX9_parseGarden_1 4 rfl rfl)
theorem dX9_parseGarden_29 : decode cX9_parseGarden 29 = .ok (.aload_n 1, 1) := dk_43 (dk_at dksX9_parseGarden_1 5 rfl rfl)
theorem dX9_parseGarden_30 : decode cX9_parseGarden 30 = .ok (.getfield 119, 3) := dk_180 0 119 (dk_at dksX9_parseGarden_1 6 rfl rfl)
theorem dX9_parseGarden_33 : decode cX9_parseGarden 33 = .ok (.invokevirtual 102, 3) := dk_182 0 102 (dk_at dksX9_parseGarden_1 9 rfl rfl)
theorem dX9_parseGarden_36 : decode cX9_parseGarden 36 = .ok (.astore_n 2, 1) := dk_77 (dk_at dksX9_parseGarden_1 12 rfl rfl)
theorem dX9_parseGarden_37 : decode cX9_parseGarden 37 = .ok (.aload_n 0, 1) := dk_42 (dk_at dksX9_parseGarden_1 13 rfl rfl)
theorem dX9_parseGarden_38 : decode cX9_parseGarden 38 = .ok (.aload_n 1, 1) := dk_43 (dk_at dksX9_parseGarden_1 14 rfl rfl)
theorem dX9_parseGarden_39 : decode cX9_parseGarden 39 = .ok (.invokevirtual 106, 3) := dk_182 0 106 (dk_at dksX9_parseGarden_1 15 rfl rfl)
theorem dX9_parseGarden_42 : decode cX9_parseGarden 42 = .ok (.astore_n 3, 1) := dk_78 (dk_at dksX9_parseGarden_1 18 rfl rfl)
theorem dX9_parseGarden_43 : decode cX9_parseGarden 43 = .ok (.aload_n 1, 1) := dk_43 (dk_at dksX9_parseGarden_1 19 rfl rfl)
theorem dX9_parseGarden_44 : decode cX9_parseGarden 44 = .ok (.new 122, 3) := dk_187 0 122 (dk_at dksX9_parseGarden_1 20 rfl rfl)
theorem dX9_parseGarden_47 : decode cX9_parseGarden 47 = .ok (.dup, 1) := dk_89 (dk_at dksX9_parseGarden_1 23 rfl rfl)
theorem dX9_parseGarden_48 : decode cX9_parseGarden 48 = .ok (.aload_n 1, 1) := dk_43 (dk_at dksX9_parseGarden_2 0 rfl rfl)
theorem dX9_parseGarden_49 : decode cX9_parseGarden 49 = .ok (.getfield 119, 3) := dk_180 0 119 (dk_at dksX9_parseGarden_2 1 rfl rfl)
theorem dX9_parseGarden_52 : decode cX9_parseGarden 52 = .ok (.invokeinterface 96 1, 5) := by decide +kernel
theorem dX9_parseGarden_57 : decode cX9_parseGarden 57 = .ok (.aload_n 2, 1) := dk_44 (dk_at dksX9_parseGarden_2 9 rfl rfl)
theorem dX9_parseGarden_58 : decode cX9_parseGarden 58 = .ok (.aload_n 3, 1) := dk_45 (dk_at dksX9_parseGarden_2 10 rfl rfl)
theorem dX9_parseGarden_59 : decode cX9_parseGarden 59 = .ok (.aload_n 0, 1) := dk_42 (dk_at dksX9_parseGarden_2 11 rfl rfl)
theorem dX9_parseGarden_60 : decode cX9_parseGarden 60 = .ok (.iconst 1, 1) := dk_4 (dk_at dksX9_parseGarden_2 12 rfl rfl)
theorem dX9_parseGarden_61 : decode cX9_parseGarden 61 = .ok (.bipush 30, 2) := dk_16 30 (dk_at dksX9_parseGarden_2 13 rfl rfl)
theorem dX9_parseGarden_63 : decode cX9_parseGarden 63 = .ok (.invokevirtual 37, 3) := dk_182 0 37 (dk_at dksX9_parseGarden_2 15 rfl rfl)
theorem dX9_parseGarden_66 : decode cX9_parseGarden 66 = .ok (.invokespecial 124, 3) := dk_183 0 124 (dk_at dksX9_parseGarden_2 18 rfl rfl)
theorem dX9_parseGarden_69 : decode cX9_parseGarden 69 = .ok (.invokevirtual 127, 3) := dk_182 0 127 (dk_at dksX9_parseGarden_2 21 rfl rfl)
theorem dX9_parseGarden_72 : decode cX9_parseGarden 72 = .ok (.aload_n 0, 1) := dk_42 (dk_at dksX9_parseGarden_3 0 rfl rfl)
theorem dX9_parseGarden_73 : decode cX9_parseGarden 73 = .ok (.bipush 59, 2) := dk_16 59 (dk_at dksX9_parseGarden_3 1 rfl rfl)
theorem dX9_parseGarden_75 : decode cX9_parseGarden 75 = .ok (.invokevirtual 44, 3) := dk_182 0 44 (dk_at dksX9_parseGarden_3 3 rfl rfl)
theorem dX9_parseGarden_78 : decode cX9_parseGarden 78 = .ok (.return_, 1) := dk_177 (dk_at dksX9_parseGarden_3 6 rfl rfl)
abbrev cX9_parseCart : ByteArray := prog_15_method_7_code
def yX9_parseCart : MethodName := ⟨RX9, "parseCart", "(LRoseGuild$Guild;)V"⟩
def dkwX9_parseCart_2 : List UInt8 := [182, 0, 134, 42, 16, 59, 182, 0, 44, 177]
abbrev dktX9_parseCart_2 : List UInt8 := dkwX9_parseCart_2 ++ []
def dkwX9_parseCart_1 : List UInt8 := [42, 182, 0, 31, 42, 4, 16, 60, 182, 0, 37, 61, 43, 28, 42, 4, 16, 9, 182, 0, 37, 1]
abbrev dktX9_parseCart_1 : List UInt8 := dkwX9_parseCart_1 ++ dktX9_parseCart_2
def dkwX9_parseCart_0 : List UInt8 := [42, 43, 180, 0, 131, 185, 0, 96, 1, 0, 16, 6, 162, 0, 7, 4, 167, 0, 4, 3, 8, 182, 0, 27]
abbrev dktX9_parseCart_0 : List UInt8 := dkwX9_parseCart_0 ++ dktX9_parseCart_1
theorem dksX9_parseCart_0 : cX9_parseCart.data.toList.drop 0 = dktX9_parseCart_0 := by decide +kernel
theorem dksX9_parseCart_1 : cX9_parseCart.data.toList.drop 24 = dktX9_parseCart_1 := dk_seg dksX9_parseCart_0 24 rfl rfl
theorem dksX9_parseCart_2 : cX9_parseCart.data.toList.drop 46 = dktX9_parseCart_2 := dk_seg dksX9_parseCart_1 22 rfl rfl
theorem dX9_parseCart_0 : decode cX9_parseCart 0 = .ok (.aload_n 0, 1) := dk_42 (dk_at dksX9_parseCart_0 0 rfl rfl)
theorem dX9_parseCart_1 : decode cX9_parseCart 1 = .ok (.aload_n 1, 1) := dk_43 (dk_at dksX9_parseCart_0 1 rfl rfl)
theorem dX9_parseCart_2 : decode cX9_parseCart 2 = .ok (.getfield 131, 3) := dk_180 0 131 (dk_at dksX9_parseCart_0 2 rfl rfl)
theorem dX9_parseCart_5 : decode cX9_parseCart 5 = .ok (.invokeinterface 96 1, 5) := by decide +kernel
theorem dX9_parseCart_10 : decode cX9_parseCart 10 = .ok (.bipush 6, 2) := dk_16 6 (dk_at dksX9_parseCart_0 10 rfl rfl)
theorem dX9_parseCart_12 : decode cX9_parseCart 12 = .ok (.if_icmp .ge 7, 3) := dk_162 0 7 (dk_at dksX9_parseCart_0 12 rfl rfl)
theorem dX9_parseCart_15 : decode cX9_parseCart 15 = .ok (.iconst 1, 1) := dk_4 (dk_at dksX9_parseCart_0 15 rfl rfl)
theorem dX9_parseCart_16 : decode cX9_parseCart 16 = .ok (.goto 4, 3) := dk_167 0 4 (dk_at dksX9_parseCart_0 16 rfl rfl)
theorem dX9_parseCart_19 : decode cX9_parseCart 19 = .ok (.iconst 0, 1) := dk_3 (dk_at dksX9_parseCart_0 19 rfl rfl)
theorem dX9_parseCart_20 : decode cX9_parseCart 20 = .ok (.iconst 5, 1) := dk_8 (dk_at dksX9_parseCart_0 20 rfl rfl)
theorem dX9_parseCart_21 : decode cX9_parseCart 21 = .ok (.invokevirtual 27, 3) := dk_182 0 27 (dk_at dksX9_parseCart_0 21 rfl rfl)
theorem dX9_parseCart_24 : decode cX9_parseCart 24 = .ok (.aload_n 0, 1) := dk_42 (dk_at dksX9_parseCart_1 0 rfl rfl)
theorem dX9_parseCart_25 : decode cX9_parseCart 25 = .ok (.invokevirtual 31, 3) := dk_182 0 31 (dk_at dksX9_parseCart_1 1 rfl rfl)
theorem dX9_parseCart_28 : decode cX9_parseCart 28 = .ok (.aload_n 0, 1) := dk_42 (dk_at dksX9_parseCart_1 4 rfl rfl)
theorem dX9_parseCart_29 : decode cX9_parseCart 29 = .ok (.iconst 1, 1) := dk_4 (dk_at dksX9_parseCart_1 5 rfl rfl)
theorem dX9_parseCart_30 : decode cX9_parseCart 30 = .ok (.bipush 60, 2) := dk_16 60 (dk_at dksX9_parseCart_1 6 rfl rfl)
theorem dX9_parseCart_32 : decode cX9_parseCart 32 = .ok (.invokevirtual 37, 3) := dk_182 0 37 (dk_at dksX9_parseCart_1 8 rfl rfl)
theorem dX9_parseCart_35 : decode cX9_parseCart 35 = .ok (.istore_n 2, 1) := dk_61 (dk_at dksX9_parseCart_1 11 rfl rfl)
theorem dX9_parseCart_36 : decode cX9_parseCart 36 = .ok (.aload_n 1, 1) := dk_43 (dk_at dksX9_parseCart_1 12 rfl rfl)
theorem dX9_parseCart_37 : decode cX9_parseCart 37 = .ok (.iload_n 2, 1) := dk_28 (dk_at dksX9_parseCart_1 13 rfl rfl)
theorem dX9_parseCart_38 : decode cX9_parseCart 38 = .ok (.aload_n 0, 1) := dk_42 (dk_at dksX9_parseCart_1 14 rfl rfl)
theorem dX9_parseCart_39 : decode cX9_parseCart 39 = .ok (.iconst 1, 1) := dk_4 (dk_at dksX9_parseCart_1 15 rfl rfl)
theorem dX9_parseCart_40 : decode cX9_parseCart 40 = .ok (.bipush 9, 2) := dk_16 9 (dk_at dksX9_parseCart_1 16 rfl rfl)
theorem dX9_parseCart_42 : decode cX9_parseCart 42 = .ok (.invokevirtual 37, 3) := dk_182 0 37 (dk_at dksX9_parseCart_1 18 rfl rfl)
theorem dX9_parseCart_45 : decode cX9_parseCart 45 = .ok (.aconst_null, 1) := dk_1 (dk_at dksX9_parseCart_1 21 rfl rfl)
theorem dX9_parseCart_46 : decode cX9_parseCart 46 = .ok (.invokevirtual 134, 3) := dk_182 0 134 (dk_at dksX9_parseCart_2 0 rfl rfl)
theorem dX9_parseCart_49 : decode cX9_parseCart 49 = .ok (.aload_n 0, 1) := dk_42 (dk_at dksX9_parseCart_2 3 rfl rfl)
theorem dX9_parseCart_50 : decode cX9_parseCart 50 = .ok (.bipush 59, 2) := dk_16 59 (dk_at dksX9_parseCart_2 4 rfl rfl)
theorem dX9_parseCart_52 : decode cX9_parseCart 52 = .ok (.invokevirtual 44, 3) := dk_182 0 44 (dk_at dksX9_parseCart_2 6 rfl rfl)
theorem dX9_parseCart_55 : decode cX9_parseCart 55 = .ok (.return_, 1) := dk_177 (dk_at dksX9_parseCart_2 9 rfl rfl)
theorem q187 : (Jvm.Cond.initialized "RoseGuild$SetupParser") ∈ lw_all := lw_g (lw_at lw_m1 52 rfl) rfl
theorem q995 : (Jvm.Cond.selects "RoseGuild$SetupParser" ({ cls := "java/lang/Object", name := "getClass", desc := "()Ljava/lang/Class;" } : Jvm.MethodName) ({ cls := "java/lang/Object", name := "getClass", desc := "()Ljava/lang/Class;" } : Jvm.MethodName)) ∈ lw_all := lw_g (lw_at lw_m4 140 rfl) rfl
theorem q1060 : (Jvm.Cond.selects "RoseGuild$SetupParser" ({ cls := "java/lang/Object", name := "toString", desc := "()Ljava/lang/String;" } : Jvm.MethodName) ({ cls := "java/lang/Object", name := "toString", desc := "()Ljava/lang/String;" } : Jvm.MethodName)) ∈ lw_all := lw_g (lw_at lw_m4 205 rfl) rfl
theorem q1220 : (Jvm.Cond.fieldLinkNest "RoseGuild$SetupParser" (83 : Nat) "RoseGuild$Guild" "occupied" "Ljava/util/LinkedHashSet;" "RoseGuild") ∈ lw_tbl := lw_at lw_m5 125 rfl
theorem q1222 : (Jvm.Cond.fieldLinkNest "RoseGuild$SetupParser" (92 : Nat) "RoseGuild$Guild" "streets" "Ljava/util/List;" "RoseGuild") ∈ lw_tbl := lw_at lw_m5 127 rfl
theorem q1226 : (Jvm.Cond.fieldLinkNest "RoseGuild$SetupParser" (119 : Nat) "RoseGuild$Guild" "gardens" "Ljava/util/List;" "RoseGuild") ∈ lw_tbl := lw_at lw_m5 131 rfl
theorem q1230 : (Jvm.Cond.fieldLinkNest "RoseGuild$SetupParser" (131 : Nat) "RoseGuild$Guild" "carts" "Ljava/util/List;" "RoseGuild") ∈ lw_tbl := lw_at lw_m5 135 rfl
theorem q1459 : (Jvm.Cond.selects "RoseGuild$SetupParser" ({ cls := "java/lang/Object", name := "hashCode", desc := "()I" } : Jvm.MethodName) ({ cls := "java/lang/Object", name := "hashCode", desc := "()I" } : Jvm.MethodName)) ∈ lw_all := lw_g (lw_at lw_m6 124 rfl) rfl
theorem q1875 : (Jvm.Cond.selects "RoseGuild$SetupParser" ({ cls := "java/lang/Object", name := "equals", desc := "(Ljava/lang/Object;)Z" } : Jvm.MethodName) ({ cls := "java/lang/Object", name := "equals", desc := "(Ljava/lang/Object;)Z" } : Jvm.MethodName)) ∈ lw_all := lw_g (lw_at lw_m8 60 rfl) rfl
theorem q2120 : (Jvm.Cond.instantiable "RoseGuild$SetupParser" (8 : Nat)) ∈ lw_all := lw_g (lw_at lw_m9 65 rfl) rfl
theorem q2122 : (Jvm.Cond.instanceMethod ({ cls := "RoseGuild$SetupParser", name := "<init>", desc := "(LRoseGuild;)V" } : Jvm.MethodName)) ∈ lw_all := lw_g (lw_at lw_m9 67 rfl) rfl
theorem q2123 : (Jvm.Cond.code ({ cls := "RoseGuild$SetupParser", name := "<init>", desc := "(LRoseGuild;)V" } : Jvm.MethodName) prog_15_method_1_code (2 : Nat) (Option.none : Option Jvm.ClassFile.FieldType)) ∈ lw_all := lw_g (lw_at lw_m9 68 rfl) rfl
theorem q2124 : (Jvm.Cond.methodLink "RoseGuild$SetupParser" (9 : Nat) ({ cls := "RoseGuild$Parser", name := "<init>", desc := "(LRoseGuild;)V" } : Jvm.MethodName)) ∈ lw_all := lw_g (lw_at lw_m9 69 rfl) rfl
theorem q2135 : (Jvm.Cond.selects "RoseGuild$SetupParser" ({ cls := "RoseGuild$Parser", name := "advance", desc := "()V" } : Jvm.MethodName) ({ cls := "RoseGuild$Parser", name := "advance", desc := "()V" } : Jvm.MethodName)) ∈ lw_all := lw_g (lw_at lw_m9 80 rfl) rfl
theorem q2165 : (Jvm.Cond.fieldLink "RoseGuild$SetupParser" (3 : Nat) "RoseGuild$SetupParser" "this$0" "LRoseGuild;") ∈ lw_all := lw_g (lw_at lw_m9 110 rfl) rfl
theorem q2173 : (Jvm.Cond.laysFinal "RoseGuild$SetupParser" "RoseGuild$SetupParser" "this$0" "LRoseGuild;") ∈ lw_all := lw_g (lw_at lw_m9 118 rfl) rfl
theorem q2174 : (Jvm.Cond.soleField "RoseGuild$SetupParser" "this$0") ∈ lw_all := lw_g (lw_at lw_m9 119 rfl) rfl
theorem q2175 : (Jvm.Cond.laysFinal "RoseGuild$SetupParser" "RoseGuild$Parser" "end" "I") ∈ lw_all := lw_g (lw_at lw_m9 120 rfl) rfl
theorem q2177 : (Jvm.Cond.lays "RoseGuild$SetupParser" "RoseGuild$Parser" "next" "I") ∈ lw_all := lw_g (lw_at lw_m9 122 rfl) rfl
theorem q2179 : (Jvm.Cond.lays "RoseGuild$SetupParser" "RoseGuild$Parser" "start" "I") ∈ lw_all := lw_g (lw_at lw_m9 124 rfl) rfl
theorem q2181 : (Jvm.Cond.lays "RoseGuild$SetupParser" "RoseGuild$Parser" "number" "I") ∈ lw_all := lw_g (lw_at lw_m9 126 rfl) rfl
theorem q2183 : (Jvm.Cond.lays "RoseGuild$SetupParser" "RoseGuild$Parser" "kind" "LRoseGuild$TokenKind;") ∈ lw_all := lw_g (lw_at lw_m9 128 rfl) rfl
theorem q2185 : (Jvm.Cond.lays "RoseGuild$SetupParser" "RoseGuild$Parser" "word" "Ljava/lang/String;") ∈ lw_all := lw_g (lw_at lw_m9 130 rfl) rfl
theorem q2187 : (Jvm.Cond.laysFinal "RoseGuild$SetupParser" "RoseGuild$Parser" "this$0" "LRoseGuild;") ∈ lw_all := lw_g (lw_at lw_m9 132 rfl) rfl
theorem q2189 : (Jvm.Cond.superclass "RoseGuild$SetupParser" "RoseGuild$Parser") ∈ lw_all := lw_g (lw_at lw_m9 134 rfl) rfl
theorem q2191 : (Jvm.Cond.instanceMethod ({ cls := "RoseGuild$SetupParser", name := "parse", desc := "()LRoseGuild$Guild;" } : Jvm.MethodName)) ∈ lw_all := lw_g (lw_at lw_m9 136 rfl) rfl
theorem q2192 : (Jvm.Cond.selects "RoseGuild$SetupParser" ({ cls := "RoseGuild$SetupParser", name := "parse", desc := "()LRoseGuild$Guild;" } : Jvm.MethodName) ({ cls := "RoseGuild$SetupParser", name := "parse", desc := "()LRoseGuild$Guild;" } : Jvm.MethodName)) ∈ lw_all := lw_g (lw_at lw_m9 137 rfl) rfl
theorem q2193 : (Jvm.Cond.code ({ cls := "RoseGuild$SetupParser", name := "parse", desc := "()LRoseGuild$Guild;" } : Jvm.MethodName) prog_15_method_2_code (2 : Nat) (Option.some (Jvm.ClassFile.FieldType.object "RoseGuild$Guild"))) ∈ lw_all := lw_g (lw_at lw_m9 138 rfl) rfl
theorem q2194 : (Jvm.Cond.methodLink "RoseGuild$SetupParser" (15 : Nat) ({ cls := "RoseGuild$SetupParser", name := "word", desc := "()Ljava/lang/String;" } : Jvm.MethodName)) ∈ lw_all := lw_g (lw_at lw_m9 139 rfl) rfl
theorem q2195 : (Jvm.Cond.sameMethod "RoseGuild$SetupParser" "RoseGuild$Parser" "word" "()Ljava/lang/String;") ∈ lw_all := lw_g (lw_at lw_m9 140 rfl) rfl
theorem q2197 : (Jvm.Cond.selects "RoseGuild$SetupParser" ({ cls := "RoseGuild$SetupParser", name := "word", desc := "()Ljava/lang/String;" } : Jvm.MethodName) ({ cls := "RoseGuild$Parser", name := "word", desc := "()Ljava/lang/String;" } : Jvm.MethodName)) ∈ lw_all := lw_g (lw_at lw_m9 142 rfl) rfl
theorem q2200 : (Jvm.Cond.stringRef "RoseGuild$SetupParser" (19 : Nat) "guild") ∈ lw_tbl := lw_at lw_m9 145 rfl
theorem q2201 : (Jvm.Cond.methodLink "RoseGuild$SetupParser" (21 : Nat) ({ cls := "java/lang/String", name := "equals", desc := "(Ljava/lang/Object;)Z" } : Jvm.MethodName)) ∈ lw_all := lw_g (lw_at lw_m9 146 rfl) rfl
theorem q2202 : (Jvm.Cond.methodLink "RoseGuild$SetupParser" (27 : Nat) ({ cls := "RoseGuild$SetupParser", name := "require", desc := "(ZI)V" } : Jvm.MethodName)) ∈ lw_all := lw_g (lw_at lw_m9 147 rfl) rfl
theorem q2203 : (Jvm.Cond.sameMethod "RoseGuild$SetupParser" "RoseGuild$Parser" "require" "(ZI)V") ∈ lw_all := lw_g (lw_at lw_m9 148 rfl) rfl
theorem q2205 : (Jvm.Cond.selects "RoseGuild$SetupParser" ({ cls := "RoseGuild$SetupParser", name := "require", desc := "(ZI)V" } : Jvm.MethodName) ({ cls := "RoseGuild$Parser", name := "require", desc := "(ZI)V" } : Jvm.MethodName)) ∈ lw_all := lw_g (lw_at lw_m9 150 rfl) rfl
theorem q2236 : (Jvm.Cond.methodLink "RoseGuild$SetupParser" (31 : Nat) ({ cls := "RoseGuild$SetupParser", name := "advance", desc := "()V" } : Jvm.MethodName)) ∈ lw_all := lw_g (lw_at lw_m9 181 rfl) rfl
theorem q2237 : (Jvm.Cond.sameMethod "RoseGuild$SetupParser" "RoseGuild$Parser" "advance" "()V") ∈ lw_all := lw_g (lw_at lw_m9 182 rfl) rfl
theorem q2239 : (Jvm.Cond.selects "RoseGuild$SetupParser" ({ cls := "RoseGuild$SetupParser", name := "advance", desc := "()V" } : Jvm.MethodName) ({ cls := "RoseGuild$Parser", name := "advance", desc := "()V" } : Jvm.MethodName)) ∈ lw_all := lw_g (lw_at lw_m9 184 rfl) rfl
theorem q2240 : (Jvm.Cond.classLink "RoseGuild$SetupParser" (35 : Nat) "RoseGuild$Guild") ∈ lw_all := lw_g (lw_at lw_m9 185 rfl) rfl
theorem q2241 : (Jvm.Cond.methodLink "RoseGuild$SetupParser" (37 : Nat) ({ cls := "RoseGuild$SetupParser", name := "number", desc := "(II)I" } : Jvm.MethodName)) ∈ lw_all := lw_g (lw_at lw_m9 186 rfl) rfl
theorem q2242 : (Jvm.Cond.sameMethod "RoseGuild$SetupParser" "RoseGuild$Parser" "number" "(II)I") ∈ lw_all := lw_g (lw_at lw_m9 187 rfl) rfl
theorem q2244 : (Jvm.Cond.selects "RoseGuild$SetupParser" ({ cls := "RoseGuild$SetupParser", name := "number", desc := "(II)I" } : Jvm.MethodName) ({ cls := "RoseGuild$Parser", name := "number", desc := "(II)I" } : Jvm.MethodName)) ∈ lw_all := lw_g (lw_at lw_m9 189 rfl) rfl
theorem q2251 : (Jvm.Cond.selects "RoseGuild$SetupParser" ({ cls := "RoseGuild$Parser", name := "peekNumber", desc := "(II)I" } : Jvm.MethodName) ({ cls := "RoseGuild$Parser", name := "peekNumber", desc := "(II)I" } : Jvm.MethodName)) ∈ lw_all := lw_g (lw_at lw_m9 196 rfl) rfl
theorem q2254 : (Jvm.Cond.methodLink "RoseGuild$SetupParser" (41 : Nat) ({ cls := "RoseGuild$Guild", name := "<init>", desc := "(IIIII)V" } : Jvm.MethodName)) ∈ lw_all := lw_g (lw_at lw_m9 199 rfl) rfl
theorem q2255 : (Jvm.Cond.methodLink "RoseGuild$SetupParser" (44 : Nat) ({ cls := "RoseGuild$SetupParser", name := "sign", desc := "(I)V" } : Jvm.MethodName)) ∈ lw_all := lw_g (lw_at lw_m9 200 rfl) rfl
theorem q2256 : (Jvm.Cond.sameMethod "RoseGuild$SetupParser" "RoseGuild$Parser" "sign" "(I)V") ∈ lw_all := lw_g (lw_at lw_m9 201 rfl) rfl
theorem q2258 : (Jvm.Cond.selects "RoseGuild$SetupParser" ({ cls := "RoseGuild$SetupParser", name := "sign", desc := "(I)V" } : Jvm.MethodName) ({ cls := "RoseGuild$Parser", name := "sign", desc := "(I)V" } : Jvm.MethodName)) ∈ lw_all := lw_g (lw_at lw_m9 203 rfl) rfl
theorem q2265 : (Jvm.Cond.selects "RoseGuild$SetupParser" ({ cls := "RoseGuild$Parser", name := "isSign", desc := "(I)Z" } : Jvm.MethodName) ({ cls := "RoseGuild$Parser", name := "isSign", desc := "(I)Z" } : Jvm.MethodName)) ∈ lw_all := lw_g (lw_at lw_m9 210 rfl) rfl
theorem q2267 : (Jvm.Cond.stringRef "RoseGuild$SetupParser" (48 : Nat) "street") ∈ lw_tbl := lw_at lw_m9 212 rfl
theorem q2268 : (Jvm.Cond.methodLink "RoseGuild$SetupParser" (50 : Nat) ({ cls := "RoseGuild$SetupParser", name := "parseStreet", desc := "(LRoseGuild$Guild;)V" } : Jvm.MethodName)) ∈ lw_all := lw_g (lw_at lw_m9 213 rfl) rfl
theorem q2269 : (Jvm.Cond.privateMethod ({ cls := "RoseGuild$SetupParser", name := "parseStreet", desc := "(LRoseGuild$Guild;)V" } : Jvm.MethodName)) ∈ lw_tbl := lw_at lw_m9 214 rfl
theorem q2270 : (Jvm.Cond.instanceMethod ({ cls := "RoseGuild$SetupParser", name := "parseStreet", desc := "(LRoseGuild$Guild;)V" } : Jvm.MethodName)) ∈ lw_all := lw_g (lw_at lw_m9 215 rfl) rfl
theorem q2271 : (Jvm.Cond.code ({ cls := "RoseGuild$SetupParser", name := "parseStreet", desc := "(LRoseGuild$Guild;)V" } : Jvm.MethodName) prog_15_method_5_code (5 : Nat) (Option.none : Option Jvm.ClassFile.FieldType)) ∈ lw_all := lw_g (lw_at lw_m9 216 rfl) rfl
theorem q2272 : (Jvm.Cond.interfaceEntry "RoseGuild$SetupParser" (96 : Nat)) ∈ lw_tbl := lw_at lw_m9 217 rfl
theorem q2273 : (Jvm.Cond.methodLink "RoseGuild$SetupParser" (96 : Nat) ({ cls := "java/util/List", name := "size", desc := "()I" } : Jvm.MethodName)) ∈ lw_all := lw_g (lw_at lw_m9 218 rfl) rfl
theorem q2274 : (Jvm.Cond.methodLink "RoseGuild$SetupParser" (102 : Nat) ({ cls := "RoseGuild$SetupParser", name := "newName", desc := "(Ljava/util/List;)Ljava/lang/String;" } : Jvm.MethodName)) ∈ lw_all := lw_g (lw_at lw_m9 219 rfl) rfl
theorem q2275 : (Jvm.Cond.privateMethod ({ cls := "RoseGuild$SetupParser", name := "newName", desc := "(Ljava/util/List;)Ljava/lang/String;" } : Jvm.MethodName)) ∈ lw_tbl := lw_at lw_m9 220 rfl
theorem q2276 : (Jvm.Cond.instanceMethod ({ cls := "RoseGuild$SetupParser", name := "newName", desc := "(Ljava/util/List;)Ljava/lang/String;" } : Jvm.MethodName)) ∈ lw_all := lw_g (lw_at lw_m9 221 rfl) rfl
theorem q2277 : (Jvm.Cond.code ({ cls := "RoseGuild$SetupParser", name := "newName", desc := "(Ljava/util/List;)Ljava/lang/String;" } : Jvm.MethodName) prog_15_method_3_code (3 : Nat) (Option.some (Jvm.ClassFile.FieldType.object "java/lang/String"))) ∈ lw_all := lw_g (lw_at lw_m9 222 rfl) rfl
theorem q2278 : (Jvm.Cond.methodLink "RoseGuild$SetupParser" (68 : Nat) ({ cls := "RoseGuild$SetupParser", name := "peekName", desc := "()Ljava/lang/String;" } : Jvm.MethodName)) ∈ lw_all := lw_g (lw_at lw_m9 223 rfl) rfl
theorem q2279 : (Jvm.Cond.sameMethod "RoseGuild$SetupParser" "RoseGuild$Parser" "peekName" "()Ljava/lang/String;") ∈ lw_all := lw_g (lw_at lw_m9 224 rfl) rfl
theorem q2281 : (Jvm.Cond.selects "RoseGuild$SetupParser" ({ cls := "RoseGuild$SetupParser", name := "peekName", desc := "()Ljava/lang/String;" } : Jvm.MethodName) ({ cls := "RoseGuild$Parser", name := "peekName", desc := "()Ljava/lang/String;" } : Jvm.MethodName)) ∈ lw_all := lw_g (lw_at lw_m9 226 rfl) rfl
theorem q2285 : (Jvm.Cond.methodLink "RoseGuild$SetupParser" (71 : Nat) ({ cls := "RoseGuild$Guild", name := "find", desc := "(Ljava/util/List;Ljava/lang/String;)I" } : Jvm.MethodName)) ∈ lw_all := lw_g (lw_at lw_m9 230 rfl) rfl
theorem q2375 : (Jvm.Cond.methodLink "RoseGuild$SetupParser" (106 : Nat) ({ cls := "RoseGuild$SetupParser", name := "freePoint", desc := "(LRoseGuild$Guild;)LRoseGuild$Point;" } : Jvm.MethodName)) ∈ lw_all := lw_g (lw_at lw_m10 80 rfl) rfl
theorem q2376 : (Jvm.Cond.privateMethod ({ cls := "RoseGuild$SetupParser", name := "freePoint", desc := "(LRoseGuild$Guild;)LRoseGuild$Point;" } : Jvm.MethodName)) ∈ lw_tbl := lw_at lw_m10 81 rfl
theorem q2377 : (Jvm.Cond.instanceMethod ({ cls := "RoseGuild$SetupParser", name := "freePoint", desc := "(LRoseGuild$Guild;)LRoseGuild$Point;" } : Jvm.MethodName)) ∈ lw_all := lw_g (lw_at lw_m10 82 rfl) rfl
theorem q2378 : (Jvm.Cond.code ({ cls := "RoseGuild$SetupParser", name := "freePoint", desc := "(LRoseGuild$Guild;)LRoseGuild$Point;" } : Jvm.MethodName) prog_15_method_4_code (4 : Nat) (Option.some (Jvm.ClassFile.FieldType.object "RoseGuild$Point"))) ∈ lw_all := lw_g (lw_at lw_m10 83 rfl) rfl
theorem q2379 : (Jvm.Cond.classLink "RoseGuild$SetupParser" (75 : Nat) "RoseGuild$Point") ∈ lw_all := lw_g (lw_at lw_m10 84 rfl) rfl
theorem q2380 : (Jvm.Cond.methodLink "RoseGuild$SetupParser" (77 : Nat) ({ cls := "RoseGuild$SetupParser", name := "peekNumber", desc := "(II)I" } : Jvm.MethodName)) ∈ lw_all := lw_g (lw_at lw_m10 85 rfl) rfl
theorem q2381 : (Jvm.Cond.sameMethod "RoseGuild$SetupParser" "RoseGuild$Parser" "peekNumber" "(II)I") ∈ lw_all := lw_g (lw_at lw_m10 86 rfl) rfl
theorem q2383 : (Jvm.Cond.selects "RoseGuild$SetupParser" ({ cls := "RoseGuild$SetupParser", name := "peekNumber", desc := "(II)I" } : Jvm.MethodName) ({ cls := "RoseGuild$Parser", name := "peekNumber", desc := "(II)I" } : Jvm.MethodName)) ∈ lw_all := lw_g (lw_at lw_m10 88 rfl) rfl
theorem q2384 : (Jvm.Cond.methodLink "RoseGuild$SetupParser" (80 : Nat) ({ cls := "RoseGuild$Point", name := "<init>", desc := "(II)V" } : Jvm.MethodName)) ∈ lw_all := lw_g (lw_at lw_m10 89 rfl) rfl
theorem q2385 : (Jvm.Cond.methodLink "RoseGuild$SetupParser" (87 : Nat) ({ cls := "java/util/LinkedHashSet", name := "contains", desc := "(Ljava/lang/Object;)Z" } : Jvm.MethodName)) ∈ lw_all := lw_g (lw_at lw_m10 90 rfl) rfl
theorem q2405 : (Jvm.Cond.classLink "RoseGuild$SetupParser" (110 : Nat) "RoseGuild$Street") ∈ lw_all := lw_g (lw_at lw_m10 110 rfl) rfl
theorem q2406 : (Jvm.Cond.methodLink "RoseGuild$SetupParser" (112 : Nat) ({ cls := "RoseGuild$Street", name := "<init>", desc := "(ILjava/lang/String;LRoseGuild$Point;II)V" } : Jvm.MethodName)) ∈ lw_all := lw_g (lw_at lw_m10 111 rfl) rfl
theorem q2407 : (Jvm.Cond.methodLink "RoseGuild$SetupParser" (115 : Nat) ({ cls := "RoseGuild$Guild", name := "addStreet", desc := "(LRoseGuild$Street;)V" } : Jvm.MethodName)) ∈ lw_all := lw_g (lw_at lw_m10 112 rfl) rfl
theorem q2408 : (Jvm.Cond.stringRef "RoseGuild$SetupParser" (54 : Nat) "garden") ∈ lw_tbl := lw_at lw_m10 113 rfl
theorem q2409 : (Jvm.Cond.methodLink "RoseGuild$SetupParser" (56 : Nat) ({ cls := "RoseGuild$SetupParser", name := "parseGarden", desc := "(LRoseGuild$Guild;)V" } : Jvm.MethodName)) ∈ lw_all := lw_g (lw_at lw_m10 114 rfl) rfl
theorem q2410 : (Jvm.Cond.privateMethod ({ cls := "RoseGuild$SetupParser", name := "parseGarden", desc := "(LRoseGuild$Guild;)V" } : Jvm.MethodName)) ∈ lw_tbl := lw_at lw_m10 115 rfl
theorem q2411 : (Jvm.Cond.instanceMethod ({ cls := "RoseGuild$SetupParser", name := "parseGarden", desc := "(LRoseGuild$Guild;)V" } : Jvm.MethodName)) ∈ lw_all := lw_g (lw_at lw_m10 116 rfl) rfl
theorem q2412 : (Jvm.Cond.code ({ cls := "RoseGuild$SetupParser", name := "parseGarden", desc := "(LRoseGuild$Guild;)V" } : Jvm.MethodName) prog_15_method_6_code (4 : Nat) (Option.none : Option Jvm.ClassFile.FieldType)) ∈ lw_all := lw_g (lw_at lw_m10 117 rfl) rfl
theorem q2413 : (Jvm.Cond.classLink "RoseGuild$SetupParser" (122 : Nat) "RoseGuild$Garden") ∈ lw_all := lw_g (lw_at lw_m10 118 rfl) rfl
theorem q2414 : (Jvm.Cond.methodLink "RoseGuild$SetupParser" (124 : Nat) ({ cls := "RoseGuild$Garden", name := "<init>", desc := "(ILjava/lang/String;LRoseGuild$Point;I)V" } : Jvm.MethodName)) ∈ lw_all := lw_g (lw_at lw_m10 119 rfl) rfl
theorem q2415 : (Jvm.Cond.methodLink "RoseGuild$SetupParser" (127 : Nat) ({ cls := "RoseGuild$Guild", name := "addGarden", desc := "(LRoseGuild$Garden;)V" } : Jvm.MethodName)) ∈ lw_all := lw_g (lw_at lw_m10 120 rfl) rfl
theorem q2416 : (Jvm.Cond.stringRef "RoseGuild$SetupParser" (59 : Nat) "cart") ∈ lw_tbl := lw_at lw_m10 121 rfl
theorem q2417 : (Jvm.Cond.methodLink "RoseGuild$SetupParser" (61 : Nat) ({ cls := "RoseGuild$SetupParser", name := "parseCart", desc := "(LRoseGuild$Guild;)V" } : Jvm.MethodName)) ∈ lw_all := lw_g (lw_at lw_m10 122 rfl) rfl
theorem q2418 : (Jvm.Cond.privateMethod ({ cls := "RoseGuild$SetupParser", name := "parseCart", desc := "(LRoseGuild$Guild;)V" } : Jvm.MethodName)) ∈ lw_tbl := lw_at lw_m10 123 rfl
theorem q2419 : (Jvm.Cond.instanceMethod ({ cls := "RoseGuild$SetupParser", name := "parseCart", desc := "(LRoseGuild$Guild;)V" } : Jvm.MethodName)) ∈ lw_all := lw_g (lw_at lw_m10 124 rfl) rfl
theorem q2420 : (Jvm.Cond.code ({ cls := "RoseGuild$SetupParser", name := "parseCart", desc := "(LRoseGuild$Guild;)V" } : Jvm.MethodName) prog_15_method_7_code (3 : Nat) (Option.none : Option Jvm.ClassFile.FieldType)) ∈ lw_all := lw_g (lw_at lw_m10 125 rfl) rfl
theorem q2421 : (Jvm.Cond.methodLink "RoseGuild$SetupParser" (134 : Nat) ({ cls := "RoseGuild$Guild", name := "addCart", desc := "(IILRoseGuild$Contract;)V" } : Jvm.MethodName)) ∈ lw_all := lw_g (lw_at lw_m10 126 rfl) rfl
theorem q2422 : (Jvm.Cond.methodLink "RoseGuild$SetupParser" (64 : Nat) ({ cls := "RoseGuild$SetupParser", name := "isEnd", desc := "()Z" } : Jvm.MethodName)) ∈ lw_all := lw_g (lw_at lw_m10 127 rfl) rfl
theorem q2423 : (Jvm.Cond.sameMethod "RoseGuild$SetupParser" "RoseGuild$Parser" "isEnd" "()Z") ∈ lw_all := lw_g (lw_at lw_m10 128 rfl) rfl
theorem q2425 : (Jvm.Cond.selects "RoseGuild$SetupParser" ({ cls := "RoseGuild$SetupParser", name := "isEnd", desc := "()Z" } : Jvm.MethodName) ({ cls := "RoseGuild$Parser", name := "isEnd", desc := "()Z" } : Jvm.MethodName)) ∈ lw_all := lw_g (lw_at lw_m10 130 rfl) rfl
theorem q4344 : (Jvm.Cond.selects "RoseGuild$SetupParser" ({ cls := "RoseGuild$Parser", name := "require", desc := "(ZI)V" } : Jvm.MethodName) ({ cls := "RoseGuild$Parser", name := "require", desc := "(ZI)V" } : Jvm.MethodName)) ∈ lw_all := lw_g (lw_at lw_m18 129 rfl) rfl
theorem q4408 : (Jvm.Cond.castable "RoseGuild$SetupParser" "java/lang/Object") ∈ lw_tbl := lw_at lw_m18 193 rfl
theorem in_X9 : ∀ w ∈ wsX90, w ∈ lw_all := lw_in wsX90 [2175, 2177, 2179, 2181, 2183, 2185, 2187, 2173] (by decide +kernel) (by decide +kernel)

/-! RoseGuild$ScriptParser -/
set_option maxRecDepth 100000
def RX11 : String := "RoseGuild$ScriptParser"
def TX11 : u_T := fun k => match k with
  | 0 => ("RoseGuild$Parser", "end", "I", true)
  | 1 => ("RoseGuild$Parser", "next", "I", false)
  | 2 => ("RoseGuild$Parser", "start", "I", false)
  | 3 => ("RoseGuild$Parser", "number", "I", false)
  | 4 => ("RoseGuild$Parser", "kind", "LRoseGuild$TokenKind;", false)
  | 5 => ("RoseGuild$Parser", "word", "Ljava/lang/String;", false)
  | 6 => ("RoseGuild$Parser", "this$0", "LRoseGuild;", true)
  | 7 => ("RoseGuild$ScriptParser", "count", "I", false)
  | 8 => ("RoseGuild$ScriptParser", "nested", "I", false)
  | _ => ("RoseGuild$ScriptParser", "this$0", "LRoseGuild;", true)
def tyX11 : Nat → FieldType := fun k => match k with
  | 0 => .int
  | 1 => .int
  | 2 => .int
  | 3 => .int
  | 4 => .object "RoseGuild$TokenKind"
  | 5 => .object "java/lang/String"
  | 6 => .object "RoseGuild"
  | 7 => .int
  | 8 => .int
  | _ => .object "RoseGuild"
abbrev wsX110 : List Cond := u_ws RX11 TX11 10
-- two fields of one name: no nmX11
theorem tyX11_ok : ∀ k, k < 10 → parseFieldDescriptor (TX11 k).2.2.1 = some (tyX11 k) := by decide +kernel
abbrev cX11_init : ByteArray := prog_14_method_1_code
def yX11_init : MethodName := ⟨RX11, "<init>", "(LRoseGuild;)V"⟩
def dkwX11_init_0 : List UInt8 := [42, 43, 181, 0, 3, 42, 43, 183, 0, 9, 177]
abbrev dktX11_init_0 : List UInt8 := dkwX11_init_0 ++ []
theorem dksX11_init_0 : cX11_init.data.toList.drop 0 = dktX11_init_0 := by decide +kernel
theorem dX11_init_0 : decode cX11_init 0 = .ok (.aload_n 0, 1) := dk_42 (dk_at dksX11_init_0 0 rfl rfl)
theorem dX11_init_1 : decode cX11_init 1 = .ok (.aload_n 1, 1) := dk_43 (dk_at dksX11_init_0 1 rfl rfl)
theorem dX11_init_2 : decode cX11_init 2 = .ok (.putfield 3, 3) := dk_181 0 3 (dk_at dksX11_init_0 2 rfl rfl)
theorem dX11_init_5 : decode cX11_init 5 = .ok (.aload_n 0, 1) := dk_42 (dk_at dksX11_init_0 5 rfl rfl)
theorem dX11_init_6 : decode cX11_init 6 = .ok (.aload_n 1, 1) := dk_43 (dk_at dksX11_init_0 6 rfl rfl)
theorem dX11_init_7 : decode cX11_init 7 = .ok (.invokespecial 9, 3) := dk_183 0 9 (dk_at dksX11_init_0 7 rfl rfl)
theorem dX11_init_10 : decode cX11_init 10 = .ok (.return_, 1) := dk_177 (dk_at dksX11_init_0 10 rfl rfl)
abbrev cX11_parse : ByteArray := prog_14_method_2_code
def yX11_parse : MethodName := ⟨RX11, "parse", "()LRoseGuild$Block;"⟩
def dkwX11_parse_0 : List UInt8 := [42, 4, 182, 0, 15, 76, 42, 42, 182, 0, 19, 4, 182, 0, 23, 43, 176]
abbrev dktX11_parse_0 : List UInt8 := dkwX11_parse_0 ++ []
theorem dksX11_parse_0 : cX11_parse.data.toList.drop 0 = dktX11_parse_0 := by decide +kernel
theorem dX11_parse_0 : decode cX11_parse 0 = .ok (.aload_n 0, 1) := dk_42 (dk_at dksX11_parse_0 0 rfl rfl)
theorem dX11_parse_1 : decode cX11_parse 1 = .ok (.iconst 1, 1) := dk_4 (dk_at dksX11_parse_0 1 rfl rfl)
theorem dX11_parse_2 : decode cX11_parse 2 = .ok (.invokevirtual 15, 3) := dk_182 0 15 (dk_at dksX11_parse_0 2 rfl rfl)
theorem dX11_parse_5 : decode cX11_parse 5 = .ok (.astore_n 1, 1) := dk_76 (dk_at dksX11_parse_0 5 rfl rfl)
theorem dX11_parse_6 : decode cX11_parse 6 = .ok (.aload_n 0, 1) := dk_42 (dk_at dksX11_parse_0 6 rfl rfl)
theorem dX11_parse_7 : decode cX11_parse 7 = .ok (.aload_n 0, 1) := dk_42 (dk_at dksX11_parse_0 7 rfl rfl)
theorem dX11_parse_8 : decode cX11_parse 8 = .ok (.invokevirtual 19, 3) := dk_182 0 19 (dk_at dksX11_parse_0 8 rfl rfl)
theorem dX11_parse_11 : decode cX11_parse 11 = .ok (.iconst 1, 1) := dk_4 (dk_at dksX11_parse_0 11 rfl rfl)
theorem dX11_parse_12 : decode cX11_parse 12 = .ok (.invokevirtual 23, 3) := dk_182 0 23 (dk_at dksX11_parse_0 12 rfl rfl)
theorem dX11_parse_15 : decode cX11_parse 15 = .ok (.aload_n 1, 1) := dk_43 (dk_at dksX11_parse_0 15 rfl rfl)
theorem dX11_parse_16 : decode cX11_parse 16 = .ok (.areturn, 1) := dk_176 (dk_at dksX11_parse_0 16 rfl rfl)
abbrev cX11_block : ByteArray := prog_14_method_3_code
def yX11_block : MethodName := ⟨RX11, "block", "(I)LRoseGuild$Block;"⟩
def dkwX11_block_2 : List UInt8 := [176]
abbrev dktX11_block_2 : List UInt8 := dkwX11_block_2 ++ []
def dkwX11_block_1 : List UInt8 := [154, 0, 23, 44, 180, 0, 36, 42, 182, 0, 40, 182, 0, 44, 42, 16, 59, 182, 0, 50, 167, 255, 223, 44]
abbrev dktX11_block_1 : List UInt8 := dkwX11_block_1 ++ dktX11_block_2
def dkwX11_block_0 : List UInt8 := [187, 0, 27, 89, 27, 183, 0, 29, 77, 42, 182, 0, 19, 154, 0, 32, 42, 16, 41, 182, 0, 32]
abbrev dktX11_block_0 : List UInt8 := dkwX11_block_0 ++ dktX11_block_1
theorem dksX11_block_0 : cX11_block.data.toList.drop 0 = dktX11_block_0 := by decide +kernel
theorem dksX11_block_1 : cX11_block.data.toList.drop 22 = dktX11_block_1 := dk_seg dksX11_block_0 22 rfl rfl
theorem dksX11_block_2 : cX11_block.data.toList.drop 46 = dktX11_block_2 := dk_seg dksX11_block_1 24 rfl rfl
theorem dX11_block_0 : decode cX11_block 0 = .ok (.new 27, 3) := dk_187 0 27 (dk_at dksX11_block_0 0 rfl rfl)
theorem dX11_block_3 : decode cX11_block 3 = .ok (.dup, 1) := dk_89 (dk_at dksX11_block_0 3 rfl rfl)
theorem dX11_block_4 : decode cX11_block 4 = .ok (.iload_n 1, 1) := dk_27 (dk_at dksX11_block_0 4 rfl rfl)
theorem dX11_block_5 : decode cX11_block 5 = .ok (.invokespecial 29, 3) := dk_183 0 29 (dk_at dksX11_block_0 5 rfl rfl)
theorem dX11_block_8 : decode cX11_block 8 = .ok (.astore_n 2, 1) := dk_77 (dk_at dksX11_block_0 8 rfl rfl)
theorem dX11_block_9 : decode cX11_block 9 = .ok (.aload_n 0, 1) := dk_42 (dk_at dksX11_block_0 9 rfl rfl)
theorem dX11_block_10 : decode cX11_block 10 = .ok (.invokevirtual 19, 3) := dk_182 0 19 (dk_at dksX11_block_0 10 rfl rfl)
theorem dX11_block_13 : decode cX11_block 13 = .ok (.ifCond .ne 32, 3) := dk_154 0 32 (dk_at dksX11_block_0 13 rfl rfl)
theorem dX11_block_16 : decode cX11_block 16 = .ok (.aload_n 0, 1) := dk_42 (dk_at dksX11_block_0 16 rfl rfl)
theorem dX11_block_17 : decode cX11_block 17 = .ok (.bipush 41, 2) := dk_16 41 (dk_at dksX11_block_0 17 rfl rfl)
theorem dX11_block_19 : decode cX11_block 19 = .ok (.invokevirtual 32, 3) := dk_182 0 32 (dk_at dksX11_block_0 19 rfl rfl)
theorem dX11_block_22 : decode cX11_block 22 = .ok (.ifCond .ne 23, 3) := dk_154 0 23 (dk_at dksX11_block_1 0 rfl rfl)
theorem dX11_block_25 : decode cX11_block 25 = .ok (.aload_n 2, 1) := dk_44 (dk_at dksX11_block_1 3 rfl rfl)
theorem dX11_block_26 : decode cX11_block 26 = .ok (.getfield 36, 3) := dk_180 0 36 (dk_at dksX11_block_1 4 rfl rfl)
theorem dX11_block_29 : decode cX11_block 29 = .ok (.aload_n 0, 1) := dk_42 (dk_at dksX11_block_1 7 rfl rfl)
theorem dX11_block_30 : decode cX11_block 30 = .ok (.invokevirtual 40, 3) := dk_182 0 40 (dk_at dksX11_block_1 8 rfl rfl)
theorem dX11_block_33 : decode cX11_block 33 = .ok (.invokevirtual 44, 3) := dk_182 0 44 (dk_at dksX11_block_1 11 rfl rfl)
theorem dX11_block_36 : decode cX11_block 36 = .ok (.aload_n 0, 1) := dk_42 (dk_at dksX11_block_1 14 rfl rfl)
theorem dX11_block_37 : decode cX11_block 37 = .ok (.bipush 59, 2) := dk_16 59 (dk_at dksX11_block_1 15 rfl rfl)
theorem dX11_block_39 : decode cX11_block 39 = .ok (.invokevirtual 50, 3) := dk_182 0 50 (dk_at dksX11_block_1 17 rfl rfl)
theorem dX11_block_42 : decode cX11_block 42 = .ok (.goto (-33), 3) := dk_167 255 223 (dk_at dksX11_block_1 20 rfl rfl)
theorem dX11_block_45 : decode cX11_block 45 = .ok (.aload_n 2, 1) := dk_44 (dk_at dksX11_block_1 23 rfl rfl)
theorem dX11_block_46 : decode cX11_block 46 = .ok (.areturn, 1) := dk_176 (dk_at dksX11_block_2 0 rfl rfl)
abbrev cX11_command : ByteArray := prog_14_method_6_code
def yX11_command : MethodName := ⟨RX11, "command", "()LRoseGuild$Command;"⟩
def dkwX11_command_15 : List UInt8 := [182, 0, 99, 79, 183, 0, 123, 176]
abbrev dktX11_command_15 : List UInt8 := dkwX11_command_15 ++ []
def dkwX11_command_14 : List UInt8 := [182, 0, 99, 79, 183, 0, 123, 167, 0, 24, 187, 0, 106, 89, 43, 4, 188, 10, 89, 3, 42, 3, 16, 9]
abbrev dktX11_command_14 : List UInt8 := dkwX11_command_14 ++ dktX11_command_15
def dkwX11_command_13 : List UInt8 := [182, 0, 99, 79, 183, 0, 123, 167, 0, 47, 187, 0, 106, 89, 43, 4, 188, 10, 89, 3, 42, 3, 6]
abbrev dktX11_command_13 : List UInt8 := dkwX11_command_13 ++ dktX11_command_14
def dkwX11_command_12 : List UInt8 := [182, 0, 99, 79, 183, 0, 123, 167, 0, 71, 187, 0, 106, 89, 43, 4, 188, 10, 89, 3, 42, 4, 16, 30]
abbrev dktX11_command_12 : List UInt8 := dkwX11_command_12 ++ dktX11_command_13
def dkwX11_command_11 : List UInt8 := [182, 0, 99, 79, 183, 0, 123, 167, 0, 94, 187, 0, 106, 89, 43, 4, 188, 10, 89, 3, 42, 3, 8]
abbrev dktX11_command_11 : List UInt8 := dkwX11_command_11 ++ dktX11_command_12
def dkwX11_command_10 : List UInt8 := [89, 5, 42, 42, 180, 0, 3, 180, 0, 108, 180, 0, 120, 182, 0, 116, 79, 89, 6, 42, 4, 16, 30]
abbrev dktX11_command_10 : List UInt8 := dkwX11_command_10 ++ dktX11_command_11
def dkwX11_command_9 : List UInt8 := [42, 3, 8, 182, 0, 99, 79, 89, 4, 42, 42, 180, 0, 3, 180, 0, 108, 180, 0, 112, 182, 0, 116, 79]
abbrev dktX11_command_9 : List UInt8 := dkwX11_command_9 ++ dktX11_command_10
def dkwX11_command_8 : List UInt8 := [42, 42, 3, 16, 20, 182, 0, 99, 182, 0, 103, 167, 0, 161, 187, 0, 106, 89, 43, 7, 188, 10, 89, 3]
abbrev dktX11_command_8 : List UInt8 := dkwX11_command_8 ++ dktX11_command_9
def dkwX11_command_7 : List UInt8 := [170, 0, 0, 0, 0, 0, 0, 187, 0, 0, 0, 0, 0, 0, 0, 4, 0, 0, 0, 36, 0, 0, 0, 50, 0, 0, 0, 117, 0, 0, 0, 140, 0, 0, 0, 164]
abbrev dktX11_command_7 : List UInt8 := dkwX11_command_7 ++ dktX11_command_8
def dkwX11_command_6 : List UInt8 := [153, 0, 19, 6, 62, 167, 0, 14, 44, 18, 68, 182, 0, 60, 153, 0, 5, 7, 62, 29]
abbrev dktX11_command_6 : List UInt8 := dkwX11_command_6 ++ dktX11_command_7
def dkwX11_command_5 : List UInt8 := [62, 167, 0, 42, 44, 18, 64, 182, 0, 60, 153, 0, 33, 5, 62, 167, 0, 28, 44, 18, 66, 182, 0, 60]
abbrev dktX11_command_5 : List UInt8 := dkwX11_command_5 ++ dktX11_command_6
def dkwX11_command_4 : List UInt8 := [44, 18, 72, 182, 0, 60, 153, 0, 61, 3, 62, 167, 0, 56, 44, 18, 59, 182, 0, 60, 153, 0, 47, 4]
abbrev dktX11_command_4 : List UInt8 := dkwX11_command_4 ++ dktX11_command_5
def dkwX11_command_3 : List UInt8 := [171, 0, 0, 0, 0, 0, 0, 119, 0, 0, 0, 5, 174, 122, 46, 122, 0, 0, 0, 80, 200, 76, 45, 155, 0, 0, 0, 52, 0, 52, 100, 17, 0, 0, 0, 94, 0, 53, 221, 189, 0, 0, 0, 66, 0, 55, 176, 8, 0, 0, 0, 108]
abbrev dktX11_command_3 : List UInt8 := dkwX11_command_3 ++ dktX11_command_4
def dkwX11_command_2 : List UInt8 := [182, 0, 84, 43, 77, 2, 62, 44, 182, 0, 53]
abbrev dktX11_command_2 : List UInt8 := dkwX11_command_2 ++ dktX11_command_3
def dkwX11_command_1 : List UInt8 := [162, 0, 7, 4, 167, 0, 4, 3, 8, 182, 0, 23, 42, 89, 180, 0, 95, 4, 96, 181, 0, 95, 42]
abbrev dktX11_command_1 : List UInt8 := dkwX11_command_1 ++ dktX11_command_2
def dkwX11_command_0 : List UInt8 := [42, 182, 0, 88, 76, 42, 42, 43, 182, 0, 91, 4, 182, 0, 23, 42, 42, 180, 0, 95, 16, 30]
abbrev dktX11_command_0 : List UInt8 := dkwX11_command_0 ++ dktX11_command_1
theorem dksX11_command_0 : cX11_command.data.toList.drop 0 = dktX11_command_0 := by decide +kernel
theorem dksX11_command_1 : cX11_command.data.toList.drop 22 = dktX11_command_1 := dk_seg dksX11_command_0 22 rfl rfl
theorem dksX11_command_2 : cX11_command.data.toList.drop 45 = dktX11_command_2 := dk_seg dksX11_command_1 23 rfl rfl
theorem dksX11_command_3 : cX11_command.data.toList.drop 56 = dktX11_command_3 := dk_seg dksX11_command_2 11 rfl rfl
theorem dksX11_command_4 : cX11_command.data.toList.drop 108 = dktX11_command_4 := dk_seg dksX11_command_3 52 rfl rfl
theorem dksX11_command_5 : cX11_command.data.toList.drop 132 = dktX11_command_5 := dk_seg dksX11_command_4 24 rfl rfl
theorem dksX11_command_6 : cX11_command.data.toList.drop 156 = dktX11_command_6 := dk_seg dksX11_command_5 24 rfl rfl
theorem dksX11_command_7 : cX11_command.data.toList.drop 176 = dktX11_command_7 := dk_seg dksX11_command_6 20 rfl rfl
theorem dksX11_command_8 : cX11_command.data.toList.drop 212 = dktX11_command_8 := dk_seg dksX11_command_7 36 rfl rfl
theorem dksX11_command_9 : cX11_command.data.toList.drop 236 = dktX11_command_9 := dk_seg dksX11_command_8 24 rfl rfl
theorem dksX11_command_10 : cX11_command.data.toList.drop 260 = dktX11_command_10 := dk_seg dksX11_command_9 24 rfl rfl
theorem dksX11_command_11 : cX11_command.data.toList.drop 283 = dktX11_command_11 := dk_seg dksX11_command_10 23 rfl rfl
theorem dksX11_command_12 : cX11_command.data.toList.drop 306 = dktX11_command_12 := dk_seg dksX11_command_11 23 rfl rfl
theorem dksX11_command_13 : cX11_command.data.toList.drop 330 = dktX11_command_13 := dk_seg dksX11_command_12 24 rfl rfl
theorem dksX11_command_14 : cX11_command.data.toList.drop 353 = dktX11_command_14 := dk_seg dksX11_command_13 23 rfl rfl
theorem dksX11_command_15 : cX11_command.data.toList.drop 377 = dktX11_command_15 := dk_seg dksX11_command_14 24 rfl rfl
theorem dX11_command_0 : decode cX11_command 0 = .ok (.aload_n 0, 1) := dk_42 (dk_at dksX11_command_0 0 rfl rfl)
theorem dX11_command_1 : decode cX11_command 1 = .ok (.invokevirtual 88, 3) := dk_182 0 88 (dk_at dksX11_command_0 1 rfl rfl)
theorem dX11_command_4 : decode cX11_command 4 = .ok (.astore_n 1, 1) := dk_76 (dk_at dksX11_command_0 4 rfl rfl)
theorem dX11_command_5 : decode cX11_command 5 = .ok (.aload_n 0, 1) := dk_42 (dk_at dksX11_command_0 5 rfl rfl)
theorem dX11_command_6 : decode cX11_command 6 = .ok (.aload_n 0, 1) := dk_42 (dk_at dksX11_command_0 6 rfl rfl)
theorem dX11_command_7 : decode cX11_command 7 = .ok (.aload_n 1, 1) := dk_43 (dk_at dksX11_command_0 7 rfl rfl)
theorem dX11_command_8 : decode cX11_command 8 = .ok (.invokevirtual 91, 3) := dk_182 0 91 (dk_at dksX11_command_0 8 rfl rfl)
theorem dX11_command_11 : decode cX11_command 11 = .ok (.iconst 1, 1) := dk_4 (dk_at dksX11_command_0 11 rfl rfl)
theorem dX11_command_12 : decode cX11_command 12 = .ok (.invokevirtual 23, 3) := dk_182 0 23 (dk_at dksX11_command_0 12 rfl rfl)
theorem dX11_command_15 : decode cX11_command 15 = .ok (.aload_n 0, 1) := dk_42 (dk_at dksX11_command_0 15 rfl rfl)
theorem dX11_command_16 : decode cX11_command 16 = .ok (.aload_n 0, 1) := dk_42 (dk_at dksX11_command_0 16 rfl rfl)
theorem dX11_command_17 : decode cX11_command 17 = .ok (.getfield 95, 3) := dk_180 0 95 (dk_at dksX11_command_0 17 rfl rfl)
theorem dX11_command_20 : decode cX11_command 20 = .ok (.bipush 30, 2) := dk_16 30 (dk_at dksX11_command_0 20 rfl rfl)
theorem dX11_command_22 : decode cX11_command 22 = .ok (.if_icmp .ge 7, 3) := dk_162 0 7 (dk_at dksX11_command_1 0 rfl rfl)
theorem dX11_command_25 : decode cX11_command 25 = .ok (.iconst 1, 1) := dk_4 (dk_at dksX11_command_1 3 rfl rfl)
theorem dX11_command_26 : decode cX11_command 26 = .ok (.goto 4, 3) := dk_167 0 4 (dk_at dksX11_command_1 4 rfl rfl)
theorem dX11_command_29 : decode cX11_command 29 = .ok (.iconst 0, 1) := dk_3 (dk_at dksX11_command_1 7 rfl rfl)
theorem dX11_command_30 : decode cX11_command 30 = .ok (.iconst 5, 1) := dk_8 (dk_at dksX11_command_1 8 rfl rfl)
theorem dX11_command_31 : decode cX11_command 31 = .ok (.invokevirtual 23, 3) := dk_182 0 23 (dk_at dksX11_command_1 9 rfl rfl)
theorem dX11_command_34 : decode cX11_command 34 = .ok (.aload_n 0, 1) := dk_42 (dk_at dksX11_command_1 12 rfl rfl)
theorem dX11_command_35 : decode cX11_command 35 = .ok (.dup, 1) := dk_89 (dk_at dksX11_command_1 13 rfl rfl)
theorem dX11_command_36 : decode cX11_command 36 = .ok (.getfield 95, 3) := dk_180 0 95 (dk_at dksX11_command_1 14 rfl rfl)
theorem dX11_command_39 : decode cX11_command 39 = .ok (.iconst 1, 1) := dk_4 (dk_at dksX11_command_1 17 rfl rfl)
theorem dX11_command_40 : decode cX11_command 40 = .ok (.iadd, 1) := dk_96 (dk_at dksX11_command_1 18 rfl rfl)
theorem dX11_command_41 : decode cX11_command 41 = .ok (.putfield 95, 3) := dk_181 0 95 (dk_at dksX11_command_1 19 rfl rfl)
theorem dX11_command_44 : decode cX11_command 44 = .ok (.aload_n 0, 1) := dk_42 (dk_at dksX11_command_1 22 rfl rfl)
theorem dX11_command_45 : decode cX11_command 45 = .ok (.invokevirtual 84, 3) := dk_182 0 84 (dk_at dksX11_command_2 0 rfl rfl)
theorem dX11_command_48 : decode cX11_command 48 = .ok (.aload_n 1, 1) := dk_43 (dk_at dksX11_command_2 3 rfl rfl)
theorem dX11_command_49 : decode cX11_command 49 = .ok (.astore_n 2, 1) := dk_77 (dk_at dksX11_command_2 4 rfl rfl)
theorem dX11_command_50 : decode cX11_command 50 = .ok (.iconst (-1), 1) := dk_2 (dk_at dksX11_command_2 5 rfl rfl)
theorem dX11_command_51 : decode cX11_command 51 = .ok (.istore_n 3, 1) := dk_62 (dk_at dksX11_command_2 6 rfl rfl)
theorem dX11_command_52 : decode cX11_command 52 = .ok (.aload_n 2, 1) := dk_44 (dk_at dksX11_command_2 7 rfl rfl)
theorem dX11_command_53 : decode cX11_command 53 = .ok (.invokevirtual 53, 3) := dk_182 0 53 (dk_at dksX11_command_2 8 rfl rfl)
theorem dX11_command_56 : decode cX11_command 56 = .ok (.lookupswitch 119 #[(-1367724422, 80), (-934531685, 52), (3433489, 94), (3530173, 66), (3649544, 108)], 52) := by decide +kernel
theorem dX11_command_108 : decode cX11_command 108 = .ok (.aload_n 2, 1) := dk_44 (dk_at dksX11_command_4 0 rfl rfl)
theorem dX11_command_109 : decode cX11_command 109 = .ok (.ldc 72, 2) := dk_18 72 (dk_at dksX11_command_4 1 rfl rfl)
theorem dX11_command_111 : decode cX11_command 111 = .ok (.invokevirtual 60, 3) := dk_182 0 60 (dk_at dksX11_command_4 3 rfl rfl)
theorem dX11_command_114 : decode cX11_command 114 = .ok (.ifCond .eq 61, 3) := dk_153 0 61 (dk_at dksX11_command_4 6 rfl rfl)
theorem dX11_command_117 : decode cX11_command 117 = .ok (.iconst 0, 1) := dk_3 (dk_at dksX11_command_4 9 rfl rfl)
theorem dX11_command_118 : decode cX11_command 118 = .ok (.istore_n 3, 1) := dk_62 (dk_at dksX11_command_4 10 rfl rfl)
theorem dX11_command_119 : decode cX11_command 119 = .ok (.goto 56, 3) := dk_167 0 56 (dk_at dksX11_command_4 11 rfl rfl)
theorem dX11_command_122 : decode cX11_command 122 = .ok (.aload_n 2, 1) := dk_44 (dk_at dksX11_command_4 14 rfl rfl)
theorem dX11_command_123 : decode cX11_command 123 = .ok (.ldc 59, 2) := dk_18 59 (dk_at dksX11_command_4 15 rfl rfl)
theorem dX11_command_125 : decode cX11_command 125 = .ok (.invokevirtual 60, 3) := dk_182 0 60 (dk_at dksX11_command_4 17 rfl rfl)
theorem dX11_command_128 : decode cX11_command 128 = .ok (.ifCond .eq 47, 3) := dk_153 0 47 (dk_at dksX11_command_4 20 rfl rfl)
theorem dX11_command_131 : decode cX11_command 131 = .ok (.iconst 1, 1) := dk_4 (dk_at dksX11_command_4 23 rfl rfl)
theorem dX11_command_132 : decode cX11_command 132 = .ok (.istore_n 3, 1) := dk_62 (dk_at dksX11_command_5 0 rfl rfl)
theorem dX11_command_133 : decode cX11_command 133 = .ok (.goto 42, 3) := dk_167 0 42 (dk_at dksX11_command_5 1 rfl rfl)
theorem dX11_command_136 : decode cX11_command 136 = .ok (.aload_n 2, 1) := dk_44 (dk_at dksX11_command_5 4 rfl rfl)
theorem dX11_command_137 : decode cX11_command 137 = .ok (.ldc 64, 2) := dk_18 64 (dk_at dksX11_command_5 5 rfl rfl)
theorem dX11_command_139 : decode cX11_command 139 = .ok (.invokevirtual 60, 3) := dk_182 0 60 (dk_at dksX11_command_5 7 rfl rfl)
theorem dX11_command_142 : decode cX11_command 142 = .ok (.ifCond .eq 33, 3) := dk_153 0 33 (dk_at dksX11_command_5 10 rfl rfl)
theorem dX11_command_145 : decode cX11_command 145 = .ok (.iconst 2, 1) := dk_5 (dk_at dksX11_command_5 13 rfl rfl)
theorem dX11_command_146 : decode cX11_command 146 = .ok (.istore_n 3, 1) := dk_62 (dk_at dksX11_command_5 14 rfl rfl)
theorem dX11_command_147 : decode cX11_command 147 = .ok (.goto 28, 3) := dk_167 0 28 (dk_at dksX11_command_5 15 rfl rfl)
theorem dX11_command_150 : decode cX11_command 150 = .ok (.aload_n 2, 1) := dk_44 (dk_at dksX11_command_5 18 rfl rfl)
theorem dX11_command_151 : decode cX11_command 151 = .ok (.ldc 66, 2) := dk_18 66 (dk_at dksX11_command_5 19 rfl rfl)
theorem dX11_command_153 : decode cX11_command 153 = .ok (.invokevirtual 60, 3) := dk_182 0 60 (dk_at dksX11_command_5 21 rfl rfl)
theorem dX11_command_156 : decode cX11_command 156 = .ok (.ifCond .eq 19, 3) := dk_153 0 19 (dk_at dksX11_command_6 0 rfl rfl)
theorem dX11_command_159 : decode cX11_command 159 = .ok (.iconst 3, 1) := dk_6 (dk_at dksX11_command_6 3 rfl rfl)
theorem dX11_command_160 : decode cX11_command 160 = .ok (.istore_n 3, 1) := dk_62 (dk_at dksX11_command_6 4 rfl rfl)
theorem dX11_command_161 : decode cX11_command 161 = .ok (.goto 14, 3) := dk_167 0 14 (dk_at dksX11_command_6 5 rfl rfl)
theorem dX11_command_164 : decode cX11_command 164 = .ok (.aload_n 2, 1) := dk_44 (dk_at dksX11_command_6 8 rfl rfl)
theorem dX11_command_165 : decode cX11_command 165 = .ok (.ldc 68, 2) := dk_18 68 (dk_at dksX11_command_6 9 rfl rfl)
theorem dX11_command_167 : decode cX11_command 167 = .ok (.invokevirtual 60, 3) := dk_182 0 60 (dk_at dksX11_command_6 11 rfl rfl)
theorem dX11_command_170 : decode cX11_command 170 = .ok (.ifCond .eq 5, 3) := dk_153 0 5 (dk_at dksX11_command_6 14 rfl rfl)
theorem dX11_command_173 : decode cX11_command 173 = .ok (.iconst 4, 1) := dk_7 (dk_at dksX11_command_6 17 rfl rfl)
theorem dX11_command_174 : decode cX11_command 174 = .ok (.istore_n 3, 1) := dk_62 (dk_at dksX11_command_6 18 rfl rfl)
theorem dX11_command_175 : decode cX11_command 175 = .ok (.iload_n 3, 1) := dk_29 (dk_at dksX11_command_6 19 rfl rfl)
theorem dX11_command_176 : decode cX11_command 176 = .ok (.tableswitch 187 0 4 #[36, 50, 117, 140, 164], 36) := by decide +kernel
theorem dX11_command_212 : decode cX11_command 212 = .ok (.aload_n 0, 1) := dk_42 (dk_at dksX11_command_8 0 rfl rfl)
theorem dX11_command_213 : decode cX11_command 213 = .ok (.aload_n 0, 1) := dk_42 (dk_at dksX11_command_8 1 rfl rfl)
theorem dX11_command_214 : decode cX11_command 214 = .ok (.iconst 0, 1) := dk_3 (dk_at dksX11_command_8 2 rfl rfl)
theorem dX11_command_215 : decode cX11_command 215 = .ok (.bipush 20, 2) := dk_16 20 (dk_at dksX11_command_8 3 rfl rfl)
theorem dX11_command_217 : decode cX11_command 217 = .ok (.invokevirtual 99, 3) := dk_182 0 99 (dk_at dksX11_command_8 5 rfl rfl)
theorem dX11_command_220 : decode cX11_command 220 = .ok (.invokevirtual 103, 3) := dk_182 0 103 (dk_at dksX11_command_8 8 rfl rfl)
theorem dX11_command_223 : decode cX11_command 223 = .ok (.goto 161, 3) := dk_167 0 161 (dk_at dksX11_command_8 11 rfl rfl)
theorem dX11_command_226 : decode cX11_command 226 = .ok (.new 106, 3) := dk_187 0 106 (dk_at dksX11_command_8 14 rfl rfl)
theorem dX11_command_229 : decode cX11_command 229 = .ok (.dup, 1) := dk_89 (dk_at dksX11_command_8 17 rfl rfl)
theorem dX11_command_230 : decode cX11_command 230 = .ok (.aload_n 1, 1) := dk_43 (dk_at dksX11_command_8 18 rfl rfl)
theorem dX11_command_231 : decode cX11_command 231 = .ok (.iconst 4, 1) := dk_7 (dk_at dksX11_command_8 19 rfl rfl)
theorem dX11_command_232 : decode cX11_command 232 = .ok (.newarray .int, 2) := dk_188_10 (dk_at dksX11_command_8 20 rfl rfl)
theorem dX11_command_234 : decode cX11_command 234 = .ok (.dup, 1) := dk_89 (dk_at dksX11_command_8 22 rfl rfl)
theorem dX11_command_235 : decode cX11_command 235 = .ok (.iconst 0, 1) := dk_3 (dk_at dksX11_command_8 23 rfl rfl)
theorem dX11_command_236 : decode cX11_command 236 = .ok (.aload_n 0, 1) := dk_42 (dk_at dksX11_command_9 0 rfl rfl)
theorem dX11_command_237 : decode cX11_command 237 = .ok (.iconst 0, 1) := dk_3 (dk_at dksX11_command_9 1 rfl rfl)
theorem dX11_command_238 : decode cX11_command 238 = .ok (.iconst 5, 1) := dk_8 (dk_at dksX11_command_9 2 rfl rfl)
theorem dX11_command_239 : decode cX11_command 239 = .ok (.invokevirtual 99, 3) := dk_182 0 99 (dk_at dksX11_command_9 3 rfl rfl)
theorem dX11_command_242 : decode cX11_command 242 = .ok (.iastore, 1) := dk_79 (dk_at dksX11_command_9 6 rfl rfl)
theorem dX11_command_243 : decode cX11_command 243 = .ok (.dup, 1) := dk_89 (dk_at dksX11_command_9 7 rfl rfl)
theorem dX11_command_244 : decode cX11_command 244 = .ok (.iconst 1, 1) := dk_4 (dk_at dksX11_command_9 8 rfl rfl)
theorem dX11_command_245 : decode cX11_command 245 = .ok (.aload_n 0, 1) := dk_42 (dk_at dksX11_command_9 9 rfl rfl)
theorem dX11_command_246 : decode cX11_command 246 = .ok (.aload_n 0, 1) := dk_42 (dk_at dksX11_command_9 10 rfl rfl)
theorem dX11_command_247 : decode cX11_command 247 = .ok (.getfield 3, 3) := dk_180 0 3 (dk_at dksX11_command_9 11 rfl rfl)
theorem dX11_command_250 : decode cX11_command 250 = .ok (.getfield 108, 3) := dk_180 0 108 (dk_at dksX11_command_9 14 rfl rfl)
theorem dX11_command_253 : decode cX11_command 253 = .ok (.getfield 112, 3) := dk_180 0 112 (dk_at dksX11_command_9 17 rfl rfl)
theorem dX11_command_256 : decode cX11_command 256 = .ok (.invokevirtual 116, 3) := dk_182 0 116 (dk_at dksX11_command_9 20 rfl rfl)
theorem dX11_command_259 : decode cX11_command 259 = .ok (.iastore, 1) := dk_79 (dk_at dksX11_command_9 23 rfl rfl)
theorem dX11_command_260 : decode cX11_command 260 = .ok (.dup, 1) := dk_89 (dk_at dksX11_command_10 0 rfl rfl)
theorem dX11_command_261 : decode cX11_command 261 = .ok (.iconst 2, 1) := dk_5 (dk_at dksX11_command_10 1 rfl rfl)
theorem dX11_command_262 : decode cX11_command 262 = .ok (.aload_n 0, 1) := dk_42 (dk_at dksX11_command_10 2 rfl rfl)
theorem dX11_command_263 : decode cX11_command 263 = .ok (.aload_n 0, 1) := dk_42 (dk_at dksX11_command_10 3 rfl rfl)
theorem dX11_command_264 : decode cX11_command 264 = .ok (.getfield 3, 3) := dk_180 0 3 (dk_at dksX11_command_10 4 rfl rfl)
theorem dX11_command_267 : decode cX11_command 267 = .ok (.getfield 108, 3) := dk_180 0 108 (dk_at dksX11_command_10 7 rfl rfl)
theorem dX11_command_270 : decode cX11_command 270 = .ok (.getfield 120, 3) := dk_180 0 120 (dk_at dksX11_command_10 10 rfl rfl)
theorem dX11_command_273 : decode cX11_command 273 = .ok (.invokevirtual 116, 3) := dk_182 0 116 (dk_at dksX11_command_10 13 rfl rfl)
theorem dX11_command_276 : decode cX11_command 276 = .ok (.iastore, 1) := dk_79 (dk_at dksX11_command_10 16 rfl rfl)
theorem dX11_command_277 : decode cX11_command 277 = .ok (.dup, 1) := dk_89 (dk_at dksX11_command_10 17 rfl rfl)
theorem dX11_command_278 : decode cX11_command 278 = .ok (.iconst 3, 1) := dk_6 (dk_at dksX11_command_10 18 rfl rfl)
theorem dX11_command_279 : decode cX11_command 279 = .ok (.aload_n 0, 1) := dk_42 (dk_at dksX11_command_10 19 rfl rfl)
theorem dX11_command_280 : decode cX11_command 280 = .ok (.iconst 1, 1) := dk_4 (dk_at dksX11_command_10 20 rfl rfl)
theorem dX11_command_281 : decode cX11_command 281 = .ok (.bipush 30, 2) := dk_16 30 (dk_at dksX11_command_10 21 rfl rfl)
theorem dX11_command_283 : decode cX11_command 283 = .ok (.invokevirtual 99, 3) := dk_182 0 99 (dk_at dksX11_command_11 0 rfl rfl)
theorem dX11_command_286 : decode cX11_command 286 = .ok (.iastore, 1) := dk_79 (dk_at dksX11_command_11 3 rfl rfl)
theorem dX11_command_287 : decode cX11_command 287 = .ok (.invokespecial 123, 3) := dk_183 0 123 (dk_at dksX11_command_11 4 rfl rfl)
theorem dX11_command_290 : decode cX11_command 290 = .ok (.goto 94, 3) := dk_167 0 94 (dk_at dksX11_command_11 7 rfl rfl)
theorem dX11_command_293 : decode cX11_command 293 = .ok (.new 106, 3) := dk_187 0 106 (dk_at dksX11_command_11 10 rfl rfl)
theorem dX11_command_296 : decode cX11_command 296 = .ok (.dup, 1) := dk_89 (dk_at dksX11_command_11 13 rfl rfl)
theorem dX11_command_297 : decode cX11_command 297 = .ok (.aload_n 1, 1) := dk_43 (dk_at dksX11_command_11 14 rfl rfl)
theorem dX11_command_298 : decode cX11_command 298 = .ok (.iconst 1, 1) := dk_4 (dk_at dksX11_command_11 15 rfl rfl)
theorem dX11_command_299 : decode cX11_command 299 = .ok (.newarray .int, 2) := dk_188_10 (dk_at dksX11_command_11 16 rfl rfl)
theorem dX11_command_301 : decode cX11_command 301 = .ok (.dup, 1) := dk_89 (dk_at dksX11_command_11 18 rfl rfl)
theorem dX11_command_302 : decode cX11_command 302 = .ok (.iconst 0, 1) := dk_3 (dk_at dksX11_command_11 19 rfl rfl)
theorem dX11_command_303 : decode cX11_command 303 = .ok (.aload_n 0, 1) := dk_42 (dk_at dksX11_command_11 20 rfl rfl)
theorem dX11_command_304 : decode cX11_command 304 = .ok (.iconst 0, 1) := dk_3 (dk_at dksX11_command_11 21 rfl rfl)
theorem dX11_command_305 : decode cX11_command 305 = .ok (.iconst 5, 1) := dk_8 (dk_at dksX11_command_11 22 rfl rfl)
theorem dX11_command_306 : decode cX11_command 306 = .ok (.invokevirtual 99, 3) := dk_182 0 99 (dk_at dksX11_command_12 0 rfl rfl)
theorem dX11_command_309 : decode cX11_command 309 = .ok (.iastore, 1) := dk_79 (dk_at dksX11_command_12 3 rfl rfl)
theorem dX11_command_310 : decode cX11_command 310 = .ok (.invokespecial 123, 3) := dk_183 0 123 (dk_at dksX11_command_12 4 rfl rfl)
theorem dX11_command_313 : decode cX11_command 313 = .ok (.goto 71, 3) := dk_167 0 71 (dk_at dksX11_command_12 7 rfl rfl)
theorem dX11_command_316 : decode cX11_command 316 = .ok (.new 106, 3) := dk_187 0 106 (dk_at dksX11_command_12 10 rfl rfl)
theorem dX11_command_319 : decode cX11_command 319 = .ok (.dup, 1) := dk_89 (dk_at dksX11_command_12 13 rfl rfl)
theorem dX11_command_320 : decode cX11_command 320 = .ok (.aload_n 1, 1) := dk_43 (dk_at dksX11_command_12 14 rfl rfl)
theorem dX11_command_321 : decode cX11_command 321 = .ok (.iconst 1, 1) := dk_4 (dk_at dksX11_command_12 15 rfl rfl)
theorem dX11_command_322 : decode cX11_command 322 = .ok (.newarray .int, 2) := dk_188_10 (dk_at dksX11_command_12 16 rfl rfl)
theorem dX11_command_324 : decode cX11_command 324 = .ok (.dup, 1) := dk_89 (dk_at dksX11_command_12 18 rfl rfl)
theorem dX11_command_325 : decode cX11_command 325 = .ok (.iconst 0, 1) := dk_3 (dk_at dksX11_command_12 19 rfl rfl)
theorem dX11_command_326 : decode cX11_command 326 = .ok (.aload_n 0, 1) := dk_42 (dk_at dksX11_command_12 20 rfl rfl)
theorem dX11_command_327 : decode cX11_command 327 = .ok (.iconst 1, 1) := dk_4 (dk_at dksX11_command_12 21 rfl rfl)
theorem dX11_command_328 : decode cX11_command 328 = .ok (.bipush 30, 2) := dk_16 30 (dk_at dksX11_command_12 22 rfl rfl)
theorem dX11_command_330 : decode cX11_command 330 = .ok (.invokevirtual 99, 3) := dk_182 0 99 (dk_at dksX11_command_13 0 rfl rfl)
theorem dX11_command_333 : decode cX11_command 333 = .ok (.iastore, 1) := dk_79 (dk_at dksX11_command_13 3 rfl rfl)
theorem dX11_command_334 : decode cX11_command 334 = .ok (.invokespecial 123, 3) := dk_183 0 123 (dk_at dksX11_command_13 4 rfl rfl)
theorem dX11_command_337 : decode cX11_command 337 = .ok (.goto 47, 3) := dk_167 0 47 (dk_at dksX11_command_13 7 rfl rfl)
theorem dX11_command_340 : decode cX11_command 340 = .ok (.new 106, 3) := dk_187 0 106 (dk_at dksX11_command_13 10 rfl rfl)
theorem dX11_command_343 : decode cX11_command 343 = .ok (.dup, 1) := dk_89 (dk_at dksX11_command_13 13 rfl rfl)
theorem dX11_command_344 : decode cX11_command 344 = .ok (.aload_n 1, 1) := dk_43 (dk_at dksX11_command_13 14 rfl rfl)
theorem dX11_command_345 : decode cX11_command 345 = .ok (.iconst 1, 1) := dk_4 (dk_at dksX11_command_13 15 rfl rfl)
theorem dX11_command_346 : decode cX11_command 346 = .ok (.newarray .int, 2) := dk_188_10 (dk_at dksX11_command_13 16 rfl rfl)
theorem dX11_command_348 : decode cX11_command 348 = .ok (.dup, 1) := dk_89 (dk_at dksX11_command_13 18 rfl rfl)
theorem dX11_command_349 : decode cX11_command 349 = .ok (.iconst 0, 1) := dk_3 (dk_at dksX11_command_13 19 rfl rfl)
theorem dX11_command_350 : decode cX11_command 350 = .ok (.aload_n 0, 1) := dk_42 (dk_at dksX11_command_13 20 rfl rfl)
theorem dX11_command_351 : decode cX11_command 351 = .ok (.iconst 0, 1) := dk_3 (dk_at dksX11_command_13 21 rfl rfl)
theorem dX11_command_352 : decode cX11_command 352 = .ok (.iconst 3, 1) := dk_6 (dk_at dksX11_command_13 22 rfl rfl)
theorem dX11_command_353 : decode cX11_command 353 = .ok (.invokevirtual 99, 3) := dk_182 0 99 (dk_at dksX11_command_14 0 rfl rfl)
theorem dX11_command_356 : decode cX11_command 356 = .ok (.iastore, 1) := dk_79 (dk_at dksX11_command_14 3 rfl rfl)
theorem dX11_command_357 : decode cX11_command 357 = .ok (.invokespecial 123, 3) := dk_183 0 123 (dk_at dksX11_command_14 4 rfl rfl)
theorem dX11_command_360 : decode cX11_command 360 = .ok (.goto 24, 3) := dk_167 0 24 (dk_at dksX11_command_14 7 rfl rfl)
theorem dX11_command_363 : decode cX11_command 363 = .ok (.new 106, 3) := dk_187 0 106 (dk_at dksX11_command_14 10 rfl rfl)
theorem dX11_command_366 : decode cX11_command 366 = .ok (.dup, 1) := dk_89 (dk_at dksX11_command_14 13 rfl rfl)
theorem dX11_command_367 : decode cX11_command 367 = .ok (.aload_n 1, 1) := dk_43 (dk_at dksX11_command_14 14 rfl rfl)
theorem dX11_command_368 : decode cX11_command 368 = .ok (.iconst 1, 1) := dk_4 (dk_at dksX11_command_14 15 rfl rfl)
theorem dX11_command_369 : decode cX11_command 369 = .ok (.newarray .int, 2) := dk_188_10 (dk_at dksX11_command_14 16 rfl rfl)
theorem dX11_command_371 : decode cX11_command 371 = .ok (.dup, 1) := dk_89 (dk_at dksX11_command_14 18 rfl rfl)
theorem dX11_command_372 : decode cX11_command 372 = .ok (.iconst 0, 1) := dk_3 (dk_at dksX11_command_14 19 rfl rfl)
theorem dX11_command_373 : decode cX11_command 373 = .ok (.aload_n 0, 1) := dk_42 (dk_at dksX11_command_14 20 rfl rfl)
theorem dX11_command_374 : decode cX11_command 374 = .ok (.iconst 0, 1) := dk_3 (dk_at dksX11_command_14 21 rfl rfl)
theorem dX11_command_375 : decode cX11_command 375 = .ok (.bipush 9, 2) := dk_16 9 (dk_at dksX11_command_14 22 rfl rfl)
theorem dX11_command_377 : decode cX11_command 377 = .ok (.invokevirtual 99, 3) := dk_182 0 99 (dk_at dksX11_command_15 0 rfl rfl)
theorem dX11_command_380 : decode cX11_command 380 = .ok (.iastore, 1) := dk_79 (dk_at dksX11_command_15 3 rfl rfl)
theorem dX11_command_381 : decode cX11_command 381 = .ok (.invokespecial 123, 3) := dk_183 0 123 (dk_at dksX11_command_15 4 rfl rfl)
theorem dX11_command_384 : decode cX11_command 384 = .ok (.areturn, 1) := dk_176 (dk_at dksX11_command_15 7 rfl rfl)
abbrev cX11_isCommand : ByteArray := prog_14_method_4_code
def yX11_isCommand : MethodName := ⟨RX11, "isCommand", "(Ljava/lang/String;)Z"⟩
def dkwX11_isCommand_7 : List UInt8 := [4, 167, 0, 4, 3, 172]
abbrev dktX11_isCommand_7 : List UInt8 := dkwX11_isCommand_7 ++ []
def dkwX11_isCommand_6 : List UInt8 := [170, 0, 0, 0, 0, 42, 0, 0, 0, 0, 0, 0, 0, 5, 0, 0, 0, 38, 0, 0, 0, 38, 0, 0, 0, 38, 0, 0, 0, 38, 0, 0, 0, 38, 0, 0, 0, 38]
abbrev dktX11_isCommand_6 : List UInt8 := dkwX11_isCommand_6 ++ dktX11_isCommand_7
def dkwX11_isCommand_5 : List UInt8 := [18, 72, 182, 0, 60, 153, 0, 5, 8, 62, 29]
abbrev dktX11_isCommand_5 : List UInt8 := dkwX11_isCommand_5 ++ dktX11_isCommand_6
def dkwX11_isCommand_4 : List UInt8 := [153, 0, 33, 6, 62, 167, 0, 28, 44, 18, 70, 182, 0, 60, 153, 0, 19, 7, 62, 167, 0, 14, 44]
abbrev dktX11_isCommand_4 : List UInt8 := dkwX11_isCommand_4 ++ dktX11_isCommand_5
def dkwX11_isCommand_3 : List UInt8 := [62, 167, 0, 56, 44, 18, 66, 182, 0, 60, 153, 0, 47, 5, 62, 167, 0, 42, 44, 18, 68, 182, 0, 60]
abbrev dktX11_isCommand_3 : List UInt8 := dkwX11_isCommand_3 ++ dktX11_isCommand_4
def dkwX11_isCommand_2 : List UInt8 := [44, 18, 59, 182, 0, 60, 153, 0, 75, 3, 62, 167, 0, 70, 44, 18, 64, 182, 0, 60, 153, 0, 61, 4]
abbrev dktX11_isCommand_2 : List UInt8 := dkwX11_isCommand_2 ++ dktX11_isCommand_3
def dkwX11_isCommand_1 : List UInt8 := [171, 0, 0, 0, 0, 0, 0, 141, 0, 0, 0, 6, 174, 122, 46, 122, 0, 0, 0, 74, 200, 76, 45, 155, 0, 0, 0, 130, 0, 52, 100, 17, 0, 0, 0, 88, 0, 53, 221, 189, 0, 0, 0, 60, 0, 55, 176, 8, 0, 0, 0, 102, 6, 95, 177, 73, 0, 0, 0, 116]
abbrev dktX11_isCommand_1 : List UInt8 := dkwX11_isCommand_1 ++ dktX11_isCommand_2
def dkwX11_isCommand_0 : List UInt8 := [43, 77, 2, 62, 44, 182, 0, 53]
abbrev dktX11_isCommand_0 : List UInt8 := dkwX11_isCommand_0 ++ dktX11_isCommand_1
theorem dksX11_isCommand_0 : cX11_isCommand.data.toList.drop 0 = dktX11_isCommand_0 := by decide +kernel
theorem dksX11_isCommand_1 : cX11_isCommand.data.toList.drop 8 = dktX11_isCommand_1 := dk_seg dksX11_isCommand_0 8 rfl rfl
theorem dksX11_isCommand_2 : cX11_isCommand.data.toList.drop 68 = dktX11_isCommand_2 := dk_seg dksX11_isCommand_1 60 rfl rfl
theorem dksX11_isCommand_3 : cX11_isCommand.data.toList.drop 92 = dktX11_isCommand_3 := dk_seg dksX11_isCommand_2 24 rfl rfl
theorem dksX11_isCommand_4 : cX11_isCommand.data.toList.drop 116 = dktX11_isCommand_4 := dk_seg dksX11_isCommand_3 24 rfl rfl
theorem dksX11_isCommand_5 : cX11_isCommand.data.toList.drop 139 = dktX11_isCommand_5 := dk_seg dksX11_isCommand_4 23 rfl rfl
theorem dksX11_isCommand_6 : cX11_isCommand.data.toList.drop 150 = dktX11_isCommand_6 := dk_seg dksX11_isCommand_5 11 rfl rfl
theorem dksX11_isCommand_7 : cX11_isCommand.data.toList.drop 188 = dktX11_isCommand_7 := dk_seg dksX11_isCommand_6 38 rfl rfl
theorem dX11_isCommand_0 : decode cX11_isCommand 0 = .ok (.aload_n 1, 1) := dk_43 (dk_at dksX11_isCommand_0 0 rfl rfl)
theorem dX11_isCommand_1 : decode cX11_isCommand 1 = .ok (.astore_n 2, 1) := dk_77 (dk_at dksX11_isCommand_0 1 rfl rfl)
theorem dX11_isCommand_2 : decode cX11_isCommand 2 = .ok (.iconst (-1), 1) := dk_2 (dk_at dksX11_isCommand_0 2 rfl rfl)
theorem dX11_isCommand_3 : decode cX11_isCommand 3 = .ok (.istore_n 3, 1) := dk_62 (dk_at dksX11_isCommand_0 3 rfl rfl)
theorem dX11_isCommand_4 : decode cX11_isCommand 4 = .ok (.aload_n 2, 1) := dk_44 (dk_at dksX11_isCommand_0 4 rfl rfl)
theorem dX11_isCommand_5 : decode cX11_isCommand 5 = .ok (.invokevirtual 53, 3) := dk_182 0 53 (dk_at dksX11_isCommand_0 5 rfl rfl)
theorem dX11_isCommand_8 : decode cX11_isCommand 8 = .ok (.lookupswitch 141 #[(-1367724422, 74), (-934531685, 130), (3433489, 88), (3530173, 60), (3649544, 102), (106934601, 116)], 60) := by decide +kernel
theorem dX11_isCommand_68 : decode cX11_isCommand 68 = .ok (.aload_n 2, 1) := dk_44 (dk_at dksX11_isCommand_2 0 rfl rfl)
theorem dX11_isCommand_69 : decode cX11_isCommand 69 = .ok (.ldc 59, 2) := dk_18 59 (dk_at dksX11_isCommand_2 1 rfl rfl)
theorem dX11_isCommand_71 : decode cX11_isCommand 71 = .ok (.invokevirtual 60, 3) := dk_182 0 60 (dk_at dksX11_isCommand_2 3 rfl rfl)
theorem dX11_isCommand_74 : decode cX11_isCommand 74 = .ok (.ifCond .eq 75, 3) := dk_153 0 75 (dk_at dksX11_isCommand_2 6 rfl rfl)
theorem dX11_isCommand_77 : decode cX11_isCommand 77 = .ok (.iconst 0, 1) := dk_3 (dk_at dksX11_isCommand_2 9 rfl rfl)
theorem dX11_isCommand_78 : decode cX11_isCommand 78 = .ok (.istore_n 3, 1) := dk_62 (dk_at dksX11_isCommand_2 10 rfl rfl)
theorem dX11_isCommand_79 : decode cX11_isCommand 79 = .ok (.goto 70, 3) := dk_167 0 70 (dk_at dksX11_isCommand_2 11 rfl rfl)
theorem dX11_isCommand_82 : decode cX11_isCommand 82 = .ok (.aload_n 2, 1) := dk_44 (dk_at dksX11_isCommand_2 14 rfl rfl)
theorem dX11_isCommand_83 : decode cX11_isCommand 83 = .ok (.ldc 64, 2) := dk_18 64 (dk_at dksX11_isCommand_2 15 rfl rfl)
theorem dX11_isCommand_85 : decode cX11_isCommand 85 = .ok (.invokevirtual 60, 3) := dk_182 0 60 (dk_at dksX11_isCommand_2 17 rfl rfl)
theorem dX11_isCommand_88 : decode cX11_isCommand 88 = .ok (.ifCond .eq 61, 3) := dk_153 0 61 (dk_at dksX11_isCommand_2 20 rfl rfl)
theorem dX11_isCommand_91 : decode cX11_isCommand 91 = .ok (.iconst 1, 1) := dk_4 (dk_at dksX11_isCommand_2 23 rfl rfl)
theorem dX11_isCommand_92 : decode cX11_isCommand 92 = .ok (.istore_n 3, 1) := dk_62 (dk_at dksX11_isCommand_3 0 rfl rfl)
theorem dX11_isCommand_93 : decode cX11_isCommand 93 = .ok (.goto 56, 3) := dk_167 0 56 (dk_at dksX11_isCommand_3 1 rfl rfl)
theorem dX11_isCommand_96 : decode cX11_isCommand 96 = .ok (.aload_n 2, 1) := dk_44 (dk_at dksX11_isCommand_3 4 rfl rfl)
theorem dX11_isCommand_97 : decode cX11_isCommand 97 = .ok (.ldc 66, 2) := dk_18 66 (dk_at dksX11_isCommand_3 5 rfl rfl)
theorem dX11_isCommand_99 : decode cX11_isCommand 99 = .ok (.invokevirtual 60, 3) := dk_182 0 60 (dk_at dksX11_isCommand_3 7 rfl rfl)
theorem dX11_isCommand_102 : decode cX11_isCommand 102 = .ok (.ifCond .eq 47, 3) := dk_153 0 47 (dk_at dksX11_isCommand_3 10 rfl rfl)
theorem dX11_isCommand_105 : decode cX11_isCommand 105 = .ok (.iconst 2, 1) := dk_5 (dk_at dksX11_isCommand_3 13 rfl rfl)
theorem dX11_isCommand_106 : decode cX11_isCommand 106 = .ok (.istore_n 3, 1) := dk_62 (dk_at dksX11_isCommand_3 14 rfl rfl)
theorem dX11_isCommand_107 : decode cX11_isCommand 107 = .ok (.goto 42, 3) := dk_167 0 42 (dk_at dksX11_isCommand_3 15 rfl rfl)
theorem dX11_isCommand_110 : decode cX11_isCommand 110 = .ok (.aload_n 2, 1) := dk_44 (dk_at dksX11_isCommand_3 18 rfl rfl)
theorem dX11_isCommand_111 : decode cX11_isCommand 111 = .ok (.ldc 68, 2) := dk_18 68 (dk_at dksX11_isCommand_3 19 rfl rfl)
theorem dX11_isCommand_113 : decode cX11_isCommand 113 = .ok (.invokevirtual 60, 3) := dk_182 0 60 (dk_at dksX11_isCommand_3 21 rfl rfl)
theorem dX11_isCommand_116 : decode cX11_isCommand 116 = .ok (.ifCond .eq 33, 3) := dk_153 0 33 (dk_at dksX11_isCommand_4 0 rfl rfl)
theorem dX11_isCommand_119 : decode cX11_isCommand 119 = .ok (.iconst 3, 1) := dk_6 (dk_at dksX11_isCommand_4 3 rfl rfl)
theorem dX11_isCommand_120 : decode cX11_isCommand 120 = .ok (.istore_n 3, 1) := dk_62 (dk_at dksX11_isCommand_4 4 rfl rfl)
theorem dX11_isCommand_121 : decode cX11_isCommand 121 = .ok (.goto 28, 3) := dk_167 0 28 (dk_at dksX11_isCommand_4 5 rfl rfl)
theorem dX11_isCommand_124 : decode cX11_isCommand 124 = .ok (.aload_n 2, 1) := dk_44 (dk_at dksX11_isCommand_4 8 rfl rfl)
theorem dX11_isCommand_125 : decode cX11_isCommand 125 = .ok (.ldc 70, 2) := dk_18 70 (dk_at dksX11_isCommand_4 9 rfl rfl)
theorem dX11_isCommand_127 : decode cX11_isCommand 127 = .ok (.invokevirtual 60, 3) := dk_182 0 60 (dk_at dksX11_isCommand_4 11 rfl rfl)
theorem dX11_isCommand_130 : decode cX11_isCommand 130 = .ok (.ifCond .eq 19, 3) := dk_153 0 19 (dk_at dksX11_isCommand_4 14 rfl rfl)
theorem dX11_isCommand_133 : decode cX11_isCommand 133 = .ok (.iconst 4, 1) := dk_7 (dk_at dksX11_isCommand_4 17 rfl rfl)
theorem dX11_isCommand_134 : decode cX11_isCommand 134 = .ok (.istore_n 3, 1) := dk_62 (dk_at dksX11_isCommand_4 18 rfl rfl)
theorem dX11_isCommand_135 : decode cX11_isCommand 135 = .ok (.goto 14, 3) := dk_167 0 14 (dk_at dksX11_isCommand_4 19 rfl rfl)
theorem dX11_isCommand_138 : decode cX11_isCommand 138 = .ok (.aload_n 2, 1) := dk_44 (dk_at dksX11_isCommand_4 22 rfl rfl)
theorem dX11_isCommand_139 : decode cX11_isCommand 139 = .ok (.ldc 72, 2) := dk_18 72 (dk_at dksX11_isCommand_5 0 rfl rfl)
theorem dX11_isCommand_141 : decode cX11_isCommand 141 = .ok (.invokevirtual 60, 3) := dk_182 0 60 (dk_at dksX11_isCommand_5 2 rfl rfl)
theorem dX11_isCommand_144 : decode cX11_isCommand 144 = .ok (.ifCond .eq 5, 3) := dk_153 0 5 (dk_at dksX11_isCommand_5 5 rfl rfl)
theorem dX11_isCommand_147 : decode cX11_isCommand 147 = .ok (.iconst 5, 1) := dk_8 (dk_at dksX11_isCommand_5 8 rfl rfl)
theorem dX11_isCommand_148 : decode cX11_isCommand 148 = .ok (.istore_n 3, 1) := dk_62 (dk_at dksX11_isCommand_5 9 rfl rfl)
theorem dX11_isCommand_149 : decode cX11_isCommand 149 = .ok (.iload_n 3, 1) := dk_29 (dk_at dksX11_isCommand_5 10 rfl rfl)
theorem dX11_isCommand_150 : decode cX11_isCommand 150 = .ok (.tableswitch 42 0 5 #[38, 38, 38, 38, 38, 38], 38) := by decide +kernel
theorem dX11_isCommand_188 : decode cX11_isCommand 188 = .ok (.iconst 1, 1) := dk_4 (dk_at dksX11_isCommand_7 0 rfl rfl)
theorem dX11_isCommand_189 : decode cX11_isCommand 189 = .ok (.goto 4, 3) := dk_167 0 4 (dk_at dksX11_isCommand_7 1 rfl rfl)
theorem dX11_isCommand_192 : decode cX11_isCommand 192 = .ok (.iconst 0, 1) := dk_3 (dk_at dksX11_isCommand_7 4 rfl rfl)
theorem dX11_isCommand_193 : decode cX11_isCommand 193 = .ok (.ireturn, 1) := dk_172 (dk_at dksX11_isCommand_7 5 rfl rfl)
abbrev cX11_repeat : ByteArray := prog_14_method_7_code
def yX11_repeat : MethodName := ⟨RX11, "repeat", "(I)LRoseGuild$Command;"⟩
def dkwX11_repeat_2 : List UInt8 := [77, 42, 16, 41, 182, 0, 50, 42, 89, 180, 0, 126, 4, 100, 181, 0, 126, 44, 176]
abbrev dktX11_repeat_2 : List UInt8 := dkwX11_repeat_2 ++ []
def dkwX11_repeat_1 : List UInt8 := [182, 0, 23, 42, 16, 40, 182, 0, 50, 42, 89, 180, 0, 126, 4, 96, 181, 0, 126, 42, 27, 182, 0, 15]
abbrev dktX11_repeat_1 : List UInt8 := dkwX11_repeat_1 ++ dktX11_repeat_2
def dkwX11_repeat_0 : List UInt8 := [42, 42, 16, 40, 182, 0, 32, 153, 0, 11, 42, 180, 0, 126, 5, 162, 0, 7, 4, 167, 0, 4, 3, 8]
abbrev dktX11_repeat_0 : List UInt8 := dkwX11_repeat_0 ++ dktX11_repeat_1
theorem dksX11_repeat_0 : cX11_repeat.data.toList.drop 0 = dktX11_repeat_0 := by decide +kernel
theorem dksX11_repeat_1 : cX11_repeat.data.toList.drop 24 = dktX11_repeat_1 := dk_seg dksX11_repeat_0 24 rfl rfl
theorem dksX11_repeat_2 : cX11_repeat.data.toList.drop 48 = dktX11_repeat_2 := dk_seg dksX11_repeat_1 24 rfl rfl
theorem dX11_repeat_0 : decode cX11_repeat 0 = .ok (.aload_n 0, 1) := dk_42 (dk_at dksX11_repeat_0 0 rfl rfl)
theorem dX11_repeat_1 : decode cX11_repeat 1 = .ok (.aload_n 0, 1) := dk_42 (dk_at dksX11_repeat_0 1 rfl rfl)
theorem dX11_repeat_2 : decode cX11_repeat 2 = .ok (.bipush 40, 2) := dk_16 40 (dk_at dksX11_repeat_0 2 rfl rfl)
theorem dX11_repeat_4 : decode cX11_repeat 4 = .ok (.invokevirtual 32, 3) := dk_182 0 32 (dk_at dksX11_repeat_0 4 rfl rfl)
theorem dX11_repeat_7 : decode cX11_repeat 7 = .ok (.ifCond .eq 11, 3) := dk_153 0 11 (dk_at dksX11_repeat_0 7 rfl rfl)
theorem dX11_repeat_10 : decode cX11_repeat 10 = .ok (.aload_n 0, 1) := dk_42 (dk_at dksX11_repeat_0 10 rfl rfl)
theorem dX11_repeat_11 : decode cX11_repeat 11 = .ok (.getfield 126, 3) := dk_180 0 126 (dk_at dksX11_repeat_0 11 rfl rfl)
theorem dX11_repeat_14 : decode cX11_repeat 14 = .ok (.iconst 2, 1) := dk_5 (dk_at dksX11_repeat_0 14 rfl rfl)
theorem dX11_repeat_15 : decode cX11_repeat 15 = .ok (.if_icmp .ge 7, 3) := dk_162 0 7 (dk_at dksX11_repeat_0 15 rfl rfl)
theorem dX11_repeat_18 : decode cX11_repeat 18 = .ok (.iconst 1, 1) := dk_4 (dk_at dksX11_repeat_0 18 rfl rfl)
theorem dX11_repeat_19 : decode cX11_repeat 19 = .ok (.goto 4, 3) := dk_167 0 4 (dk_at dksX11_repeat_0 19 rfl rfl)
theorem dX11_repeat_22 : decode cX11_repeat 22 = .ok (.iconst 0, 1) := dk_3 (dk_at dksX11_repeat_0 22 rfl rfl)
theorem dX11_repeat_23 : decode cX11_repeat 23 = .ok (.iconst 5, 1) := dk_8 (dk_at dksX11_repeat_0 23 rfl rfl)
theorem dX11_repeat_24 : decode cX11_repeat 24 = .ok (.invokevirtual 23, 3) := dk_182 0 23 (dk_at dksX11_repeat_1 0 rfl rfl)
theorem dX11_repeat_27 : decode cX11_repeat 27 = .ok (.aload_n 0, 1) := dk_42 (dk_at dksX11_repeat_1 3 rfl rfl)
theorem dX11_repeat_28 : decode cX11_repeat 28 = .ok (.bipush 40, 2) := dk_16 40 (dk_at dksX11_repeat_1 4 rfl rfl)
theorem dX11_repeat_30 : decode cX11_repeat 30 = .ok (.invokevirtual 50, 3) := dk_182 0 50 (dk_at dksX11_repeat_1 6 rfl rfl)
theorem dX11_repeat_33 : decode cX11_repeat 33 = .ok (.aload_n 0, 1) := dk_42 (dk_at dksX11_repeat_1 9 rfl rfl)
theorem dX11_repeat_34 : decode cX11_repeat 34 = .ok (.dup, 1) := dk_89 (dk_at dksX11_repeat_1 10 rfl rfl)
theorem dX11_repeat_35 : decode cX11_repeat 35 = .ok (.getfield 126, 3) := dk_180 0 126 (dk_at dksX11_repeat_1 11 rfl rfl)
theorem dX11_repeat_38 : decode cX11_repeat 38 = .ok (.iconst 1, 1) := dk_4 (dk_at dksX11_repeat_1 14 rfl rfl)
theorem dX11_repeat_39 : decode cX11_repeat 39 = .ok (.iadd, 1) := dk_96 (dk_at dksX11_repeat_1 15 rfl rfl)
theorem dX11_repeat_40 : decode cX11_repeat 40 = .ok (.putfield 126, 3) := dk_181 0 126 (dk_at dksX11_repeat_1 16 rfl rfl)
theorem dX11_repeat_43 : decode cX11_repeat 43 = .ok (.aload_n 0, 1) := dk_42 (dk_at dksX11_repeat_1 19 rfl rfl)
theorem dX11_repeat_44 : decode cX11_repeat 44 = .ok (.iload_n 1, 1) := dk_27 (dk_at dksX11_repeat_1 20 rfl rfl)
theorem dX11_repeat_45 : decode cX11_repeat 45 = .ok (.invokevirtual 15, 3) := dk_182 0 15 (dk_at dksX11_repeat_1 21 rfl rfl)
theorem dX11_repeat_48 : decode cX11_repeat 48 = .ok (.astore_n 2, 1) := dk_77 (dk_at dksX11_repeat_2 0 rfl rfl)
theorem dX11_repeat_49 : decode cX11_repeat 49 = .ok (.aload_n 0, 1) := dk_42 (dk_at dksX11_repeat_2 1 rfl rfl)
theorem dX11_repeat_50 : decode cX11_repeat 50 = .ok (.bipush 41, 2) := dk_16 41 (dk_at dksX11_repeat_2 2 rfl rfl)
theorem dX11_repeat_52 : decode cX11_repeat 52 = .ok (.invokevirtual 50, 3) := dk_182 0 50 (dk_at dksX11_repeat_2 4 rfl rfl)
theorem dX11_repeat_55 : decode cX11_repeat 55 = .ok (.aload_n 0, 1) := dk_42 (dk_at dksX11_repeat_2 7 rfl rfl)
theorem dX11_repeat_56 : decode cX11_repeat 56 = .ok (.dup, 1) := dk_89 (dk_at dksX11_repeat_2 8 rfl rfl)
theorem dX11_repeat_57 : decode cX11_repeat 57 = .ok (.getfield 126, 3) := dk_180 0 126 (dk_at dksX11_repeat_2 9 rfl rfl)
theorem dX11_repeat_60 : decode cX11_repeat 60 = .ok (.iconst 1, 1) := dk_4 (dk_at dksX11_repeat_2 12 rfl rfl)
theorem dX11_repeat_61 : decode cX11_repeat 61 = .ok (.isub, 1) := dk_100 (dk_at dksX11_repeat_2 13 rfl rfl)
theorem dX11_repeat_62 : decode cX11_repeat 62 = .ok (.putfield 126, 3) := dk_181 0 126 (dk_at dksX11_repeat_2 14 rfl rfl)
theorem dX11_repeat_65 : decode cX11_repeat 65 = .ok (.aload_n 2, 1) := dk_44 (dk_at dksX11_repeat_2 17 rfl rfl)
theorem dX11_repeat_66 : decode cX11_repeat 66 = .ok (.areturn, 1) := dk_176 (dk_at dksX11_repeat_2 18 rfl rfl)
abbrev cX11_known : ByteArray := prog_14_method_5_code
def yX11_known : MethodName := ⟨RX11, "known", "(Ljava/util/List;)I"⟩
def dkwX11_known_1 : List UInt8 := [42, 182, 0, 84, 28, 172]
abbrev dktX11_known_1 : List UInt8 := dkwX11_known_1 ++ []
def dkwX11_known_0 : List UInt8 := [43, 42, 182, 0, 74, 184, 0, 78, 61, 42, 28, 2, 159, 0, 7, 4, 167, 0, 4, 3, 6, 182, 0, 23]
abbrev dktX11_known_0 : List UInt8 := dkwX11_known_0 ++ dktX11_known_1
theorem dksX11_known_0 : cX11_known.data.toList.drop 0 = dktX11_known_0 := by decide +kernel
theorem dksX11_known_1 : cX11_known.data.toList.drop 24 = dktX11_known_1 := dk_seg dksX11_known_0 24 rfl rfl
theorem dX11_known_0 : decode cX11_known 0 = .ok (.aload_n 1, 1) := dk_43 (dk_at dksX11_known_0 0 rfl rfl)
theorem dX11_known_1 : decode cX11_known 1 = .ok (.aload_n 0, 1) := dk_42 (dk_at dksX11_known_0 1 rfl rfl)
theorem dX11_known_2 : decode cX11_known 2 = .ok (.invokevirtual 74, 3) := dk_182 0 74 (dk_at dksX11_known_0 2 rfl rfl)
theorem dX11_known_5 : decode cX11_known 5 = .ok (.invokestatic 78, 3) := dk_184 0 78 (dk_at dksX11_known_0 5 rfl rfl)
theorem dX11_known_8 : decode cX11_known 8 = .ok (.istore_n 2, 1) := dk_61 (dk_at dksX11_known_0 8 rfl rfl)
theorem dX11_known_9 : decode cX11_known 9 = .ok (.aload_n 0, 1) := dk_42 (dk_at dksX11_known_0 9 rfl rfl)
theorem dX11_known_10 : decode cX11_known 10 = .ok (.iload_n 2, 1) := dk_28 (dk_at dksX11_known_0 10 rfl rfl)
theorem dX11_known_11 : decode cX11_known 11 = .ok (.iconst (-1), 1) := dk_2 (dk_at dksX11_known_0 11 rfl rfl)
theorem dX11_known_12 : decode cX11_known 12 = .ok (.if_icmp .eq 7, 3) := dk_159 0 7 (dk_at dksX11_known_0 12 rfl rfl)
theorem dX11_known_15 : decode cX11_known 15 = .ok (.iconst 1, 1) := dk_4 (dk_at dksX11_known_0 15 rfl rfl)
theorem dX11_known_16 : decode cX11_known 16 = .ok (.goto 4, 3) := dk_167 0 4 (dk_at dksX11_known_0 16 rfl rfl)
theorem dX11_known_19 : decode cX11_known 19 = .ok (.iconst 0, 1) := dk_3 (dk_at dksX11_known_0 19 rfl rfl)
theorem dX11_known_20 : decode cX11_known 20 = .ok (.iconst 3, 1) := dk_6 (dk_at dksX11_known_0 20 rfl rfl)
theorem dX11_known_21 : decode cX11_known 21 = .ok (.invokevirtual 23, 3) := dk_182 0 23 (dk_at dksX11_known_0 21 rfl rfl)
theorem dX11_known_24 : decode cX11_known 24 = .ok (.aload_n 0, 1) := dk_42 (dk_at dksX11_known_1 0 rfl rfl)
theorem dX11_known_25 : decode cX11_known 25 = .ok (.invokevirtual 84, 3) := dk_182 0 84 (dk_at dksX11_known_1 1 rfl rfl)
theorem dX11_known_28 : decode cX11_known 28 = .ok (.iload_n 2, 1) := dk_28 (dk_at dksX11_known_1 4 rfl rfl)
theorem dX11_known_29 : decode cX11_known 29 = .ok (.ireturn, 1) := dk_172 (dk_at dksX11_known_1 5 rfl rfl)
theorem q192 : (Jvm.Cond.initialized "RoseGuild$ScriptParser") ∈ lw_all := lw_g (lw_at lw_m1 57 rfl) rfl
theorem q994 : (Jvm.Cond.selects "RoseGuild$ScriptParser" ({ cls := "java/lang/Object", name := "getClass", desc := "()Ljava/lang/Class;" } : Jvm.MethodName) ({ cls := "java/lang/Object", name := "getClass", desc := "()Ljava/lang/Class;" } : Jvm.MethodName)) ∈ lw_all := lw_g (lw_at lw_m4 139 rfl) rfl
theorem q1059 : (Jvm.Cond.selects "RoseGuild$ScriptParser" ({ cls := "java/lang/Object", name := "toString", desc := "()Ljava/lang/String;" } : Jvm.MethodName) ({ cls := "java/lang/Object", name := "toString", desc := "()Ljava/lang/String;" } : Jvm.MethodName)) ∈ lw_all := lw_g (lw_at lw_m4 204 rfl) rfl
theorem q1223 : (Jvm.Cond.fieldLinkNest "RoseGuild$ScriptParser" (112 : Nat) "RoseGuild$Guild" "streets" "Ljava/util/List;" "RoseGuild") ∈ lw_tbl := lw_at lw_m5 128 rfl
theorem q1227 : (Jvm.Cond.fieldLinkNest "RoseGuild$ScriptParser" (120 : Nat) "RoseGuild$Guild" "gardens" "Ljava/util/List;" "RoseGuild") ∈ lw_tbl := lw_at lw_m5 132 rfl
theorem q1458 : (Jvm.Cond.selects "RoseGuild$ScriptParser" ({ cls := "java/lang/Object", name := "hashCode", desc := "()I" } : Jvm.MethodName) ({ cls := "java/lang/Object", name := "hashCode", desc := "()I" } : Jvm.MethodName)) ∈ lw_all := lw_g (lw_at lw_m6 123 rfl) rfl
theorem q1874 : (Jvm.Cond.selects "RoseGuild$ScriptParser" ({ cls := "java/lang/Object", name := "equals", desc := "(Ljava/lang/Object;)Z" } : Jvm.MethodName) ({ cls := "java/lang/Object", name := "equals", desc := "(Ljava/lang/Object;)Z" } : Jvm.MethodName)) ∈ lw_all := lw_g (lw_at lw_m8 59 rfl) rfl
theorem q2086 : (Jvm.Cond.fieldLinkNest "RoseGuild$ScriptParser" (108 : Nat) "RoseGuild" "guild" "LRoseGuild$Guild;" "RoseGuild") ∈ lw_tbl := lw_at lw_m9 31 rfl
theorem q2134 : (Jvm.Cond.selects "RoseGuild$ScriptParser" ({ cls := "RoseGuild$Parser", name := "advance", desc := "()V" } : Jvm.MethodName) ({ cls := "RoseGuild$Parser", name := "advance", desc := "()V" } : Jvm.MethodName)) ∈ lw_all := lw_g (lw_at lw_m9 79 rfl) rfl
theorem q2250 : (Jvm.Cond.selects "RoseGuild$ScriptParser" ({ cls := "RoseGuild$Parser", name := "peekNumber", desc := "(II)I" } : Jvm.MethodName) ({ cls := "RoseGuild$Parser", name := "peekNumber", desc := "(II)I" } : Jvm.MethodName)) ∈ lw_all := lw_g (lw_at lw_m9 195 rfl) rfl
theorem q2264 : (Jvm.Cond.selects "RoseGuild$ScriptParser" ({ cls := "RoseGuild$Parser", name := "isSign", desc := "(I)Z" } : Jvm.MethodName) ({ cls := "RoseGuild$Parser", name := "isSign", desc := "(I)Z" } : Jvm.MethodName)) ∈ lw_all := lw_g (lw_at lw_m9 209 rfl) rfl
theorem q2440 : (Jvm.Cond.instantiable "RoseGuild$ScriptParser" (10 : Nat)) ∈ lw_all := lw_g (lw_at lw_m10 145 rfl) rfl
theorem q2442 : (Jvm.Cond.instanceMethod ({ cls := "RoseGuild$ScriptParser", name := "<init>", desc := "(LRoseGuild;)V" } : Jvm.MethodName)) ∈ lw_all := lw_g (lw_at lw_m10 147 rfl) rfl
theorem q2443 : (Jvm.Cond.code ({ cls := "RoseGuild$ScriptParser", name := "<init>", desc := "(LRoseGuild;)V" } : Jvm.MethodName) prog_14_method_1_code (2 : Nat) (Option.none : Option Jvm.ClassFile.FieldType)) ∈ lw_all := lw_g (lw_at lw_m10 148 rfl) rfl
theorem q2444 : (Jvm.Cond.methodLink "RoseGuild$ScriptParser" (9 : Nat) ({ cls := "RoseGuild$Parser", name := "<init>", desc := "(LRoseGuild;)V" } : Jvm.MethodName)) ∈ lw_all := lw_g (lw_at lw_m10 149 rfl) rfl
theorem q2445 : (Jvm.Cond.fieldLink "RoseGuild$ScriptParser" (95 : Nat) "RoseGuild$ScriptParser" "count" "I") ∈ lw_all := lw_g (lw_at lw_m10 150 rfl) rfl
theorem q2446 : (Jvm.Cond.fieldLink "RoseGuild$ScriptParser" (126 : Nat) "RoseGuild$ScriptParser" "nested" "I") ∈ lw_all := lw_g (lw_at lw_m10 151 rfl) rfl
theorem q2447 : (Jvm.Cond.fieldLink "RoseGuild$ScriptParser" (3 : Nat) "RoseGuild$ScriptParser" "this$0" "LRoseGuild;") ∈ lw_all := lw_g (lw_at lw_m10 152 rfl) rfl
theorem q2448 : (Jvm.Cond.lays "RoseGuild$ScriptParser" "RoseGuild$ScriptParser" "count" "I") ∈ lw_all := lw_g (lw_at lw_m10 153 rfl) rfl
theorem q2449 : (Jvm.Cond.soleField "RoseGuild$ScriptParser" "count") ∈ lw_all := lw_g (lw_at lw_m10 154 rfl) rfl
theorem q2450 : (Jvm.Cond.lays "RoseGuild$ScriptParser" "RoseGuild$ScriptParser" "nested" "I") ∈ lw_all := lw_g (lw_at lw_m10 155 rfl) rfl
theorem q2451 : (Jvm.Cond.soleField "RoseGuild$ScriptParser" "nested") ∈ lw_all := lw_g (lw_at lw_m10 156 rfl) rfl
theorem q2452 : (Jvm.Cond.laysFinal "RoseGuild$ScriptParser" "RoseGuild$ScriptParser" "this$0" "LRoseGuild;") ∈ lw_all := lw_g (lw_at lw_m10 157 rfl) rfl
theorem q2453 : (Jvm.Cond.soleField "RoseGuild$ScriptParser" "this$0") ∈ lw_all := lw_g (lw_at lw_m10 158 rfl) rfl
theorem q2454 : (Jvm.Cond.laysFinal "RoseGuild$ScriptParser" "RoseGuild$Parser" "end" "I") ∈ lw_all := lw_g (lw_at lw_m10 159 rfl) rfl
theorem q2455 : (Jvm.Cond.lays "RoseGuild$ScriptParser" "RoseGuild$Parser" "next" "I") ∈ lw_all := lw_g (lw_at lw_m10 160 rfl) rfl
theorem q2456 : (Jvm.Cond.lays "RoseGuild$ScriptParser" "RoseGuild$Parser" "start" "I") ∈ lw_all := lw_g (lw_at lw_m10 161 rfl) rfl
theorem q2457 : (Jvm.Cond.lays "RoseGuild$ScriptParser" "RoseGuild$Parser" "number" "I") ∈ lw_all := lw_g (lw_at lw_m10 162 rfl) rfl
theorem q2458 : (Jvm.Cond.lays "RoseGuild$ScriptParser" "RoseGuild$Parser" "kind" "LRoseGuild$TokenKind;") ∈ lw_all := lw_g (lw_at lw_m10 163 rfl) rfl
theorem q2459 : (Jvm.Cond.lays "RoseGuild$ScriptParser" "RoseGuild$Parser" "word" "Ljava/lang/String;") ∈ lw_all := lw_g (lw_at lw_m10 164 rfl) rfl
theorem q2460 : (Jvm.Cond.laysFinal "RoseGuild$ScriptParser" "RoseGuild$Parser" "this$0" "LRoseGuild;") ∈ lw_all := lw_g (lw_at lw_m10 165 rfl) rfl
theorem q2461 : (Jvm.Cond.superclass "RoseGuild$ScriptParser" "RoseGuild$Parser") ∈ lw_all := lw_g (lw_at lw_m10 166 rfl) rfl
theorem q2463 : (Jvm.Cond.instanceMethod ({ cls := "RoseGuild$ScriptParser", name := "parse", desc := "()LRoseGuild$Block;" } : Jvm.MethodName)) ∈ lw_all := lw_g (lw_at lw_m10 168 rfl) rfl
theorem q2464 : (Jvm.Cond.selects "RoseGuild$ScriptParser" ({ cls := "RoseGuild$ScriptParser", name := "parse", desc := "()LRoseGuild$Block;" } : Jvm.MethodName) ({ cls := "RoseGuild$ScriptParser", name := "parse", desc := "()LRoseGuild$Block;" } : Jvm.MethodName)) ∈ lw_all := lw_g (lw_at lw_m10 169 rfl) rfl
theorem q2465 : (Jvm.Cond.code ({ cls := "RoseGuild$ScriptParser", name := "parse", desc := "()LRoseGuild$Block;" } : Jvm.MethodName) prog_14_method_2_code (2 : Nat) (Option.some (Jvm.ClassFile.FieldType.object "RoseGuild$Block"))) ∈ lw_all := lw_g (lw_at lw_m10 170 rfl) rfl
theorem q2466 : (Jvm.Cond.methodLink "RoseGuild$ScriptParser" (15 : Nat) ({ cls := "RoseGuild$ScriptParser", name := "block", desc := "(I)LRoseGuild$Block;" } : Jvm.MethodName)) ∈ lw_all := lw_g (lw_at lw_m10 171 rfl) rfl
theorem q2467 : (Jvm.Cond.privateMethod ({ cls := "RoseGuild$ScriptParser", name := "block", desc := "(I)LRoseGuild$Block;" } : Jvm.MethodName)) ∈ lw_tbl := lw_at lw_m10 172 rfl
theorem q2468 : (Jvm.Cond.instanceMethod ({ cls := "RoseGuild$ScriptParser", name := "block", desc := "(I)LRoseGuild$Block;" } : Jvm.MethodName)) ∈ lw_all := lw_g (lw_at lw_m10 173 rfl) rfl
theorem q2469 : (Jvm.Cond.code ({ cls := "RoseGuild$ScriptParser", name := "block", desc := "(I)LRoseGuild$Block;" } : Jvm.MethodName) prog_14_method_3_code (3 : Nat) (Option.some (Jvm.ClassFile.FieldType.object "RoseGuild$Block"))) ∈ lw_all := lw_g (lw_at lw_m10 174 rfl) rfl
theorem q2470 : (Jvm.Cond.classLink "RoseGuild$ScriptParser" (27 : Nat) "RoseGuild$Block") ∈ lw_all := lw_g (lw_at lw_m10 175 rfl) rfl
theorem q2472 : (Jvm.Cond.methodLink "RoseGuild$ScriptParser" (29 : Nat) ({ cls := "RoseGuild$Block", name := "<init>", desc := "(I)V" } : Jvm.MethodName)) ∈ lw_all := lw_g (lw_at lw_m10 177 rfl) rfl
theorem q2479 : (Jvm.Cond.fieldLinkNest "RoseGuild$ScriptParser" (36 : Nat) "RoseGuild$Block" "commands" "Ljava/util/LinkedList;" "RoseGuild") ∈ lw_tbl := lw_at lw_m10 184 rfl
theorem q2488 : (Jvm.Cond.methodLink "RoseGuild$ScriptParser" (19 : Nat) ({ cls := "RoseGuild$ScriptParser", name := "isEnd", desc := "()Z" } : Jvm.MethodName)) ∈ lw_all := lw_g (lw_at lw_m10 193 rfl) rfl
theorem q2489 : (Jvm.Cond.sameMethod "RoseGuild$ScriptParser" "RoseGuild$Parser" "isEnd" "()Z") ∈ lw_all := lw_g (lw_at lw_m10 194 rfl) rfl
theorem q2490 : (Jvm.Cond.selects "RoseGuild$ScriptParser" ({ cls := "RoseGuild$ScriptParser", name := "isEnd", desc := "()Z" } : Jvm.MethodName) ({ cls := "RoseGuild$Parser", name := "isEnd", desc := "()Z" } : Jvm.MethodName)) ∈ lw_all := lw_g (lw_at lw_m10 195 rfl) rfl
theorem q2491 : (Jvm.Cond.methodLink "RoseGuild$ScriptParser" (32 : Nat) ({ cls := "RoseGuild$ScriptParser", name := "isSign", desc := "(I)Z" } : Jvm.MethodName)) ∈ lw_all := lw_g (lw_at lw_m10 196 rfl) rfl
theorem q2492 : (Jvm.Cond.sameMethod "RoseGuild$ScriptParser" "RoseGuild$Parser" "isSign" "(I)Z") ∈ lw_all := lw_g (lw_at lw_m10 197 rfl) rfl
theorem q2494 : (Jvm.Cond.selects "RoseGuild$ScriptParser" ({ cls := "RoseGuild$ScriptParser", name := "isSign", desc := "(I)Z" } : Jvm.MethodName) ({ cls := "RoseGuild$Parser", name := "isSign", desc := "(I)Z" } : Jvm.MethodName)) ∈ lw_all := lw_g (lw_at lw_m10 199 rfl) rfl
theorem q2495 : (Jvm.Cond.methodLink "RoseGuild$ScriptParser" (40 : Nat) ({ cls := "RoseGuild$ScriptParser", name := "command", desc := "()LRoseGuild$Command;" } : Jvm.MethodName)) ∈ lw_all := lw_g (lw_at lw_m10 200 rfl) rfl
theorem q2496 : (Jvm.Cond.privateMethod ({ cls := "RoseGuild$ScriptParser", name := "command", desc := "()LRoseGuild$Command;" } : Jvm.MethodName)) ∈ lw_tbl := lw_at lw_m10 201 rfl
theorem q2497 : (Jvm.Cond.instanceMethod ({ cls := "RoseGuild$ScriptParser", name := "command", desc := "()LRoseGuild$Command;" } : Jvm.MethodName)) ∈ lw_all := lw_g (lw_at lw_m10 202 rfl) rfl
theorem q2498 : (Jvm.Cond.code ({ cls := "RoseGuild$ScriptParser", name := "command", desc := "()LRoseGuild$Command;" } : Jvm.MethodName) prog_14_method_6_code (4 : Nat) (Option.some (Jvm.ClassFile.FieldType.object "RoseGuild$Command"))) ∈ lw_all := lw_g (lw_at lw_m10 203 rfl) rfl
theorem q2499 : (Jvm.Cond.methodLink "RoseGuild$ScriptParser" (88 : Nat) ({ cls := "RoseGuild$ScriptParser", name := "word", desc := "()Ljava/lang/String;" } : Jvm.MethodName)) ∈ lw_all := lw_g (lw_at lw_m10 204 rfl) rfl
theorem q2500 : (Jvm.Cond.sameMethod "RoseGuild$ScriptParser" "RoseGuild$Parser" "word" "()Ljava/lang/String;") ∈ lw_all := lw_g (lw_at lw_m10 205 rfl) rfl
theorem q2501 : (Jvm.Cond.selects "RoseGuild$ScriptParser" ({ cls := "RoseGuild$ScriptParser", name := "word", desc := "()Ljava/lang/String;" } : Jvm.MethodName) ({ cls := "RoseGuild$Parser", name := "word", desc := "()Ljava/lang/String;" } : Jvm.MethodName)) ∈ lw_all := lw_g (lw_at lw_m10 206 rfl) rfl
theorem q2502 : (Jvm.Cond.methodLink "RoseGuild$ScriptParser" (91 : Nat) ({ cls := "RoseGuild$ScriptParser", name := "isCommand", desc := "(Ljava/lang/String;)Z" } : Jvm.MethodName)) ∈ lw_all := lw_g (lw_at lw_m10 207 rfl) rfl
theorem q2503 : (Jvm.Cond.privateMethod ({ cls := "RoseGuild$ScriptParser", name := "isCommand", desc := "(Ljava/lang/String;)Z" } : Jvm.MethodName)) ∈ lw_tbl := lw_at lw_m10 208 rfl
theorem q2504 : (Jvm.Cond.instanceMethod ({ cls := "RoseGuild$ScriptParser", name := "isCommand", desc := "(Ljava/lang/String;)Z" } : Jvm.MethodName)) ∈ lw_all := lw_g (lw_at lw_m10 209 rfl) rfl
theorem q2505 : (Jvm.Cond.code ({ cls := "RoseGuild$ScriptParser", name := "isCommand", desc := "(Ljava/lang/String;)Z" } : Jvm.MethodName) prog_14_method_4_code (4 : Nat) (Option.some Jvm.ClassFile.FieldType.boolean)) ∈ lw_all := lw_g (lw_at lw_m10 210 rfl) rfl
theorem q2506 : (Jvm.Cond.methodLink "RoseGuild$ScriptParser" (53 : Nat) ({ cls := "java/lang/String", name := "hashCode", desc := "()I" } : Jvm.MethodName)) ∈ lw_all := lw_g (lw_at lw_m10 211 rfl) rfl
theorem q2507 : (Jvm.Cond.stringRef "RoseGuild$ScriptParser" (59 : Nat) "sign") ∈ lw_tbl := lw_at lw_m10 212 rfl
theorem q2508 : (Jvm.Cond.methodLink "RoseGuild$ScriptParser" (60 : Nat) ({ cls := "java/lang/String", name := "equals", desc := "(Ljava/lang/Object;)Z" } : Jvm.MethodName)) ∈ lw_all := lw_g (lw_at lw_m10 213 rfl) rfl
theorem q2509 : (Jvm.Cond.stringRef "RoseGuild$ScriptParser" (64 : Nat) "cancel") ∈ lw_tbl := lw_at lw_m10 214 rfl
theorem q2510 : (Jvm.Cond.stringRef "RoseGuild$ScriptParser" (66 : Nat) "pass") ∈ lw_tbl := lw_at lw_m10 215 rfl
theorem q2511 : (Jvm.Cond.stringRef "RoseGuild$ScriptParser" (68 : Nat) "wind") ∈ lw_tbl := lw_at lw_m10 216 rfl
theorem q2512 : (Jvm.Cond.stringRef "RoseGuild$ScriptParser" (70 : Nat) "price") ∈ lw_tbl := lw_at lw_m10 217 rfl
theorem q2513 : (Jvm.Cond.stringRef "RoseGuild$ScriptParser" (72 : Nat) "repeat") ∈ lw_tbl := lw_at lw_m10 218 rfl
theorem q2514 : (Jvm.Cond.methodLink "RoseGuild$ScriptParser" (23 : Nat) ({ cls := "RoseGuild$ScriptParser", name := "require", desc := "(ZI)V" } : Jvm.MethodName)) ∈ lw_all := lw_g (lw_at lw_m10 219 rfl) rfl
theorem q2515 : (Jvm.Cond.sameMethod "RoseGuild$ScriptParser" "RoseGuild$Parser" "require" "(ZI)V") ∈ lw_all := lw_g (lw_at lw_m10 220 rfl) rfl
theorem q2516 : (Jvm.Cond.selects "RoseGuild$ScriptParser" ({ cls := "RoseGuild$ScriptParser", name := "require", desc := "(ZI)V" } : Jvm.MethodName) ({ cls := "RoseGuild$Parser", name := "require", desc := "(ZI)V" } : Jvm.MethodName)) ∈ lw_all := lw_g (lw_at lw_m10 221 rfl) rfl
theorem q2517 : (Jvm.Cond.methodLink "RoseGuild$ScriptParser" (84 : Nat) ({ cls := "RoseGuild$ScriptParser", name := "advance", desc := "()V" } : Jvm.MethodName)) ∈ lw_all := lw_g (lw_at lw_m10 222 rfl) rfl
theorem q2518 : (Jvm.Cond.sameMethod "RoseGuild$ScriptParser" "RoseGuild$Parser" "advance" "()V") ∈ lw_all := lw_g (lw_at lw_m10 223 rfl) rfl
theorem q2519 : (Jvm.Cond.selects "RoseGuild$ScriptParser" ({ cls := "RoseGuild$ScriptParser", name := "advance", desc := "()V" } : Jvm.MethodName) ({ cls := "RoseGuild$Parser", name := "advance", desc := "()V" } : Jvm.MethodName)) ∈ lw_all := lw_g (lw_at lw_m10 224 rfl) rfl
theorem q2520 : (Jvm.Cond.methodLink "RoseGuild$ScriptParser" (99 : Nat) ({ cls := "RoseGuild$ScriptParser", name := "number", desc := "(II)I" } : Jvm.MethodName)) ∈ lw_all := lw_g (lw_at lw_m10 225 rfl) rfl
theorem q2521 : (Jvm.Cond.sameMethod "RoseGuild$ScriptParser" "RoseGuild$Parser" "number" "(II)I") ∈ lw_all := lw_g (lw_at lw_m10 226 rfl) rfl
theorem q2522 : (Jvm.Cond.selects "RoseGuild$ScriptParser" ({ cls := "RoseGuild$ScriptParser", name := "number", desc := "(II)I" } : Jvm.MethodName) ({ cls := "RoseGuild$Parser", name := "number", desc := "(II)I" } : Jvm.MethodName)) ∈ lw_all := lw_g (lw_at lw_m10 227 rfl) rfl
theorem q2523 : (Jvm.Cond.methodLink "RoseGuild$ScriptParser" (103 : Nat) ({ cls := "RoseGuild$ScriptParser", name := "repeat", desc := "(I)LRoseGuild$Command;" } : Jvm.MethodName)) ∈ lw_all := lw_g (lw_at lw_m10 228 rfl) rfl
theorem q2524 : (Jvm.Cond.privateMethod ({ cls := "RoseGuild$ScriptParser", name := "repeat", desc := "(I)LRoseGuild$Command;" } : Jvm.MethodName)) ∈ lw_tbl := lw_at lw_m10 229 rfl
theorem q2525 : (Jvm.Cond.instanceMethod ({ cls := "RoseGuild$ScriptParser", name := "repeat", desc := "(I)LRoseGuild$Command;" } : Jvm.MethodName)) ∈ lw_all := lw_g (lw_at lw_m10 230 rfl) rfl
theorem q2526 : (Jvm.Cond.code ({ cls := "RoseGuild$ScriptParser", name := "repeat", desc := "(I)LRoseGuild$Command;" } : Jvm.MethodName) prog_14_method_7_code (3 : Nat) (Option.some (Jvm.ClassFile.FieldType.object "RoseGuild$Command"))) ∈ lw_all := lw_g (lw_at lw_m10 231 rfl) rfl
theorem q2527 : (Jvm.Cond.methodLink "RoseGuild$ScriptParser" (50 : Nat) ({ cls := "RoseGuild$ScriptParser", name := "sign", desc := "(I)V" } : Jvm.MethodName)) ∈ lw_all := lw_g (lw_at lw_m10 232 rfl) rfl
theorem q2528 : (Jvm.Cond.sameMethod "RoseGuild$ScriptParser" "RoseGuild$Parser" "sign" "(I)V") ∈ lw_all := lw_g (lw_at lw_m10 233 rfl) rfl
theorem q2529 : (Jvm.Cond.selects "RoseGuild$ScriptParser" ({ cls := "RoseGuild$ScriptParser", name := "sign", desc := "(I)V" } : Jvm.MethodName) ({ cls := "RoseGuild$Parser", name := "sign", desc := "(I)V" } : Jvm.MethodName)) ∈ lw_all := lw_g (lw_at lw_m10 234 rfl) rfl
theorem q2530 : (Jvm.Cond.classLink "RoseGuild$ScriptParser" (106 : Nat) "RoseGuild$Single") ∈ lw_all := lw_g (lw_at lw_m10 235 rfl) rfl
theorem q2532 : (Jvm.Cond.methodLink "RoseGuild$ScriptParser" (116 : Nat) ({ cls := "RoseGuild$ScriptParser", name := "known", desc := "(Ljava/util/List;)I" } : Jvm.MethodName)) ∈ lw_all := lw_g (lw_at lw_m10 237 rfl) rfl
theorem q2533 : (Jvm.Cond.privateMethod ({ cls := "RoseGuild$ScriptParser", name := "known", desc := "(Ljava/util/List;)I" } : Jvm.MethodName)) ∈ lw_tbl := lw_at lw_m10 238 rfl
theorem q2534 : (Jvm.Cond.instanceMethod ({ cls := "RoseGuild$ScriptParser", name := "known", desc := "(Ljava/util/List;)I" } : Jvm.MethodName)) ∈ lw_all := lw_g (lw_at lw_m10 239 rfl) rfl
theorem q2535 : (Jvm.Cond.code ({ cls := "RoseGuild$ScriptParser", name := "known", desc := "(Ljava/util/List;)I" } : Jvm.MethodName) prog_14_method_5_code (3 : Nat) (Option.some Jvm.ClassFile.FieldType.int)) ∈ lw_all := lw_g (lw_at lw_m11 0 rfl) rfl
theorem q2536 : (Jvm.Cond.methodLink "RoseGuild$ScriptParser" (74 : Nat) ({ cls := "RoseGuild$ScriptParser", name := "peekName", desc := "()Ljava/lang/String;" } : Jvm.MethodName)) ∈ lw_all := lw_g (lw_at lw_m11 1 rfl) rfl
theorem q2537 : (Jvm.Cond.sameMethod "RoseGuild$ScriptParser" "RoseGuild$Parser" "peekName" "()Ljava/lang/String;") ∈ lw_all := lw_g (lw_at lw_m11 2 rfl) rfl
theorem q2538 : (Jvm.Cond.selects "RoseGuild$ScriptParser" ({ cls := "RoseGuild$ScriptParser", name := "peekName", desc := "()Ljava/lang/String;" } : Jvm.MethodName) ({ cls := "RoseGuild$Parser", name := "peekName", desc := "()Ljava/lang/String;" } : Jvm.MethodName)) ∈ lw_all := lw_g (lw_at lw_m11 3 rfl) rfl
theorem q2539 : (Jvm.Cond.methodLink "RoseGuild$ScriptParser" (78 : Nat) ({ cls := "RoseGuild$Guild", name := "find", desc := "(Ljava/util/List;Ljava/lang/String;)I" } : Jvm.MethodName)) ∈ lw_all := lw_g (lw_at lw_m11 4 rfl) rfl
theorem q2540 : (Jvm.Cond.methodLink "RoseGuild$ScriptParser" (123 : Nat) ({ cls := "RoseGuild$Single", name := "<init>", desc := "(Ljava/lang/String;[I)V" } : Jvm.MethodName)) ∈ lw_all := lw_g (lw_at lw_m11 5 rfl) rfl
theorem q2552 : (Jvm.Cond.methodLink "RoseGuild$ScriptParser" (44 : Nat) ({ cls := "java/util/LinkedList", name := "addLast", desc := "(Ljava/lang/Object;)V" } : Jvm.MethodName)) ∈ lw_all := lw_g (lw_at lw_m11 17 rfl) rfl
theorem q4343 : (Jvm.Cond.selects "RoseGuild$ScriptParser" ({ cls := "RoseGuild$Parser", name := "require", desc := "(ZI)V" } : Jvm.MethodName) ({ cls := "RoseGuild$Parser", name := "require", desc := "(ZI)V" } : Jvm.MethodName)) ∈ lw_all := lw_g (lw_at lw_m18 128 rfl) rfl
theorem q4412 : (Jvm.Cond.castable "RoseGuild$ScriptParser" "java/lang/Object") ∈ lw_tbl := lw_at lw_m18 197 rfl
theorem in_X11 : ∀ w ∈ wsX110, w ∈ lw_all := lw_in wsX110 [2454, 2455, 2456, 2457, 2458, 2459, 2460, 2448, 2450, 2452] (by decide +kernel) (by decide +kernel)

/-! the law's own entry -/
set_option maxRecDepth 100000
abbrev cL_law : ByteArray := code
def dkwL_law_101 : List UInt8 := [21, 7, 133, 148, 153, 0, 5, 3, 172, 167, 0, 3, 132, 5, 6, 167, 246, 1, 4, 172]
abbrev dktL_law_101 : List UInt8 := dkwL_law_101 ++ []
def dkwL_law_100 : List UInt8 := [182, 1, 68, 54, 7, 44, 182, 0, 129, 21, 6, 159, 0, 5, 3, 172, 21, 6, 154, 0, 15, 45, 3, 47]
abbrev dktL_law_100 : List UInt8 := dkwL_law_100 ++ dktL_law_101
def dkwL_law_99 : List UInt8 := [167, 0, 59, 43, 42, 21, 5, 4, 96, 46, 45, 184, 1, 66, 54, 6, 44, 42, 21, 5, 4, 96, 46]
abbrev dktL_law_99 : List UInt8 := dkwL_law_99 ++ dktL_law_100
def dkwL_law_98 : List UInt8 := [21, 6, 159, 0, 5, 3, 172, 21, 6, 154, 0, 15, 45, 3, 47, 21, 7, 133, 148, 153, 0, 5, 3, 172]
abbrev dktL_law_98 : List UInt8 := dkwL_law_98 ++ dktL_law_99
def dkwL_law_97 : List UInt8 := [46, 45, 184, 1, 63, 54, 6, 44, 42, 21, 5, 4, 96, 46, 182, 1, 65, 54, 7, 44, 182, 0, 129]
abbrev dktL_law_97 : List UInt8 := dkwL_law_97 ++ dktL_law_98
def dkwL_law_96 : List UInt8 := [154, 0, 15, 45, 3, 47, 21, 7, 133, 148, 153, 0, 5, 3, 172, 167, 0, 115, 43, 42, 21, 5, 4, 96]
abbrev dktL_law_96 : List UInt8 := dkwL_law_96 ++ dktL_law_97
def dkwL_law_95 : List UInt8 := [184, 1, 59, 54, 6, 44, 182, 1, 62, 54, 7, 44, 182, 0, 129, 21, 6, 159, 0, 5, 3, 172, 21, 6]
abbrev dktL_law_95 : List UInt8 := dkwL_law_95 ++ dktL_law_96
def dkwL_law_94 : List UInt8 := [182, 1, 54, 159, 0, 174, 3, 172, 43, 182, 1, 55, 44, 182, 1, 58, 159, 0, 161, 3, 172, 43, 45]
abbrev dktL_law_94 : List UInt8 := dkwL_law_94 ++ dktL_law_95
def dkwL_law_93 : List UInt8 := [159, 0, 199, 3, 172, 43, 42, 21, 5, 4, 96, 46, 182, 1, 51, 44, 42, 21, 5, 4, 96, 46]
abbrev dktL_law_93 : List UInt8 := dkwL_law_93 ++ dktL_law_94
def dkwL_law_92 : List UInt8 := [167, 0, 223, 43, 182, 1, 43, 44, 182, 1, 46, 159, 0, 212, 3, 172, 43, 182, 1, 47, 44, 182, 1, 50]
abbrev dktL_law_92 : List UInt8 := dkwL_law_92 ++ dktL_law_93
def dkwL_law_91 : List UInt8 := [21, 6, 159, 0, 5, 3, 172, 21, 6, 154, 0, 15, 45, 3, 47, 21, 7, 133, 148, 153, 0, 5, 3, 172]
abbrev dktL_law_91 : List UInt8 := dkwL_law_91 ++ dktL_law_92
def dkwL_law_90 : List UInt8 := [46, 45, 184, 1, 40, 54, 6, 44, 42, 21, 5, 4, 96, 46, 182, 1, 42, 54, 7, 44, 182, 0, 129]
abbrev dktL_law_90 : List UInt8 := dkwL_law_90 ++ dktL_law_91
def dkwL_law_89 : List UInt8 := [154, 0, 15, 45, 3, 47, 21, 7, 133, 148, 153, 0, 5, 3, 172, 167, 1, 23, 43, 42, 21, 5, 4, 96]
abbrev dktL_law_89 : List UInt8 := dkwL_law_89 ++ dktL_law_90
def dkwL_law_88 : List UInt8 := [21, 5, 4, 96, 46, 182, 1, 39, 54, 7, 44, 182, 0, 129, 21, 6, 159, 0, 5, 3, 172, 21, 6]
abbrev dktL_law_88 : List UInt8 := dkwL_law_88 ++ dktL_law_89
def dkwL_law_87 : List UInt8 := [153, 0, 5, 3, 172, 167, 1, 79, 43, 42, 21, 5, 4, 96, 46, 45, 184, 1, 37, 54, 6, 44, 42]
abbrev dktL_law_87 : List UInt8 := dkwL_law_87 ++ dktL_law_88
def dkwL_law_86 : List UInt8 := [182, 0, 129, 21, 6, 159, 0, 5, 3, 172, 21, 6, 154, 0, 15, 45, 3, 47, 21, 7, 133, 148]
abbrev dktL_law_86 : List UInt8 := dkwL_law_86 ++ dktL_law_87
def dkwL_law_85 : List UInt8 := [21, 5, 4, 96, 46, 45, 184, 1, 34, 54, 6, 44, 42, 21, 5, 4, 96, 46, 182, 1, 36, 54, 7, 44]
abbrev dktL_law_85 : List UInt8 := dkwL_law_85 ++ dktL_law_86
def dkwL_law_84 : List UInt8 := [172, 21, 6, 154, 0, 15, 45, 3, 47, 21, 7, 133, 148, 153, 0, 5, 3, 172, 167, 1, 135, 43, 42]
abbrev dktL_law_84 : List UInt8 := dkwL_law_84 ++ dktL_law_85
def dkwL_law_83 : List UInt8 := [54, 6, 44, 42, 21, 5, 4, 96, 46, 182, 1, 33, 54, 7, 44, 182, 0, 129, 21, 6, 159, 0, 5, 3]
abbrev dktL_law_83 : List UInt8 := dkwL_law_83 ++ dktL_law_84
def dkwL_law_82 : List UInt8 := [21, 7, 133, 148, 153, 0, 5, 3, 172, 167, 1, 191, 43, 42, 21, 5, 4, 96, 46, 45, 184, 1, 31]
abbrev dktL_law_82 : List UInt8 := dkwL_law_82 ++ dktL_law_83
def dkwL_law_81 : List UInt8 := [182, 1, 30, 54, 7, 44, 182, 0, 129, 21, 6, 159, 0, 5, 3, 172, 21, 6, 154, 0, 15, 45, 3, 47]
abbrev dktL_law_81 : List UInt8 := dkwL_law_81 ++ dktL_law_82
def dkwL_law_80 : List UInt8 := [42, 21, 5, 4, 96, 46, 42, 21, 5, 5, 96, 46, 42, 21, 5, 6, 96, 46, 42, 21, 5, 7, 96, 46]
abbrev dktL_law_80 : List UInt8 := dkwL_law_80 ++ dktL_law_81
def dkwL_law_79 : List UInt8 := [21, 5, 5, 96, 46, 42, 21, 5, 6, 96, 46, 42, 21, 5, 7, 96, 46, 45, 184, 1, 27, 54, 6, 44]
abbrev dktL_law_79 : List UInt8 := dkwL_law_79 ++ dktL_law_80
def dkwL_law_78 : List UInt8 := [167, 2, 40, 43, 182, 1, 23, 44, 182, 1, 26, 159, 2, 29, 3, 172, 43, 42, 21, 5, 4, 96, 46, 42]
abbrev dktL_law_78 : List UInt8 := dkwL_law_78 ++ dktL_law_79
def dkwL_law_77 : List UInt8 := [21, 6, 159, 0, 5, 3, 172, 21, 6, 154, 0, 15, 45, 3, 47, 21, 7, 133, 148, 153, 0, 5, 3, 172]
abbrev dktL_law_77 : List UInt8 := dkwL_law_77 ++ dktL_law_78
def dkwL_law_76 : List UInt8 := [46, 45, 184, 1, 20, 54, 6, 44, 42, 21, 5, 4, 96, 46, 182, 1, 22, 54, 7, 44, 182, 0, 129]
abbrev dktL_law_76 : List UInt8 := dkwL_law_76 ++ dktL_law_77
def dkwL_law_75 : List UInt8 := [154, 0, 15, 45, 3, 47, 21, 7, 133, 148, 153, 0, 5, 3, 172, 167, 2, 96, 43, 42, 21, 5, 4, 96]
abbrev dktL_law_75 : List UInt8 := dkwL_law_75 ++ dktL_law_76
def dkwL_law_74 : List UInt8 := [42, 21, 5, 5, 96, 46, 182, 1, 19, 54, 7, 44, 182, 0, 129, 21, 6, 159, 0, 5, 3, 172, 21, 6]
abbrev dktL_law_74 : List UInt8 := dkwL_law_74 ++ dktL_law_75
def dkwL_law_73 : List UInt8 := [21, 5, 4, 96, 46, 42, 21, 5, 5, 96, 46, 45, 184, 1, 17, 54, 6, 44, 42, 21, 5, 4, 96, 46]
abbrev dktL_law_73 : List UInt8 := dkwL_law_73 ++ dktL_law_74
def dkwL_law_72 : List UInt8 := [172, 21, 6, 154, 0, 15, 45, 3, 47, 21, 7, 133, 148, 153, 0, 5, 3, 172, 167, 2, 164, 43, 42]
abbrev dktL_law_72 : List UInt8 := dkwL_law_72 ++ dktL_law_73
def dkwL_law_71 : List UInt8 := [54, 6, 44, 42, 21, 5, 4, 96, 46, 182, 1, 16, 54, 7, 44, 182, 0, 129, 21, 6, 159, 0, 5, 3]
abbrev dktL_law_71 : List UInt8 := dkwL_law_71 ++ dktL_law_72
def dkwL_law_70 : List UInt8 := [21, 7, 133, 148, 153, 0, 5, 3, 172, 167, 2, 220, 43, 42, 21, 5, 4, 96, 46, 45, 184, 1, 14]
abbrev dktL_law_70 : List UInt8 := dkwL_law_70 ++ dktL_law_71
def dkwL_law_69 : List UInt8 := [182, 1, 13, 54, 7, 44, 182, 0, 129, 21, 6, 159, 0, 5, 3, 172, 21, 6, 154, 0, 15, 45, 3, 47]
abbrev dktL_law_69 : List UInt8 := dkwL_law_69 ++ dktL_law_70
def dkwL_law_68 : List UInt8 := [21, 5, 5, 96, 46, 45, 184, 1, 11, 54, 6, 44, 42, 21, 5, 4, 96, 46, 42, 21, 5, 5, 96, 46]
abbrev dktL_law_68 : List UInt8 := dkwL_law_68 ++ dktL_law_69
def dkwL_law_67 : List UInt8 := [167, 3, 45, 43, 182, 1, 7, 44, 182, 1, 10, 159, 3, 34, 3, 172, 43, 42, 21, 5, 4, 96, 46, 42]
abbrev dktL_law_67 : List UInt8 := dkwL_law_67 ++ dktL_law_68
def dkwL_law_66 : List UInt8 := [25, 4, 3, 49, 25, 4, 3, 49, 151, 153, 0, 11, 23, 7, 23, 7, 149, 154, 0, 5, 3, 172]
abbrev dktL_law_66 : List UInt8 := dkwL_law_66 ++ dktL_law_67
def dkwL_law_65 : List UInt8 := [21, 6, 159, 0, 5, 3, 172, 21, 6, 154, 0, 36, 25, 4, 3, 49, 23, 7, 141, 151, 153, 0, 25]
abbrev dktL_law_65 : List UInt8 := dkwL_law_65 ++ dktL_law_66
def dkwL_law_64 : List UInt8 := [25, 4, 184, 1, 3, 54, 6, 44, 42, 21, 5, 4, 96, 46, 182, 1, 6, 56, 7, 44, 182, 0, 129]
abbrev dktL_law_64 : List UInt8 := dkwL_law_64 ++ dktL_law_65
def dkwL_law_63 : List UInt8 := [153, 0, 11, 24, 8, 24, 8, 151, 154, 0, 5, 3, 172, 167, 3, 123, 43, 42, 21, 5, 4, 96, 46]
abbrev dktL_law_63 : List UInt8 := dkwL_law_63 ++ dktL_law_64
def dkwL_law_62 : List UInt8 := [182, 0, 254, 57, 6, 44, 182, 1, 2, 57, 8, 24, 6, 24, 8, 151, 153, 0, 21, 24, 6, 24, 6, 151]
abbrev dktL_law_62 : List UInt8 := dkwL_law_62 ++ dktL_law_63
def dkwL_law_61 : List UInt8 := [182, 0, 249, 159, 3, 179, 3, 172, 43, 182, 0, 250, 44, 182, 0, 253, 159, 3, 166, 3, 172, 43]
abbrev dktL_law_61 : List UInt8 := dkwL_law_61 ++ dktL_law_62
def dkwL_law_60 : List UInt8 := [153, 0, 7, 10, 167, 0, 4, 9, 148, 153, 0, 5, 3, 172, 167, 3, 190, 43, 182, 0, 246, 44]
abbrev dktL_law_60 : List UInt8 := dkwL_law_60 ++ dktL_law_61
def dkwL_law_59 : List UInt8 := [54, 7, 44, 182, 0, 129, 21, 6, 159, 0, 5, 3, 172, 21, 6, 154, 0, 22, 45, 3, 47, 21, 7]
abbrev dktL_law_59 : List UInt8 := dkwL_law_59 ++ dktL_law_60
def dkwL_law_58 : List UInt8 := [54, 6, 44, 42, 21, 5, 4, 96, 46, 42, 21, 5, 5, 96, 46, 42, 21, 5, 6, 96, 46, 182, 0, 245]
abbrev dktL_law_58 : List UInt8 := dkwL_law_58 ++ dktL_law_59
def dkwL_law_57 : List UInt8 := [172, 43, 42, 21, 5, 4, 96, 46, 42, 21, 5, 5, 96, 46, 42, 21, 5, 6, 96, 46, 45, 184, 0, 243]
abbrev dktL_law_57 : List UInt8 := dkwL_law_57 ++ dktL_law_58
def dkwL_law_56 : List UInt8 := [182, 0, 235, 44, 182, 0, 238, 159, 4, 36, 3, 172, 43, 182, 0, 239, 44, 182, 0, 242, 159, 4, 23, 3]
abbrev dktL_law_56 : List UInt8 := dkwL_law_56 ++ dktL_law_57
def dkwL_law_55 : List UInt8 := [182, 0, 230, 159, 4, 62, 3, 172, 43, 182, 0, 231, 44, 182, 0, 234, 159, 4, 49, 3, 172, 43]
abbrev dktL_law_55 : List UInt8 := dkwL_law_55 ++ dktL_law_56
def dkwL_law_54 : List UInt8 := [154, 0, 15, 45, 3, 47, 21, 7, 133, 148, 153, 0, 5, 3, 172, 167, 4, 73, 43, 182, 0, 227, 44]
abbrev dktL_law_54 : List UInt8 := dkwL_law_54 ++ dktL_law_55
def dkwL_law_53 : List UInt8 := [42, 21, 5, 5, 96, 46, 182, 0, 226, 54, 7, 44, 182, 0, 129, 21, 6, 159, 0, 5, 3, 172, 21, 6]
abbrev dktL_law_53 : List UInt8 := dkwL_law_53 ++ dktL_law_54
def dkwL_law_52 : List UInt8 := [21, 5, 4, 96, 46, 42, 21, 5, 5, 96, 46, 45, 184, 0, 223, 54, 6, 44, 42, 21, 5, 4, 96, 46]
abbrev dktL_law_52 : List UInt8 := dkwL_law_52 ++ dktL_law_53
def dkwL_law_51 : List UInt8 := [172, 21, 6, 154, 0, 15, 45, 3, 47, 21, 7, 133, 148, 153, 0, 5, 3, 172, 167, 4, 141, 43, 42]
abbrev dktL_law_51 : List UInt8 := dkwL_law_51 ++ dktL_law_52
def dkwL_law_50 : List UInt8 := [54, 6, 44, 42, 21, 5, 4, 96, 46, 182, 0, 222, 54, 7, 44, 182, 0, 129, 21, 6, 159, 0, 5, 3]
abbrev dktL_law_50 : List UInt8 := dkwL_law_50 ++ dktL_law_51
def dkwL_law_49 : List UInt8 := [21, 7, 133, 148, 153, 0, 5, 3, 172, 167, 4, 197, 43, 42, 21, 5, 4, 96, 46, 45, 184, 0, 220]
abbrev dktL_law_49 : List UInt8 := dkwL_law_49 ++ dktL_law_50
def dkwL_law_48 : List UInt8 := [182, 0, 219, 54, 7, 44, 182, 0, 129, 21, 6, 159, 0, 5, 3, 172, 21, 6, 154, 0, 15, 45, 3, 47]
abbrev dktL_law_48 : List UInt8 := dkwL_law_48 ++ dktL_law_49
def dkwL_law_47 : List UInt8 := [167, 4, 253, 43, 42, 21, 5, 4, 96, 46, 45, 184, 0, 217, 54, 6, 44, 42, 21, 5, 4, 96, 46]
abbrev dktL_law_47 : List UInt8 := dkwL_law_47 ++ dktL_law_48
def dkwL_law_46 : List UInt8 := [21, 6, 159, 0, 5, 3, 172, 21, 6, 154, 0, 15, 45, 3, 47, 21, 7, 133, 148, 153, 0, 5, 3, 172]
abbrev dktL_law_46 : List UInt8 := dkwL_law_46 ++ dktL_law_47
def dkwL_law_45 : List UInt8 := [96, 46, 42, 21, 5, 5, 96, 46, 42, 21, 5, 6, 96, 46, 182, 0, 216, 54, 7, 44, 182, 0, 129]
abbrev dktL_law_45 : List UInt8 := dkwL_law_45 ++ dktL_law_46
def dkwL_law_44 : List UInt8 := [46, 42, 21, 5, 5, 96, 46, 42, 21, 5, 6, 96, 46, 45, 184, 0, 213, 54, 6, 44, 42, 21, 5, 4]
abbrev dktL_law_44 : List UInt8 := dkwL_law_44 ++ dktL_law_45
def dkwL_law_43 : List UInt8 := [154, 0, 15, 45, 3, 47, 21, 7, 133, 148, 153, 0, 5, 3, 172, 167, 5, 77, 43, 42, 21, 5, 4, 96]
abbrev dktL_law_43 : List UInt8 := dkwL_law_43 ++ dktL_law_44
def dkwL_law_42 : List UInt8 := [21, 5, 4, 96, 46, 182, 0, 212, 54, 7, 44, 182, 0, 129, 21, 6, 159, 0, 5, 3, 172, 21, 6]
abbrev dktL_law_42 : List UInt8 := dkwL_law_42 ++ dktL_law_43
def dkwL_law_41 : List UInt8 := [153, 0, 5, 3, 172, 167, 5, 133, 43, 42, 21, 5, 4, 96, 46, 45, 184, 0, 210, 54, 6, 44, 42]
abbrev dktL_law_41 : List UInt8 := dkwL_law_41 ++ dktL_law_42
def dkwL_law_40 : List UInt8 := [182, 0, 129, 21, 6, 159, 0, 5, 3, 172, 21, 6, 154, 0, 15, 45, 3, 47, 21, 7, 133, 148]
abbrev dktL_law_40 : List UInt8 := dkwL_law_40 ++ dktL_law_41
def dkwL_law_39 : List UInt8 := [21, 5, 4, 96, 46, 45, 184, 0, 207, 54, 6, 44, 42, 21, 5, 4, 96, 46, 182, 0, 209, 54, 7, 44]
abbrev dktL_law_39 : List UInt8 := dkwL_law_39 ++ dktL_law_40
def dkwL_law_38 : List UInt8 := [172, 21, 6, 154, 0, 15, 45, 3, 47, 21, 7, 133, 148, 153, 0, 5, 3, 172, 167, 5, 189, 43, 42]
abbrev dktL_law_38 : List UInt8 := dkwL_law_38 ++ dktL_law_39
def dkwL_law_37 : List UInt8 := [54, 6, 44, 42, 21, 5, 4, 96, 46, 182, 0, 206, 54, 7, 44, 182, 0, 129, 21, 6, 159, 0, 5, 3]
abbrev dktL_law_37 : List UInt8 := dkwL_law_37 ++ dktL_law_38
def dkwL_law_36 : List UInt8 := [182, 0, 200, 44, 182, 0, 203, 159, 5, 247, 3, 172, 43, 42, 21, 5, 4, 96, 46, 45, 184, 0, 204]
abbrev dktL_law_36 : List UInt8 := dkwL_law_36 ++ dktL_law_37
def dkwL_law_35 : List UInt8 := [153, 0, 5, 3, 172, 167, 6, 15, 43, 182, 0, 196, 44, 182, 0, 199, 159, 6, 4, 3, 172, 43]
abbrev dktL_law_35 : List UInt8 := dkwL_law_35 ++ dktL_law_36
def dkwL_law_34 : List UInt8 := [182, 0, 129, 21, 6, 159, 0, 5, 3, 172, 21, 6, 154, 0, 15, 45, 3, 47, 21, 7, 133, 148]
abbrev dktL_law_34 : List UInt8 := dkwL_law_34 ++ dktL_law_35
def dkwL_law_33 : List UInt8 := [21, 5, 4, 96, 46, 45, 184, 0, 193, 54, 6, 44, 42, 21, 5, 4, 96, 46, 182, 0, 195, 54, 7, 44]
abbrev dktL_law_33 : List UInt8 := dkwL_law_33 ++ dktL_law_34
def dkwL_law_32 : List UInt8 := [172, 21, 6, 154, 0, 15, 45, 3, 47, 21, 7, 133, 148, 153, 0, 5, 3, 172, 167, 6, 71, 43, 42]
abbrev dktL_law_32 : List UInt8 := dkwL_law_32 ++ dktL_law_33
def dkwL_law_31 : List UInt8 := [54, 6, 44, 42, 21, 5, 4, 96, 46, 182, 0, 192, 54, 7, 44, 182, 0, 129, 21, 6, 159, 0, 5, 3]
abbrev dktL_law_31 : List UInt8 := dkwL_law_31 ++ dktL_law_32
def dkwL_law_30 : List UInt8 := [21, 7, 133, 148, 153, 0, 5, 3, 172, 167, 6, 127, 43, 42, 21, 5, 4, 96, 46, 45, 184, 0, 190]
abbrev dktL_law_30 : List UInt8 := dkwL_law_30 ++ dktL_law_31
def dkwL_law_29 : List UInt8 := [182, 0, 189, 54, 7, 44, 182, 0, 129, 21, 6, 159, 0, 5, 3, 172, 21, 6, 154, 0, 15, 45, 3, 47]
abbrev dktL_law_29 : List UInt8 := dkwL_law_29 ++ dktL_law_30
def dkwL_law_28 : List UInt8 := [167, 6, 183, 43, 42, 21, 5, 4, 96, 46, 45, 184, 0, 187, 54, 6, 44, 42, 21, 5, 4, 96, 46]
abbrev dktL_law_28 : List UInt8 := dkwL_law_28 ++ dktL_law_29
def dkwL_law_27 : List UInt8 := [159, 0, 5, 3, 172, 21, 6, 154, 0, 15, 45, 3, 47, 21, 7, 133, 148, 153, 0, 5, 3, 172]
abbrev dktL_law_27 : List UInt8 := dkwL_law_27 ++ dktL_law_28
def dkwL_law_26 : List UInt8 := [184, 0, 184, 54, 6, 44, 42, 21, 5, 4, 96, 46, 182, 0, 186, 54, 7, 44, 182, 0, 129, 21, 6]
abbrev dktL_law_26 : List UInt8 := dkwL_law_26 ++ dktL_law_27
def dkwL_law_25 : List UInt8 := [3, 172, 43, 182, 0, 180, 44, 182, 0, 183, 159, 6, 241, 3, 172, 43, 42, 21, 5, 4, 96, 46, 45]
abbrev dktL_law_25 : List UInt8 := dkwL_law_25 ++ dktL_law_26
def dkwL_law_24 : List UInt8 := [167, 0, 4, 9, 148, 153, 0, 5, 3, 172, 167, 7, 9, 43, 182, 0, 176, 44, 182, 0, 179, 159, 6, 254]
abbrev dktL_law_24 : List UInt8 := dkwL_law_24 ++ dktL_law_25
def dkwL_law_23 : List UInt8 := [182, 0, 129, 21, 6, 159, 0, 5, 3, 172, 21, 6, 154, 0, 22, 45, 3, 47, 21, 7, 153, 0, 7, 10]
abbrev dktL_law_23 : List UInt8 := dkwL_law_23 ++ dktL_law_24
def dkwL_law_22 : List UInt8 := [21, 5, 4, 96, 46, 45, 184, 0, 173, 54, 6, 44, 42, 21, 5, 4, 96, 46, 182, 0, 175, 54, 7, 44]
abbrev dktL_law_22 : List UInt8 := dkwL_law_22 ++ dktL_law_23
def dkwL_law_21 : List UInt8 := [172, 21, 6, 154, 0, 15, 45, 3, 47, 21, 7, 133, 148, 153, 0, 5, 3, 172, 167, 7, 72, 43, 42]
abbrev dktL_law_21 : List UInt8 := dkwL_law_21 ++ dktL_law_22
def dkwL_law_20 : List UInt8 := [54, 6, 44, 42, 21, 5, 4, 96, 46, 182, 0, 172, 54, 7, 44, 182, 0, 129, 21, 6, 159, 0, 5, 3]
abbrev dktL_law_20 : List UInt8 := dkwL_law_20 ++ dktL_law_21
def dkwL_law_19 : List UInt8 := [21, 7, 133, 148, 153, 0, 5, 3, 172, 167, 7, 128, 43, 42, 21, 5, 4, 96, 46, 45, 184, 0, 170]
abbrev dktL_law_19 : List UInt8 := dkwL_law_19 ++ dktL_law_20
def dkwL_law_18 : List UInt8 := [182, 0, 169, 54, 7, 44, 182, 0, 129, 21, 6, 159, 0, 5, 3, 172, 21, 6, 154, 0, 15, 45, 3, 47]
abbrev dktL_law_18 : List UInt8 := dkwL_law_18 ++ dktL_law_19
def dkwL_law_17 : List UInt8 := [167, 7, 184, 43, 42, 21, 5, 4, 96, 46, 45, 184, 0, 167, 54, 6, 44, 42, 21, 5, 4, 96, 46]
abbrev dktL_law_17 : List UInt8 := dkwL_law_17 ++ dktL_law_18
def dkwL_law_16 : List UInt8 := [21, 6, 159, 0, 5, 3, 172, 21, 6, 154, 0, 15, 45, 3, 47, 21, 7, 133, 148, 153, 0, 5, 3, 172]
abbrev dktL_law_16 : List UInt8 := dkwL_law_16 ++ dktL_law_17
def dkwL_law_15 : List UInt8 := [96, 46, 45, 184, 0, 164, 54, 6, 44, 42, 21, 5, 4, 96, 46, 182, 0, 166, 54, 7, 44, 182, 0, 129]
abbrev dktL_law_15 : List UInt8 := dkwL_law_15 ++ dktL_law_16
def dkwL_law_14 : List UInt8 := [21, 5, 4, 96, 46, 42, 21, 5, 5, 96, 46, 182, 0, 163, 159, 7, 242, 3, 172, 43, 42, 21, 5, 4]
abbrev dktL_law_14 : List UInt8 := dkwL_law_14 ++ dktL_law_15
def dkwL_law_13 : List UInt8 := [159, 8, 23, 3, 172, 43, 42, 21, 5, 4, 96, 46, 42, 21, 5, 5, 96, 46, 182, 0, 160, 44, 42]
abbrev dktL_law_13 : List UInt8 := dkwL_law_13 ++ dktL_law_14
def dkwL_law_12 : List UInt8 := [172, 43, 182, 0, 152, 44, 182, 0, 155, 159, 8, 36, 3, 172, 43, 182, 0, 156, 44, 182, 0, 159]
abbrev dktL_law_12 : List UInt8 := dkwL_law_12 ++ dktL_law_13
def dkwL_law_11 : List UInt8 := [182, 0, 144, 44, 182, 0, 147, 159, 8, 62, 3, 172, 43, 182, 0, 148, 44, 182, 0, 151, 159, 8, 49, 3]
abbrev dktL_law_11 : List UInt8 := dkwL_law_11 ++ dktL_law_12
def dkwL_law_10 : List UInt8 := [182, 0, 139, 159, 8, 88, 3, 172, 43, 182, 0, 140, 44, 182, 0, 143, 159, 8, 75, 3, 172, 43]
abbrev dktL_law_10 : List UInt8 := dkwL_law_10 ++ dktL_law_11
def dkwL_law_9 : List UInt8 := [154, 0, 15, 45, 3, 47, 21, 7, 133, 148, 153, 0, 5, 3, 172, 167, 8, 99, 43, 182, 0, 136, 44]
abbrev dktL_law_9 : List UInt8 := dkwL_law_9 ++ dktL_law_10
def dkwL_law_8 : List UInt8 := [21, 5, 4, 96, 46, 182, 0, 135, 54, 7, 44, 182, 0, 129, 21, 6, 159, 0, 5, 3, 172, 21, 6]
abbrev dktL_law_8 : List UInt8 := dkwL_law_8 ++ dktL_law_9
def dkwL_law_7 : List UInt8 := [148, 153, 0, 5, 3, 172, 167, 8, 155, 43, 42, 21, 5, 4, 96, 46, 45, 184, 0, 132, 54, 6, 44, 42]
abbrev dktL_law_7 : List UInt8 := dkwL_law_7 ++ dktL_law_8
def dkwL_law_6 : List UInt8 := [54, 7, 44, 182, 0, 129, 21, 6, 159, 0, 5, 3, 172, 21, 6, 154, 0, 15, 45, 3, 47, 21, 7, 133]
abbrev dktL_law_6 : List UInt8 := dkwL_law_6 ++ dktL_law_7
def dkwL_law_5 : List UInt8 := [96, 46, 42, 21, 5, 6, 96, 46, 42, 21, 5, 7, 96, 46, 42, 21, 5, 8, 96, 46, 182, 0, 128]
abbrev dktL_law_5 : List UInt8 := dkwL_law_5 ++ dktL_law_6
def dkwL_law_4 : List UInt8 := [46, 42, 21, 5, 8, 96, 46, 45, 184, 0, 123, 54, 6, 44, 42, 21, 5, 4, 96, 46, 42, 21, 5, 5]
abbrev dktL_law_4 : List UInt8 := dkwL_law_4 ++ dktL_law_5
def dkwL_law_3 : List UInt8 := [43, 42, 21, 5, 4, 96, 46, 42, 21, 5, 5, 96, 46, 42, 21, 5, 6, 96, 46, 42, 21, 5, 7, 96]
abbrev dktL_law_3 : List UInt8 := dkwL_law_3 ++ dktL_law_4
def dkwL_law_2 : List UInt8 := [170, 0, 0, 0, 0, 9, 235, 0, 0, 0, 0, 0, 0, 0, 54, 0, 0, 0, 235, 0, 0, 1, 83, 0, 0, 1, 139, 0, 0, 1, 152, 0, 0, 1, 165, 0, 0, 1, 178, 0, 0, 1, 191, 0, 0, 1, 204, 0, 0, 1, 217, 0, 0, 1, 254, 0, 0, 2, 54, 0, 0, 2, 110, 0, 0, 2, 166, 0, 0, 2, 229, 0, 0, 2, 242, 0, 0, 2, 255, 0, 0, 3, 55, 0, 0, 3, 111, 0, 0, 3, 167, 0, 0, 3, 223, 0, 0, 3, 236, 0, 0, 3, 249, 0, 0, 4, 49, 0, 0, 4, 105, 0, 0, 4, 161, 0, 0, 4, 241, 0, 0, 5, 41, 0, 0, 5, 97, 0, 0, 5, 165, 0, 0, 5, 178, 0, 0, 5, 191, 0, 0, 5, 204, 0, 0, 5, 217, 0, 0, 6, 48, 0, 0, 6, 61, 0, 0, 6, 74, 0, 0, 6, 115, 0, 0, 6, 193, 0, 0, 6, 206, 0, 0, 7, 18, 0, 0, 7, 74, 0, 0, 7, 142, 0, 0, 7, 198, 0, 0, 7, 211, 0, 0, 8, 47, 0, 0, 8, 103, 0, 0, 8, 159, 0, 0, 8, 215, 0, 0, 9, 15, 0, 0, 9, 28, 0, 0, 9, 41, 0, 0, 9, 66, 0, 0, 9, 79, 0, 0, 9, 123, 0, 0, 9, 179]
abbrev dktL_law_2 : List UInt8 := dkwL_law_2 ++ dktL_law_3
def dkwL_law_1 : List UInt8 := [58, 4, 3, 54, 5, 21, 5, 42, 190, 16, 6, 100, 163, 9, 251, 42, 21, 5, 46, 16, 63, 126]
abbrev dktL_law_1 : List UInt8 := dkwL_law_1 ++ dktL_law_2
def dkwL_law_0 : List UInt8 := [187, 0, 8, 89, 183, 0, 119, 76, 187, 0, 120, 89, 183, 0, 122, 77, 4, 188, 11, 78, 4, 188, 7]
abbrev dktL_law_0 : List UInt8 := dkwL_law_0 ++ dktL_law_1
theorem dksL_law_0 : cL_law.data.toList.drop 0 = dktL_law_0 := by decide +kernel
theorem dksL_law_1 : cL_law.data.toList.drop 23 = dktL_law_1 := dk_seg dksL_law_0 23 rfl rfl
theorem dksL_law_2 : cL_law.data.toList.drop 45 = dktL_law_2 := dk_seg dksL_law_1 22 rfl rfl
theorem dksL_law_3 : cL_law.data.toList.drop 280 = dktL_law_3 := dk_seg dksL_law_2 235 rfl rfl
theorem dksL_law_4 : cL_law.data.toList.drop 304 = dktL_law_4 := dk_seg dksL_law_3 24 rfl rfl
theorem dksL_law_5 : cL_law.data.toList.drop 328 = dktL_law_5 := dk_seg dksL_law_4 24 rfl rfl
theorem dksL_law_6 : cL_law.data.toList.drop 351 = dktL_law_6 := dk_seg dksL_law_5 23 rfl rfl
theorem dksL_law_7 : cL_law.data.toList.drop 375 = dktL_law_7 := dk_seg dksL_law_6 24 rfl rfl
theorem dksL_law_8 : cL_law.data.toList.drop 399 = dktL_law_8 := dk_seg dksL_law_7 24 rfl rfl
theorem dksL_law_9 : cL_law.data.toList.drop 422 = dktL_law_9 := dk_seg dksL_law_8 23 rfl rfl
theorem dksL_law_10 : cL_law.data.toList.drop 445 = dktL_law_10 := dk_seg dksL_law_9 23 rfl rfl
theorem dksL_law_11 : cL_law.data.toList.drop 467 = dktL_law_11 := dk_seg dksL_law_10 22 rfl rfl
theorem dksL_law_12 : cL_law.data.toList.drop 491 = dktL_law_12 := dk_seg dksL_law_11 24 rfl rfl
theorem dksL_law_13 : cL_law.data.toList.drop 513 = dktL_law_13 := dk_seg dksL_law_12 22 rfl rfl
theorem dksL_law_14 : cL_law.data.toList.drop 536 = dktL_law_14 := dk_seg dksL_law_13 23 rfl rfl
theorem dksL_law_15 : cL_law.data.toList.drop 560 = dktL_law_15 := dk_seg dksL_law_14 24 rfl rfl
theorem dksL_law_16 : cL_law.data.toList.drop 584 = dktL_law_16 := dk_seg dksL_law_15 24 rfl rfl
theorem dksL_law_17 : cL_law.data.toList.drop 608 = dktL_law_17 := dk_seg dksL_law_16 24 rfl rfl
theorem dksL_law_18 : cL_law.data.toList.drop 631 = dktL_law_18 := dk_seg dksL_law_17 23 rfl rfl
theorem dksL_law_19 : cL_law.data.toList.drop 655 = dktL_law_19 := dk_seg dksL_law_18 24 rfl rfl
theorem dksL_law_20 : cL_law.data.toList.drop 678 = dktL_law_20 := dk_seg dksL_law_19 23 rfl rfl
theorem dksL_law_21 : cL_law.data.toList.drop 702 = dktL_law_21 := dk_seg dksL_law_20 24 rfl rfl
theorem dksL_law_22 : cL_law.data.toList.drop 725 = dktL_law_22 := dk_seg dksL_law_21 23 rfl rfl
theorem dksL_law_23 : cL_law.data.toList.drop 749 = dktL_law_23 := dk_seg dksL_law_22 24 rfl rfl
theorem dksL_law_24 : cL_law.data.toList.drop 773 = dktL_law_24 := dk_seg dksL_law_23 24 rfl rfl
theorem dksL_law_25 : cL_law.data.toList.drop 797 = dktL_law_25 := dk_seg dksL_law_24 24 rfl rfl
theorem dksL_law_26 : cL_law.data.toList.drop 820 = dktL_law_26 := dk_seg dksL_law_25 23 rfl rfl
theorem dksL_law_27 : cL_law.data.toList.drop 843 = dktL_law_27 := dk_seg dksL_law_26 23 rfl rfl
theorem dksL_law_28 : cL_law.data.toList.drop 865 = dktL_law_28 := dk_seg dksL_law_27 22 rfl rfl
theorem dksL_law_29 : cL_law.data.toList.drop 888 = dktL_law_29 := dk_seg dksL_law_28 23 rfl rfl
theorem dksL_law_30 : cL_law.data.toList.drop 912 = dktL_law_30 := dk_seg dksL_law_29 24 rfl rfl
theorem dksL_law_31 : cL_law.data.toList.drop 935 = dktL_law_31 := dk_seg dksL_law_30 23 rfl rfl
theorem dksL_law_32 : cL_law.data.toList.drop 959 = dktL_law_32 := dk_seg dksL_law_31 24 rfl rfl
theorem dksL_law_33 : cL_law.data.toList.drop 982 = dktL_law_33 := dk_seg dksL_law_32 23 rfl rfl
theorem dksL_law_34 : cL_law.data.toList.drop 1006 = dktL_law_34 := dk_seg dksL_law_33 24 rfl rfl
theorem dksL_law_35 : cL_law.data.toList.drop 1028 = dktL_law_35 := dk_seg dksL_law_34 22 rfl rfl
theorem dksL_law_36 : cL_law.data.toList.drop 1050 = dktL_law_36 := dk_seg dksL_law_35 22 rfl rfl
theorem dksL_law_37 : cL_law.data.toList.drop 1073 = dktL_law_37 := dk_seg dksL_law_36 23 rfl rfl
theorem dksL_law_38 : cL_law.data.toList.drop 1097 = dktL_law_38 := dk_seg dksL_law_37 24 rfl rfl
theorem dksL_law_39 : cL_law.data.toList.drop 1120 = dktL_law_39 := dk_seg dksL_law_38 23 rfl rfl
theorem dksL_law_40 : cL_law.data.toList.drop 1144 = dktL_law_40 := dk_seg dksL_law_39 24 rfl rfl
theorem dksL_law_41 : cL_law.data.toList.drop 1166 = dktL_law_41 := dk_seg dksL_law_40 22 rfl rfl
theorem dksL_law_42 : cL_law.data.toList.drop 1189 = dktL_law_42 := dk_seg dksL_law_41 23 rfl rfl
theorem dksL_law_43 : cL_law.data.toList.drop 1212 = dktL_law_43 := dk_seg dksL_law_42 23 rfl rfl
theorem dksL_law_44 : cL_law.data.toList.drop 1236 = dktL_law_44 := dk_seg dksL_law_43 24 rfl rfl
theorem dksL_law_45 : cL_law.data.toList.drop 1260 = dktL_law_45 := dk_seg dksL_law_44 24 rfl rfl
theorem dksL_law_46 : cL_law.data.toList.drop 1283 = dktL_law_46 := dk_seg dksL_law_45 23 rfl rfl
theorem dksL_law_47 : cL_law.data.toList.drop 1307 = dktL_law_47 := dk_seg dksL_law_46 24 rfl rfl
theorem dksL_law_48 : cL_law.data.toList.drop 1330 = dktL_law_48 := dk_seg dksL_law_47 23 rfl rfl
theorem dksL_law_49 : cL_law.data.toList.drop 1354 = dktL_law_49 := dk_seg dksL_law_48 24 rfl rfl
theorem dksL_law_50 : cL_law.data.toList.drop 1377 = dktL_law_50 := dk_seg dksL_law_49 23 rfl rfl
theorem dksL_law_51 : cL_law.data.toList.drop 1401 = dktL_law_51 := dk_seg dksL_law_50 24 rfl rfl
theorem dksL_law_52 : cL_law.data.toList.drop 1424 = dktL_law_52 := dk_seg dksL_law_51 23 rfl rfl
theorem dksL_law_53 : cL_law.data.toList.drop 1448 = dktL_law_53 := dk_seg dksL_law_52 24 rfl rfl
theorem dksL_law_54 : cL_law.data.toList.drop 1472 = dktL_law_54 := dk_seg dksL_law_53 24 rfl rfl
theorem dksL_law_55 : cL_law.data.toList.drop 1495 = dktL_law_55 := dk_seg dksL_law_54 23 rfl rfl
theorem dksL_law_56 : cL_law.data.toList.drop 1517 = dktL_law_56 := dk_seg dksL_law_55 22 rfl rfl
theorem dksL_law_57 : cL_law.data.toList.drop 1541 = dktL_law_57 := dk_seg dksL_law_56 24 rfl rfl
theorem dksL_law_58 : cL_law.data.toList.drop 1565 = dktL_law_58 := dk_seg dksL_law_57 24 rfl rfl
theorem dksL_law_59 : cL_law.data.toList.drop 1589 = dktL_law_59 := dk_seg dksL_law_58 24 rfl rfl
theorem dksL_law_60 : cL_law.data.toList.drop 1612 = dktL_law_60 := dk_seg dksL_law_59 23 rfl rfl
theorem dksL_law_61 : cL_law.data.toList.drop 1634 = dktL_law_61 := dk_seg dksL_law_60 22 rfl rfl
theorem dksL_law_62 : cL_law.data.toList.drop 1656 = dktL_law_62 := dk_seg dksL_law_61 22 rfl rfl
theorem dksL_law_63 : cL_law.data.toList.drop 1680 = dktL_law_63 := dk_seg dksL_law_62 24 rfl rfl
theorem dksL_law_64 : cL_law.data.toList.drop 1703 = dktL_law_64 := dk_seg dksL_law_63 23 rfl rfl
theorem dksL_law_65 : cL_law.data.toList.drop 1726 = dktL_law_65 := dk_seg dksL_law_64 23 rfl rfl
theorem dksL_law_66 : cL_law.data.toList.drop 1749 = dktL_law_66 := dk_seg dksL_law_65 23 rfl rfl
theorem dksL_law_67 : cL_law.data.toList.drop 1771 = dktL_law_67 := dk_seg dksL_law_66 22 rfl rfl
theorem dksL_law_68 : cL_law.data.toList.drop 1795 = dktL_law_68 := dk_seg dksL_law_67 24 rfl rfl
theorem dksL_law_69 : cL_law.data.toList.drop 1819 = dktL_law_69 := dk_seg dksL_law_68 24 rfl rfl
theorem dksL_law_70 : cL_law.data.toList.drop 1843 = dktL_law_70 := dk_seg dksL_law_69 24 rfl rfl
theorem dksL_law_71 : cL_law.data.toList.drop 1866 = dktL_law_71 := dk_seg dksL_law_70 23 rfl rfl
theorem dksL_law_72 : cL_law.data.toList.drop 1890 = dktL_law_72 := dk_seg dksL_law_71 24 rfl rfl
theorem dksL_law_73 : cL_law.data.toList.drop 1913 = dktL_law_73 := dk_seg dksL_law_72 23 rfl rfl
theorem dksL_law_74 : cL_law.data.toList.drop 1937 = dktL_law_74 := dk_seg dksL_law_73 24 rfl rfl
theorem dksL_law_75 : cL_law.data.toList.drop 1961 = dktL_law_75 := dk_seg dksL_law_74 24 rfl rfl
theorem dksL_law_76 : cL_law.data.toList.drop 1985 = dktL_law_76 := dk_seg dksL_law_75 24 rfl rfl
theorem dksL_law_77 : cL_law.data.toList.drop 2008 = dktL_law_77 := dk_seg dksL_law_76 23 rfl rfl
theorem dksL_law_78 : cL_law.data.toList.drop 2032 = dktL_law_78 := dk_seg dksL_law_77 24 rfl rfl
theorem dksL_law_79 : cL_law.data.toList.drop 2056 = dktL_law_79 := dk_seg dksL_law_78 24 rfl rfl
theorem dksL_law_80 : cL_law.data.toList.drop 2080 = dktL_law_80 := dk_seg dksL_law_79 24 rfl rfl
theorem dksL_law_81 : cL_law.data.toList.drop 2104 = dktL_law_81 := dk_seg dksL_law_80 24 rfl rfl
theorem dksL_law_82 : cL_law.data.toList.drop 2128 = dktL_law_82 := dk_seg dksL_law_81 24 rfl rfl
theorem dksL_law_83 : cL_law.data.toList.drop 2151 = dktL_law_83 := dk_seg dksL_law_82 23 rfl rfl
theorem dksL_law_84 : cL_law.data.toList.drop 2175 = dktL_law_84 := dk_seg dksL_law_83 24 rfl rfl
theorem dksL_law_85 : cL_law.data.toList.drop 2198 = dktL_law_85 := dk_seg dksL_law_84 23 rfl rfl
theorem dksL_law_86 : cL_law.data.toList.drop 2222 = dktL_law_86 := dk_seg dksL_law_85 24 rfl rfl
theorem dksL_law_87 : cL_law.data.toList.drop 2244 = dktL_law_87 := dk_seg dksL_law_86 22 rfl rfl
theorem dksL_law_88 : cL_law.data.toList.drop 2267 = dktL_law_88 := dk_seg dksL_law_87 23 rfl rfl
theorem dksL_law_89 : cL_law.data.toList.drop 2290 = dktL_law_89 := dk_seg dksL_law_88 23 rfl rfl
theorem dksL_law_90 : cL_law.data.toList.drop 2314 = dktL_law_90 := dk_seg dksL_law_89 24 rfl rfl
theorem dksL_law_91 : cL_law.data.toList.drop 2337 = dktL_law_91 := dk_seg dksL_law_90 23 rfl rfl
theorem dksL_law_92 : cL_law.data.toList.drop 2361 = dktL_law_92 := dk_seg dksL_law_91 24 rfl rfl
theorem dksL_law_93 : cL_law.data.toList.drop 2385 = dktL_law_93 := dk_seg dksL_law_92 24 rfl rfl
theorem dksL_law_94 : cL_law.data.toList.drop 2407 = dktL_law_94 := dk_seg dksL_law_93 22 rfl rfl
theorem dksL_law_95 : cL_law.data.toList.drop 2430 = dktL_law_95 := dk_seg dksL_law_94 23 rfl rfl
theorem dksL_law_96 : cL_law.data.toList.drop 2454 = dktL_law_96 := dk_seg dksL_law_95 24 rfl rfl
theorem dksL_law_97 : cL_law.data.toList.drop 2478 = dktL_law_97 := dk_seg dksL_law_96 24 rfl rfl
theorem dksL_law_98 : cL_law.data.toList.drop 2501 = dktL_law_98 := dk_seg dksL_law_97 23 rfl rfl
theorem dksL_law_99 : cL_law.data.toList.drop 2525 = dktL_law_99 := dk_seg dksL_law_98 24 rfl rfl
theorem dksL_law_100 : cL_law.data.toList.drop 2548 = dktL_law_100 := dk_seg dksL_law_99 23 rfl rfl
theorem dksL_law_101 : cL_law.data.toList.drop 2572 = dktL_law_101 := dk_seg dksL_law_100 24 rfl rfl
theorem dL_law_0 : decode cL_law 0 = .ok (.new 8, 3) := dk_187 0 8 (dk_at dksL_law_0 0 rfl rfl)
theorem dL_law_3 : decode cL_law 3 = .ok (.dup, 1) := dk_89 (dk_at dksL_law_0 3 rfl rfl)
theorem dL_law_4 : decode cL_law 4 = .ok (.invokespecial 119, 3) := dk_183 0 119 (dk_at dksL_law_0 4 rfl rfl)
theorem dL_law_7 : decode cL_law 7 = .ok (.astore_n 1, 1) := dk_76 (dk_at dksL_law_0 7 rfl rfl)
theorem dL_law_8 : decode cL_law 8 = .ok (.new 120, 3) := dk_187 0 120 (dk_at dksL_law_0 8 rfl rfl)
theorem dL_law_11 : decode cL_law 11 = .ok (.dup, 1) := dk_89 (dk_at dksL_law_0 11 rfl rfl)
theorem dL_law_12 : decode cL_law 12 = .ok (.invokespecial 122, 3) := dk_183 0 122 (dk_at dksL_law_0 12 rfl rfl)
theorem dL_law_15 : decode cL_law 15 = .ok (.astore_n 2, 1) := dk_77 (dk_at dksL_law_0 15 rfl rfl)
theorem dL_law_16 : decode cL_law 16 = .ok (.iconst 1, 1) := dk_4 (dk_at dksL_law_0 16 rfl rfl)
theorem dL_law_17 : decode cL_law 17 = .ok (.newarray .long, 2) := dk_188_11 (dk_at dksL_law_0 17 rfl rfl)
theorem dL_law_19 : decode cL_law 19 = .ok (.astore_n 3, 1) := dk_78 (dk_at dksL_law_0 19 rfl rfl)
theorem dL_law_20 : decode cL_law 20 = .ok (.iconst 1, 1) := dk_4 (dk_at dksL_law_0 20 rfl rfl)
theorem dL_law_21 : decode cL_law 21 = .ok (.newarray .double, 2) := dk_188_7 (dk_at dksL_law_0 21 rfl rfl)
theorem dL_law_23 : decode cL_law 23 = .ok (.astore 4, 2) := dk_58 4 (dk_at dksL_law_1 0 rfl rfl)
theorem dL_law_25 : decode cL_law 25 = .ok (.iconst 0, 1) := dk_3 (dk_at dksL_law_1 2 rfl rfl)
theorem dL_law_26 : decode cL_law 26 = .ok (.istore 5, 2) := dk_54 5 (dk_at dksL_law_1 3 rfl rfl)
theorem dL_law_28 : decode cL_law 28 = .ok (.iload 5, 2) := dk_21 5 (dk_at dksL_law_1 5 rfl rfl)
theorem dL_law_30 : decode cL_law 30 = .ok (.aload_n 0, 1) := dk_42 (dk_at dksL_law_1 7 rfl rfl)
theorem dL_law_31 : decode cL_law 31 = .ok (.arraylength, 1) := dk_190 (dk_at dksL_law_1 8 rfl rfl)
theorem dL_law_32 : decode cL_law 32 = .ok (.bipush 6, 2) := dk_16 6 (dk_at dksL_law_1 9 rfl rfl)
theorem dL_law_34 : decode cL_law 34 = .ok (.isub, 1) := dk_100 (dk_at dksL_law_1 11 rfl rfl)
theorem dL_law_35 : decode cL_law 35 = .ok (.if_icmp .gt 2555, 3) := dk_163 9 251 (dk_at dksL_law_1 12 rfl rfl)
theorem dL_law_38 : decode cL_law 38 = .ok (.aload_n 0, 1) := dk_42 (dk_at dksL_law_1 15 rfl rfl)
theorem dL_law_39 : decode cL_law 39 = .ok (.iload 5, 2) := dk_21 5 (dk_at dksL_law_1 16 rfl rfl)
theorem dL_law_41 : decode cL_law 41 = .ok (.iaload, 1) := dk_46 (dk_at dksL_law_1 18 rfl rfl)
theorem dL_law_42 : decode cL_law 42 = .ok (.bipush 63, 2) := dk_16 63 (dk_at dksL_law_1 19 rfl rfl)
theorem dL_law_44 : decode cL_law 44 = .ok (.iand, 1) := dk_126 (dk_at dksL_law_1 21 rfl rfl)
theorem dL_law_45 : decode cL_law 45 = .ok (.tableswitch 2539 0 54 #[235, 339, 395, 408, 421, 434, 447, 460, 473, 510, 566, 622, 678, 741, 754, 767, 823, 879, 935, 991, 1004, 1017, 1073, 1129, 1185, 1265, 1321, 1377, 1445, 1458, 1471, 1484, 1497, 1584, 1597, 1610, 1651, 1729, 1742, 1810, 1866, 1934, 1990, 2003, 2095, 2151, 2207, 2263, 2319, 2332, 2345, 2370, 2383, 2427, 2483], 235) := by decide +kernel
theorem dL_law_280 : decode cL_law 280 = .ok (.aload_n 1, 1) := dk_43 (dk_at dksL_law_3 0 rfl rfl)
theorem dL_law_281 : decode cL_law 281 = .ok (.aload_n 0, 1) := dk_42 (dk_at dksL_law_3 1 rfl rfl)
theorem dL_law_282 : decode cL_law 282 = .ok (.iload 5, 2) := dk_21 5 (dk_at dksL_law_3 2 rfl rfl)
theorem dL_law_284 : decode cL_law 284 = .ok (.iconst 1, 1) := dk_4 (dk_at dksL_law_3 4 rfl rfl)
theorem dL_law_285 : decode cL_law 285 = .ok (.iadd, 1) := dk_96 (dk_at dksL_law_3 5 rfl rfl)
theorem dL_law_286 : decode cL_law 286 = .ok (.iaload, 1) := dk_46 (dk_at dksL_law_3 6 rfl rfl)
theorem dL_law_287 : decode cL_law 287 = .ok (.aload_n 0, 1) := dk_42 (dk_at dksL_law_3 7 rfl rfl)
theorem dL_law_288 : decode cL_law 288 = .ok (.iload 5, 2) := dk_21 5 (dk_at dksL_law_3 8 rfl rfl)
theorem dL_law_290 : decode cL_law 290 = .ok (.iconst 2, 1) := dk_5 (dk_at dksL_law_3 10 rfl rfl)
theorem dL_law_291 : decode cL_law 291 = .ok (.iadd, 1) := dk_96 (dk_at dksL_law_3 11 rfl rfl)
theorem dL_law_292 : decode cL_law 292 = .ok (.iaload, 1) := dk_46 (dk_at dksL_law_3 12 rfl rfl)
theorem dL_law_293 : decode cL_law 293 = .ok (.aload_n 0, 1) := dk_42 (dk_at dksL_law_3 13 rfl rfl)
theorem dL_law_294 : decode cL_law 294 = .ok (.iload 5, 2) := dk_21 5 (dk_at dksL_law_3 14 rfl rfl)
theorem dL_law_296 : decode cL_law 296 = .ok (.iconst 3, 1) := dk_6 (dk_at dksL_law_3 16 rfl rfl)
theorem dL_law_297 : decode cL_law 297 = .ok (.iadd, 1) := dk_96 (dk_at dksL_law_3 17 rfl rfl)
theorem dL_law_298 : decode cL_law 298 = .ok (.iaload, 1) := dk_46 (dk_at dksL_law_3 18 rfl rfl)
theorem dL_law_299 : decode cL_law 299 = .ok (.aload_n 0, 1) := dk_42 (dk_at dksL_law_3 19 rfl rfl)
theorem dL_law_300 : decode cL_law 300 = .ok (.iload 5, 2) := dk_21 5 (dk_at dksL_law_3 20 rfl rfl)
theorem dL_law_302 : decode cL_law 302 = .ok (.iconst 4, 1) := dk_7 (dk_at dksL_law_3 22 rfl rfl)
theorem dL_law_303 : decode cL_law 303 = .ok (.iadd, 1) := dk_96 (dk_at dksL_law_3 23 rfl rfl)
theorem dL_law_304 : decode cL_law 304 = .ok (.iaload, 1) := dk_46 (dk_at dksL_law_4 0 rfl rfl)
theorem dL_law_305 : decode cL_law 305 = .ok (.aload_n 0, 1) := dk_42 (dk_at dksL_law_4 1 rfl rfl)
theorem dL_law_306 : decode cL_law 306 = .ok (.iload 5, 2) := dk_21 5 (dk_at dksL_law_4 2 rfl rfl)
theorem dL_law_308 : decode cL_law 308 = .ok (.iconst 5, 1) := dk_8 (dk_at dksL_law_4 4 rfl rfl)
theorem dL_law_309 : decode cL_law 309 = .ok (.iadd, 1) := dk_96 (dk_at dksL_law_4 5 rfl rfl)
theorem dL_law_310 : decode cL_law 310 = .ok (.iaload, 1) := dk_46 (dk_at dksL_law_4 6 rfl rfl)
theorem dL_law_311 : decode cL_law 311 = .ok (.aload_n 3, 1) := dk_45 (dk_at dksL_law_4 7 rfl rfl)
theorem dL_law_312 : decode cL_law 312 = .ok (.invokestatic 123, 3) := dk_184 0 123 (dk_at dksL_law_4 8 rfl rfl)
theorem dL_law_315 : decode cL_law 315 = .ok (.istore 6, 2) := dk_54 6 (dk_at dksL_law_4 11 rfl rfl)
theorem dL_law_317 : decode cL_law 317 = .ok (.aload_n 2, 1) := dk_44 (dk_at dksL_law_4 13 rfl rfl)
theorem dL_law_318 : decode cL_law 318 = .ok (.aload_n 0, 1) := dk_42 (dk_at dksL_law_4 14 rfl rfl)
theorem dL_law_319 : decode cL_law 319 = .ok (.iload 5, 2) := dk_21 5 (dk_at dksL_law_4 15 rfl rfl)
theorem dL_law_321 : decode cL_law 321 = .ok (.iconst 1, 1) := dk_4 (dk_at dksL_law_4 17 rfl rfl)
theorem dL_law_322 : decode cL_law 322 = .ok (.iadd, 1) := dk_96 (dk_at dksL_law_4 18 rfl rfl)
theorem dL_law_323 : decode cL_law 323 = .ok (.iaload, 1) := dk_46 (dk_at dksL_law_4 19 rfl rfl)
theorem dL_law_324 : decode cL_law 324 = .ok (.aload_n 0, 1) := dk_42 (dk_at dksL_law_4 20 rfl rfl)
theorem dL_law_325 : decode cL_law 325 = .ok (.iload 5, 2) := dk_21 5 (dk_at dksL_law_4 21 rfl rfl)
theorem dL_law_327 : decode cL_law 327 = .ok (.iconst 2, 1) := dk_5 (dk_at dksL_law_4 23 rfl rfl)
theorem dL_law_328 : decode cL_law 328 = .ok (.iadd, 1) := dk_96 (dk_at dksL_law_5 0 rfl rfl)
theorem dL_law_329 : decode cL_law 329 = .ok (.iaload, 1) := dk_46 (dk_at dksL_law_5 1 rfl rfl)
theorem dL_law_330 : decode cL_law 330 = .ok (.aload_n 0, 1) := dk_42 (dk_at dksL_law_5 2 rfl rfl)
theorem dL_law_331 : decode cL_law 331 = .ok (.iload 5, 2) := dk_21 5 (dk_at dksL_law_5 3 rfl rfl)
theorem dL_law_333 : decode cL_law 333 = .ok (.iconst 3, 1) := dk_6 (dk_at dksL_law_5 5 rfl rfl)
theorem dL_law_334 : decode cL_law 334 = .ok (.iadd, 1) := dk_96 (dk_at dksL_law_5 6 rfl rfl)
theorem dL_law_335 : decode cL_law 335 = .ok (.iaload, 1) := dk_46 (dk_at dksL_law_5 7 rfl rfl)
theorem dL_law_336 : decode cL_law 336 = .ok (.aload_n 0, 1) := dk_42 (dk_at dksL_law_5 8 rfl rfl)
theorem dL_law_337 : decode cL_law 337 = .ok (.iload 5, 2) := dk_21 5 (dk_at dksL_law_5 9 rfl rfl)
theorem dL_law_339 : decode cL_law 339 = .ok (.iconst 4, 1) := dk_7 (dk_at dksL_law_5 11 rfl rfl)
theorem dL_law_340 : decode cL_law 340 = .ok (.iadd, 1) := dk_96 (dk_at dksL_law_5 12 rfl rfl)
theorem dL_law_341 : decode cL_law 341 = .ok (.iaload, 1) := dk_46 (dk_at dksL_law_5 13 rfl rfl)
theorem dL_law_342 : decode cL_law 342 = .ok (.aload_n 0, 1) := dk_42 (dk_at dksL_law_5 14 rfl rfl)
theorem dL_law_343 : decode cL_law 343 = .ok (.iload 5, 2) := dk_21 5 (dk_at dksL_law_5 15 rfl rfl)
theorem dL_law_345 : decode cL_law 345 = .ok (.iconst 5, 1) := dk_8 (dk_at dksL_law_5 17 rfl rfl)
theorem dL_law_346 : decode cL_law 346 = .ok (.iadd, 1) := dk_96 (dk_at dksL_law_5 18 rfl rfl)
theorem dL_law_347 : decode cL_law 347 = .ok (.iaload, 1) := dk_46 (dk_at dksL_law_5 19 rfl rfl)
theorem dL_law_348 : decode cL_law 348 = .ok (.invokevirtual 128, 3) := dk_182 0 128 (dk_at dksL_law_5 20 rfl rfl)
theorem dL_law_351 : decode cL_law 351 = .ok (.istore 7, 2) := dk_54 7 (dk_at dksL_law_6 0 rfl rfl)
theorem dL_law_353 : decode cL_law 353 = .ok (.aload_n 2, 1) := dk_44 (dk_at dksL_law_6 2 rfl rfl)
theorem dL_law_354 : decode cL_law 354 = .ok (.invokevirtual 129, 3) := dk_182 0 129 (dk_at dksL_law_6 3 rfl rfl)
theorem dL_law_357 : decode cL_law 357 = .ok (.iload 6, 2) := dk_21 6 (dk_at dksL_law_6 6 rfl rfl)
theorem dL_law_359 : decode cL_law 359 = .ok (.if_icmp .eq 5, 3) := dk_159 0 5 (dk_at dksL_law_6 8 rfl rfl)
theorem dL_law_362 : decode cL_law 362 = .ok (.iconst 0, 1) := dk_3 (dk_at dksL_law_6 11 rfl rfl)
theorem dL_law_363 : decode cL_law 363 = .ok (.ireturn, 1) := dk_172 (dk_at dksL_law_6 12 rfl rfl)
theorem dL_law_364 : decode cL_law 364 = .ok (.iload 6, 2) := dk_21 6 (dk_at dksL_law_6 13 rfl rfl)
theorem dL_law_366 : decode cL_law 366 = .ok (.ifCond .ne 15, 3) := dk_154 0 15 (dk_at dksL_law_6 15 rfl rfl)
theorem dL_law_369 : decode cL_law 369 = .ok (.aload_n 3, 1) := dk_45 (dk_at dksL_law_6 18 rfl rfl)
theorem dL_law_370 : decode cL_law 370 = .ok (.iconst 0, 1) := dk_3 (dk_at dksL_law_6 19 rfl rfl)
theorem dL_law_371 : decode cL_law 371 = .ok (.laload, 1) := dk_47 (dk_at dksL_law_6 20 rfl rfl)
theorem dL_law_372 : decode cL_law 372 = .ok (.iload 7, 2) := dk_21 7 (dk_at dksL_law_6 21 rfl rfl)
theorem dL_law_374 : decode cL_law 374 = .ok (.i2l, 1) := dk_133 (dk_at dksL_law_6 23 rfl rfl)
theorem dL_law_375 : decode cL_law 375 = .ok (.lcmp, 1) := dk_148 (dk_at dksL_law_7 0 rfl rfl)
theorem dL_law_376 : decode cL_law 376 = .ok (.ifCond .eq 5, 3) := dk_153 0 5 (dk_at dksL_law_7 1 rfl rfl)
theorem dL_law_379 : decode cL_law 379 = .ok (.iconst 0, 1) := dk_3 (dk_at dksL_law_7 4 rfl rfl)
theorem dL_law_380 : decode cL_law 380 = .ok (.ireturn, 1) := dk_172 (dk_at dksL_law_7 5 rfl rfl)
theorem dL_law_381 : decode cL_law 381 = .ok (.goto 2203, 3) := dk_167 8 155 (dk_at dksL_law_7 6 rfl rfl)
theorem dL_law_384 : decode cL_law 384 = .ok (.aload_n 1, 1) := dk_43 (dk_at dksL_law_7 9 rfl rfl)
theorem dL_law_385 : decode cL_law 385 = .ok (.aload_n 0, 1) := dk_42 (dk_at dksL_law_7 10 rfl rfl)
theorem dL_law_386 : decode cL_law 386 = .ok (.iload 5, 2) := dk_21 5 (dk_at dksL_law_7 11 rfl rfl)
theorem dL_law_388 : decode cL_law 388 = .ok (.iconst 1, 1) := dk_4 (dk_at dksL_law_7 13 rfl rfl)
theorem dL_law_389 : decode cL_law 389 = .ok (.iadd, 1) := dk_96 (dk_at dksL_law_7 14 rfl rfl)
theorem dL_law_390 : decode cL_law 390 = .ok (.iaload, 1) := dk_46 (dk_at dksL_law_7 15 rfl rfl)
theorem dL_law_391 : decode cL_law 391 = .ok (.aload_n 3, 1) := dk_45 (dk_at dksL_law_7 16 rfl rfl)
theorem dL_law_392 : decode cL_law 392 = .ok (.invokestatic 132, 3) := dk_184 0 132 (dk_at dksL_law_7 17 rfl rfl)
theorem dL_law_395 : decode cL_law 395 = .ok (.istore 6, 2) := dk_54 6 (dk_at dksL_law_7 20 rfl rfl)
theorem dL_law_397 : decode cL_law 397 = .ok (.aload_n 2, 1) := dk_44 (dk_at dksL_law_7 22 rfl rfl)
theorem dL_law_398 : decode cL_law 398 = .ok (.aload_n 0, 1) := dk_42 (dk_at dksL_law_7 23 rfl rfl)
theorem dL_law_399 : decode cL_law 399 = .ok (.iload 5, 2) := dk_21 5 (dk_at dksL_law_8 0 rfl rfl)
theorem dL_law_401 : decode cL_law 401 = .ok (.iconst 1, 1) := dk_4 (dk_at dksL_law_8 2 rfl rfl)
theorem dL_law_402 : decode cL_law 402 = .ok (.iadd, 1) := dk_96 (dk_at dksL_law_8 3 rfl rfl)
theorem dL_law_403 : decode cL_law 403 = .ok (.iaload, 1) := dk_46 (dk_at dksL_law_8 4 rfl rfl)
theorem dL_law_404 : decode cL_law 404 = .ok (.invokevirtual 135, 3) := dk_182 0 135 (dk_at dksL_law_8 5 rfl rfl)
theorem dL_law_407 : decode cL_law 407 = .ok (.istore 7, 2) := dk_54 7 (dk_at dksL_law_8 8 rfl rfl)
theorem dL_law_409 : decode cL_law 409 = .ok (.aload_n 2, 1) := dk_44 (dk_at dksL_law_8 10 rfl rfl)
theorem dL_law_410 : decode cL_law 410 = .ok (.invokevirtual 129, 3) := dk_182 0 129 (dk_at dksL_law_8 11 rfl rfl)
theorem dL_law_413 : decode cL_law 413 = .ok (.iload 6, 2) := dk_21 6 (dk_at dksL_law_8 14 rfl rfl)
theorem dL_law_415 : decode cL_law 415 = .ok (.if_icmp .eq 5, 3) := dk_159 0 5 (dk_at dksL_law_8 16 rfl rfl)
theorem dL_law_418 : decode cL_law 418 = .ok (.iconst 0, 1) := dk_3 (dk_at dksL_law_8 19 rfl rfl)
theorem dL_law_419 : decode cL_law 419 = .ok (.ireturn, 1) := dk_172 (dk_at dksL_law_8 20 rfl rfl)
theorem dL_law_420 : decode cL_law 420 = .ok (.iload 6, 2) := dk_21 6 (dk_at dksL_law_8 21 rfl rfl)
theorem dL_law_422 : decode cL_law 422 = .ok (.ifCond .ne 15, 3) := dk_154 0 15 (dk_at dksL_law_9 0 rfl rfl)
theorem dL_law_425 : decode cL_law 425 = .ok (.aload_n 3, 1) := dk_45 (dk_at dksL_law_9 3 rfl rfl)
theorem dL_law_426 : decode cL_law 426 = .ok (.iconst 0, 1) := dk_3 (dk_at dksL_law_9 4 rfl rfl)
theorem dL_law_427 : decode cL_law 427 = .ok (.laload, 1) := dk_47 (dk_at dksL_law_9 5 rfl rfl)
theorem dL_law_428 : decode cL_law 428 = .ok (.iload 7, 2) := dk_21 7 (dk_at dksL_law_9 6 rfl rfl)
theorem dL_law_430 : decode cL_law 430 = .ok (.i2l, 1) := dk_133 (dk_at dksL_law_9 8 rfl rfl)
theorem dL_law_431 : decode cL_law 431 = .ok (.lcmp, 1) := dk_148 (dk_at dksL_law_9 9 rfl rfl)
theorem dL_law_432 : decode cL_law 432 = .ok (.ifCond .eq 5, 3) := dk_153 0 5 (dk_at dksL_law_9 10 rfl rfl)
theorem dL_law_435 : decode cL_law 435 = .ok (.iconst 0, 1) := dk_3 (dk_at dksL_law_9 13 rfl rfl)
theorem dL_law_436 : decode cL_law 436 = .ok (.ireturn, 1) := dk_172 (dk_at dksL_law_9 14 rfl rfl)
theorem dL_law_437 : decode cL_law 437 = .ok (.goto 2147, 3) := dk_167 8 99 (dk_at dksL_law_9 15 rfl rfl)
theorem dL_law_440 : decode cL_law 440 = .ok (.aload_n 1, 1) := dk_43 (dk_at dksL_law_9 18 rfl rfl)
theorem dL_law_441 : decode cL_law 441 = .ok (.invokevirtual 136, 3) := dk_182 0 136 (dk_at dksL_law_9 19 rfl rfl)
theorem dL_law_444 : decode cL_law 444 = .ok (.aload_n 2, 1) := dk_44 (dk_at dksL_law_9 22 rfl rfl)
theorem dL_law_445 : decode cL_law 445 = .ok (.invokevirtual 139, 3) := dk_182 0 139 (dk_at dksL_law_10 0 rfl rfl)
theorem dL_law_448 : decode cL_law 448 = .ok (.if_icmp .eq 2136, 3) := dk_159 8 88 (dk_at dksL_law_10 3 rfl rfl)
theorem dL_law_451 : decode cL_law 451 = .ok (.iconst 0, 1) := dk_3 (dk_at dksL_law_10 6 rfl rfl)
theorem dL_law_452 : decode cL_law 452 = .ok (.ireturn, 1) := dk_172 (dk_at dksL_law_10 7 rfl rfl)
theorem dL_law_453 : decode cL_law 453 = .ok (.aload_n 1, 1) := dk_43 (dk_at dksL_law_10 8 rfl rfl)
theorem dL_law_454 : decode cL_law 454 = .ok (.invokevirtual 140, 3) := dk_182 0 140 (dk_at dksL_law_10 9 rfl rfl)
theorem dL_law_457 : decode cL_law 457 = .ok (.aload_n 2, 1) := dk_44 (dk_at dksL_law_10 12 rfl rfl)
theorem dL_law_458 : decode cL_law 458 = .ok (.invokevirtual 143, 3) := dk_182 0 143 (dk_at dksL_law_10 13 rfl rfl)
theorem dL_law_461 : decode cL_law 461 = .ok (.if_icmp .eq 2123, 3) := dk_159 8 75 (dk_at dksL_law_10 16 rfl rfl)
theorem dL_law_464 : decode cL_law 464 = .ok (.iconst 0, 1) := dk_3 (dk_at dksL_law_10 19 rfl rfl)
theorem dL_law_465 : decode cL_law 465 = .ok (.ireturn, 1) := dk_172 (dk_at dksL_law_10 20 rfl rfl)
theorem dL_law_466 : decode cL_law 466 = .ok (.aload_n 1, 1) := dk_43 (dk_at dksL_law_10 21 rfl rfl)
theorem dL_law_467 : decode cL_law 467 = .ok (.invokevirtual 144, 3) := dk_182 0 144 (dk_at dksL_law_11 0 rfl rfl)
theorem dL_law_470 : decode cL_law 470 = .ok (.aload_n 2, 1) := dk_44 (dk_at dksL_law_11 3 rfl rfl)
theorem dL_law_471 : decode cL_law 471 = .ok (.invokevirtual 147, 3) := dk_182 0 147 (dk_at dksL_law_11 4 rfl rfl)
theorem dL_law_474 : decode cL_law 474 = .ok (.if_icmp .eq 2110, 3) := dk_159 8 62 (dk_at dksL_law_11 7 rfl rfl)
theorem dL_law_477 : decode cL_law 477 = .ok (.iconst 0, 1) := dk_3 (dk_at dksL_law_11 10 rfl rfl)
theorem dL_law_478 : decode cL_law 478 = .ok (.ireturn, 1) := dk_172 (dk_at dksL_law_11 11 rfl rfl)
theorem dL_law_479 : decode cL_law 479 = .ok (.aload_n 1, 1) := dk_43 (dk_at dksL_law_11 12 rfl rfl)
theorem dL_law_480 : decode cL_law 480 = .ok (.invokevirtual 148, 3) := dk_182 0 148 (dk_at dksL_law_11 13 rfl rfl)
theorem dL_law_483 : decode cL_law 483 = .ok (.aload_n 2, 1) := dk_44 (dk_at dksL_law_11 16 rfl rfl)
theorem dL_law_484 : decode cL_law 484 = .ok (.invokevirtual 151, 3) := dk_182 0 151 (dk_at dksL_law_11 17 rfl rfl)
theorem dL_law_487 : decode cL_law 487 = .ok (.if_icmp .eq 2097, 3) := dk_159 8 49 (dk_at dksL_law_11 20 rfl rfl)
theorem dL_law_490 : decode cL_law 490 = .ok (.iconst 0, 1) := dk_3 (dk_at dksL_law_11 23 rfl rfl)
theorem dL_law_491 : decode cL_law 491 = .ok (.ireturn, 1) := dk_172 (dk_at dksL_law_12 0 rfl rfl)
theorem dL_law_492 : decode cL_law 492 = .ok (.aload_n 1, 1) := dk_43 (dk_at dksL_law_12 1 rfl rfl)
theorem dL_law_493 : decode cL_law 493 = .ok (.invokevirtual 152, 3) := dk_182 0 152 (dk_at dksL_law_12 2 rfl rfl)
theorem dL_law_496 : decode cL_law 496 = .ok (.aload_n 2, 1) := dk_44 (dk_at dksL_law_12 5 rfl rfl)
theorem dL_law_497 : decode cL_law 497 = .ok (.invokevirtual 155, 3) := dk_182 0 155 (dk_at dksL_law_12 6 rfl rfl)
theorem dL_law_500 : decode cL_law 500 = .ok (.if_icmp .eq 2084, 3) := dk_159 8 36 (dk_at dksL_law_12 9 rfl rfl)
theorem dL_law_503 : decode cL_law 503 = .ok (.iconst 0, 1) := dk_3 (dk_at dksL_law_12 12 rfl rfl)
theorem dL_law_504 : decode cL_law 504 = .ok (.ireturn, 1) := dk_172 (dk_at dksL_law_12 13 rfl rfl)
theorem dL_law_505 : decode cL_law 505 = .ok (.aload_n 1, 1) := dk_43 (dk_at dksL_law_12 14 rfl rfl)
theorem dL_law_506 : decode cL_law 506 = .ok (.invokevirtual 156, 3) := dk_182 0 156 (dk_at dksL_law_12 15 rfl rfl)
theorem dL_law_509 : decode cL_law 509 = .ok (.aload_n 2, 1) := dk_44 (dk_at dksL_law_12 18 rfl rfl)
theorem dL_law_510 : decode cL_law 510 = .ok (.invokevirtual 159, 3) := dk_182 0 159 (dk_at dksL_law_12 19 rfl rfl)
theorem dL_law_513 : decode cL_law 513 = .ok (.if_icmp .eq 2071, 3) := dk_159 8 23 (dk_at dksL_law_13 0 rfl rfl)
theorem dL_law_516 : decode cL_law 516 = .ok (.iconst 0, 1) := dk_3 (dk_at dksL_law_13 3 rfl rfl)
theorem dL_law_517 : decode cL_law 517 = .ok (.ireturn, 1) := dk_172 (dk_at dksL_law_13 4 rfl rfl)
theorem dL_law_518 : decode cL_law 518 = .ok (.aload_n 1, 1) := dk_43 (dk_at dksL_law_13 5 rfl rfl)
theorem dL_law_519 : decode cL_law 519 = .ok (.aload_n 0, 1) := dk_42 (dk_at dksL_law_13 6 rfl rfl)
theorem dL_law_520 : decode cL_law 520 = .ok (.iload 5, 2) := dk_21 5 (dk_at dksL_law_13 7 rfl rfl)
theorem dL_law_522 : decode cL_law 522 = .ok (.iconst 1, 1) := dk_4 (dk_at dksL_law_13 9 rfl rfl)
theorem dL_law_523 : decode cL_law 523 = .ok (.iadd, 1) := dk_96 (dk_at dksL_law_13 10 rfl rfl)
theorem dL_law_524 : decode cL_law 524 = .ok (.iaload, 1) := dk_46 (dk_at dksL_law_13 11 rfl rfl)
theorem dL_law_525 : decode cL_law 525 = .ok (.aload_n 0, 1) := dk_42 (dk_at dksL_law_13 12 rfl rfl)
theorem dL_law_526 : decode cL_law 526 = .ok (.iload 5, 2) := dk_21 5 (dk_at dksL_law_13 13 rfl rfl)
theorem dL_law_528 : decode cL_law 528 = .ok (.iconst 2, 1) := dk_5 (dk_at dksL_law_13 15 rfl rfl)
theorem dL_law_529 : decode cL_law 529 = .ok (.iadd, 1) := dk_96 (dk_at dksL_law_13 16 rfl rfl)
theorem dL_law_530 : decode cL_law 530 = .ok (.iaload, 1) := dk_46 (dk_at dksL_law_13 17 rfl rfl)
theorem dL_law_531 : decode cL_law 531 = .ok (.invokevirtual 160, 3) := dk_182 0 160 (dk_at dksL_law_13 18 rfl rfl)
theorem dL_law_534 : decode cL_law 534 = .ok (.aload_n 2, 1) := dk_44 (dk_at dksL_law_13 21 rfl rfl)
theorem dL_law_535 : decode cL_law 535 = .ok (.aload_n 0, 1) := dk_42 (dk_at dksL_law_13 22 rfl rfl)
theorem dL_law_536 : decode cL_law 536 = .ok (.iload 5, 2) := dk_21 5 (dk_at dksL_law_14 0 rfl rfl)
theorem dL_law_538 : decode cL_law 538 = .ok (.iconst 1, 1) := dk_4 (dk_at dksL_law_14 2 rfl rfl)
theorem dL_law_539 : decode cL_law 539 = .ok (.iadd, 1) := dk_96 (dk_at dksL_law_14 3 rfl rfl)
theorem dL_law_540 : decode cL_law 540 = .ok (.iaload, 1) := dk_46 (dk_at dksL_law_14 4 rfl rfl)
theorem dL_law_541 : decode cL_law 541 = .ok (.aload_n 0, 1) := dk_42 (dk_at dksL_law_14 5 rfl rfl)
theorem dL_law_542 : decode cL_law 542 = .ok (.iload 5, 2) := dk_21 5 (dk_at dksL_law_14 6 rfl rfl)
theorem dL_law_544 : decode cL_law 544 = .ok (.iconst 2, 1) := dk_5 (dk_at dksL_law_14 8 rfl rfl)
theorem dL_law_545 : decode cL_law 545 = .ok (.iadd, 1) := dk_96 (dk_at dksL_law_14 9 rfl rfl)
theorem dL_law_546 : decode cL_law 546 = .ok (.iaload, 1) := dk_46 (dk_at dksL_law_14 10 rfl rfl)
theorem dL_law_547 : decode cL_law 547 = .ok (.invokevirtual 163, 3) := dk_182 0 163 (dk_at dksL_law_14 11 rfl rfl)
theorem dL_law_550 : decode cL_law 550 = .ok (.if_icmp .eq 2034, 3) := dk_159 7 242 (dk_at dksL_law_14 14 rfl rfl)
theorem dL_law_553 : decode cL_law 553 = .ok (.iconst 0, 1) := dk_3 (dk_at dksL_law_14 17 rfl rfl)
theorem dL_law_554 : decode cL_law 554 = .ok (.ireturn, 1) := dk_172 (dk_at dksL_law_14 18 rfl rfl)
theorem dL_law_555 : decode cL_law 555 = .ok (.aload_n 1, 1) := dk_43 (dk_at dksL_law_14 19 rfl rfl)
theorem dL_law_556 : decode cL_law 556 = .ok (.aload_n 0, 1) := dk_42 (dk_at dksL_law_14 20 rfl rfl)
theorem dL_law_557 : decode cL_law 557 = .ok (.iload 5, 2) := dk_21 5 (dk_at dksL_law_14 21 rfl rfl)
theorem dL_law_559 : decode cL_law 559 = .ok (.iconst 1, 1) := dk_4 (dk_at dksL_law_14 23 rfl rfl)
theorem dL_law_560 : decode cL_law 560 = .ok (.iadd, 1) := dk_96 (dk_at dksL_law_15 0 rfl rfl)
theorem dL_law_561 : decode cL_law 561 = .ok (.iaload, 1) := dk_46 (dk_at dksL_law_15 1 rfl rfl)
theorem dL_law_562 : decode cL_law 562 = .ok (.aload_n 3, 1) := dk_45 (dk_at dksL_law_15 2 rfl rfl)
theorem dL_law_563 : decode cL_law 563 = .ok (.invokestatic 164, 3) := dk_184 0 164 (dk_at dksL_law_15 3 rfl rfl)
theorem dL_law_566 : decode cL_law 566 = .ok (.istore 6, 2) := dk_54 6 (dk_at dksL_law_15 6 rfl rfl)
theorem dL_law_568 : decode cL_law 568 = .ok (.aload_n 2, 1) := dk_44 (dk_at dksL_law_15 8 rfl rfl)
theorem dL_law_569 : decode cL_law 569 = .ok (.aload_n 0, 1) := dk_42 (dk_at dksL_law_15 9 rfl rfl)
theorem dL_law_570 : decode cL_law 570 = .ok (.iload 5, 2) := dk_21 5 (dk_at dksL_law_15 10 rfl rfl)
theorem dL_law_572 : decode cL_law 572 = .ok (.iconst 1, 1) := dk_4 (dk_at dksL_law_15 12 rfl rfl)
theorem dL_law_573 : decode cL_law 573 = .ok (.iadd, 1) := dk_96 (dk_at dksL_law_15 13 rfl rfl)
theorem dL_law_574 : decode cL_law 574 = .ok (.iaload, 1) := dk_46 (dk_at dksL_law_15 14 rfl rfl)
theorem dL_law_575 : decode cL_law 575 = .ok (.invokevirtual 166, 3) := dk_182 0 166 (dk_at dksL_law_15 15 rfl rfl)
theorem dL_law_578 : decode cL_law 578 = .ok (.istore 7, 2) := dk_54 7 (dk_at dksL_law_15 18 rfl rfl)
theorem dL_law_580 : decode cL_law 580 = .ok (.aload_n 2, 1) := dk_44 (dk_at dksL_law_15 20 rfl rfl)
theorem dL_law_581 : decode cL_law 581 = .ok (.invokevirtual 129, 3) := dk_182 0 129 (dk_at dksL_law_15 21 rfl rfl)
theorem dL_law_584 : decode cL_law 584 = .ok (.iload 6, 2) := dk_21 6 (dk_at dksL_law_16 0 rfl rfl)
theorem dL_law_586 : decode cL_law 586 = .ok (.if_icmp .eq 5, 3) := dk_159 0 5 (dk_at dksL_law_16 2 rfl rfl)
theorem dL_law_589 : decode cL_law 589 = .ok (.iconst 0, 1) := dk_3 (dk_at dksL_law_16 5 rfl rfl)
theorem dL_law_590 : decode cL_law 590 = .ok (.ireturn, 1) := dk_172 (dk_at dksL_law_16 6 rfl rfl)
theorem dL_law_591 : decode cL_law 591 = .ok (.iload 6, 2) := dk_21 6 (dk_at dksL_law_16 7 rfl rfl)
theorem dL_law_593 : decode cL_law 593 = .ok (.ifCond .ne 15, 3) := dk_154 0 15 (dk_at dksL_law_16 9 rfl rfl)
theorem dL_law_596 : decode cL_law 596 = .ok (.aload_n 3, 1) := dk_45 (dk_at dksL_law_16 12 rfl rfl)
theorem dL_law_597 : decode cL_law 597 = .ok (.iconst 0, 1) := dk_3 (dk_at dksL_law_16 13 rfl rfl)
theorem dL_law_598 : decode cL_law 598 = .ok (.laload, 1) := dk_47 (dk_at dksL_law_16 14 rfl rfl)
theorem dL_law_599 : decode cL_law 599 = .ok (.iload 7, 2) := dk_21 7 (dk_at dksL_law_16 15 rfl rfl)
theorem dL_law_601 : decode cL_law 601 = .ok (.i2l, 1) := dk_133 (dk_at dksL_law_16 17 rfl rfl)
theorem dL_law_602 : decode cL_law 602 = .ok (.lcmp, 1) := dk_148 (dk_at dksL_law_16 18 rfl rfl)
theorem dL_law_603 : decode cL_law 603 = .ok (.ifCond .eq 5, 3) := dk_153 0 5 (dk_at dksL_law_16 19 rfl rfl)
theorem dL_law_606 : decode cL_law 606 = .ok (.iconst 0, 1) := dk_3 (dk_at dksL_law_16 22 rfl rfl)
theorem dL_law_607 : decode cL_law 607 = .ok (.ireturn, 1) := dk_172 (dk_at dksL_law_16 23 rfl rfl)
theorem dL_law_608 : decode cL_law 608 = .ok (.goto 1976, 3) := dk_167 7 184 (dk_at dksL_law_17 0 rfl rfl)
theorem dL_law_611 : decode cL_law 611 = .ok (.aload_n 1, 1) := dk_43 (dk_at dksL_law_17 3 rfl rfl)
theorem dL_law_612 : decode cL_law 612 = .ok (.aload_n 0, 1) := dk_42 (dk_at dksL_law_17 4 rfl rfl)
theorem dL_law_613 : decode cL_law 613 = .ok (.iload 5, 2) := dk_21 5 (dk_at dksL_law_17 5 rfl rfl)
theorem dL_law_615 : decode cL_law 615 = .ok (.iconst 1, 1) := dk_4 (dk_at dksL_law_17 7 rfl rfl)
theorem dL_law_616 : decode cL_law 616 = .ok (.iadd, 1) := dk_96 (dk_at dksL_law_17 8 rfl rfl)
theorem dL_law_617 : decode cL_law 617 = .ok (.iaload, 1) := dk_46 (dk_at dksL_law_17 9 rfl rfl)
theorem dL_law_618 : decode cL_law 618 = .ok (.aload_n 3, 1) := dk_45 (dk_at dksL_law_17 10 rfl rfl)
theorem dL_law_619 : decode cL_law 619 = .ok (.invokestatic 167, 3) := dk_184 0 167 (dk_at dksL_law_17 11 rfl rfl)
theorem dL_law_622 : decode cL_law 622 = .ok (.istore 6, 2) := dk_54 6 (dk_at dksL_law_17 14 rfl rfl)
theorem dL_law_624 : decode cL_law 624 = .ok (.aload_n 2, 1) := dk_44 (dk_at dksL_law_17 16 rfl rfl)
theorem dL_law_625 : decode cL_law 625 = .ok (.aload_n 0, 1) := dk_42 (dk_at dksL_law_17 17 rfl rfl)
theorem dL_law_626 : decode cL_law 626 = .ok (.iload 5, 2) := dk_21 5 (dk_at dksL_law_17 18 rfl rfl)
theorem dL_law_628 : decode cL_law 628 = .ok (.iconst 1, 1) := dk_4 (dk_at dksL_law_17 20 rfl rfl)
theorem dL_law_629 : decode cL_law 629 = .ok (.iadd, 1) := dk_96 (dk_at dksL_law_17 21 rfl rfl)
theorem dL_law_630 : decode cL_law 630 = .ok (.iaload, 1) := dk_46 (dk_at dksL_law_17 22 rfl rfl)
theorem dL_law_631 : decode cL_law 631 = .ok (.invokevirtual 169, 3) := dk_182 0 169 (dk_at dksL_law_18 0 rfl rfl)
theorem dL_law_634 : decode cL_law 634 = .ok (.istore 7, 2) := dk_54 7 (dk_at dksL_law_18 3 rfl rfl)
theorem dL_law_636 : decode cL_law 636 = .ok (.aload_n 2, 1) := dk_44 (dk_at dksL_law_18 5 rfl rfl)
theorem dL_law_637 : decode cL_law 637 = .ok (.invokevirtual 129, 3) := dk_182 0 129 (dk_at dksL_law_18 6 rfl rfl)
theorem dL_law_640 : decode cL_law 640 = .ok (.iload 6, 2) := dk_21 6 (dk_at dksL_law_18 9 rfl rfl)
theorem dL_law_642 : decode cL_law 642 = .ok (.if_icmp .eq 5, 3) := dk_159 0 5 (dk_at dksL_law_18 11 rfl rfl)
theorem dL_law_645 : decode cL_law 645 = .ok (.iconst 0, 1) := dk_3 (dk_at dksL_law_18 14 rfl rfl)
theorem dL_law_646 : decode cL_law 646 = .ok (.ireturn, 1) := dk_172 (dk_at dksL_law_18 15 rfl rfl)
theorem dL_law_647 : decode cL_law 647 = .ok (.iload 6, 2) := dk_21 6 (dk_at dksL_law_18 16 rfl rfl)
theorem dL_law_649 : decode cL_law 649 = .ok (.ifCond .ne 15, 3) := dk_154 0 15 (dk_at dksL_law_18 18 rfl rfl)
theorem dL_law_652 : decode cL_law 652 = .ok (.aload_n 3, 1) := dk_45 (dk_at dksL_law_18 21 rfl rfl)
theorem dL_law_653 : decode cL_law 653 = .ok (.iconst 0, 1) := dk_3 (dk_at dksL_law_18 22 rfl rfl)
theorem dL_law_654 : decode cL_law 654 = .ok (.laload, 1) := dk_47 (dk_at dksL_law_18 23 rfl rfl)
theorem dL_law_655 : decode cL_law 655 = .ok (.iload 7, 2) := dk_21 7 (dk_at dksL_law_19 0 rfl rfl)
theorem dL_law_657 : decode cL_law 657 = .ok (.i2l, 1) := dk_133 (dk_at dksL_law_19 2 rfl rfl)
theorem dL_law_658 : decode cL_law 658 = .ok (.lcmp, 1) := dk_148 (dk_at dksL_law_19 3 rfl rfl)
theorem dL_law_659 : decode cL_law 659 = .ok (.ifCond .eq 5, 3) := dk_153 0 5 (dk_at dksL_law_19 4 rfl rfl)
theorem dL_law_662 : decode cL_law 662 = .ok (.iconst 0, 1) := dk_3 (dk_at dksL_law_19 7 rfl rfl)
theorem dL_law_663 : decode cL_law 663 = .ok (.ireturn, 1) := dk_172 (dk_at dksL_law_19 8 rfl rfl)
theorem dL_law_664 : decode cL_law 664 = .ok (.goto 1920, 3) := dk_167 7 128 (dk_at dksL_law_19 9 rfl rfl)
theorem dL_law_667 : decode cL_law 667 = .ok (.aload_n 1, 1) := dk_43 (dk_at dksL_law_19 12 rfl rfl)
theorem dL_law_668 : decode cL_law 668 = .ok (.aload_n 0, 1) := dk_42 (dk_at dksL_law_19 13 rfl rfl)
theorem dL_law_669 : decode cL_law 669 = .ok (.iload 5, 2) := dk_21 5 (dk_at dksL_law_19 14 rfl rfl)
theorem dL_law_671 : decode cL_law 671 = .ok (.iconst 1, 1) := dk_4 (dk_at dksL_law_19 16 rfl rfl)
theorem dL_law_672 : decode cL_law 672 = .ok (.iadd, 1) := dk_96 (dk_at dksL_law_19 17 rfl rfl)
theorem dL_law_673 : decode cL_law 673 = .ok (.iaload, 1) := dk_46 (dk_at dksL_law_19 18 rfl rfl)
theorem dL_law_674 : decode cL_law 674 = .ok (.aload_n 3, 1) := dk_45 (dk_at dksL_law_19 19 rfl rfl)
theorem dL_law_675 : decode cL_law 675 = .ok (.invokestatic 170, 3) := dk_184 0 170 (dk_at dksL_law_19 20 rfl rfl)
theorem dL_law_678 : decode cL_law 678 = .ok (.istore 6, 2) := dk_54 6 (dk_at dksL_law_20 0 rfl rfl)
theorem dL_law_680 : decode cL_law 680 = .ok (.aload_n 2, 1) := dk_44 (dk_at dksL_law_20 2 rfl rfl)
theorem dL_law_681 : decode cL_law 681 = .ok (.aload_n 0, 1) := dk_42 (dk_at dksL_law_20 3 rfl rfl)
theorem dL_law_682 : decode cL_law 682 = .ok (.iload 5, 2) := dk_21 5 (dk_at dksL_law_20 4 rfl rfl)
theorem dL_law_684 : decode cL_law 684 = .ok (.iconst 1, 1) := dk_4 (dk_at dksL_law_20 6 rfl rfl)
theorem dL_law_685 : decode cL_law 685 = .ok (.iadd, 1) := dk_96 (dk_at dksL_law_20 7 rfl rfl)
theorem dL_law_686 : decode cL_law 686 = .ok (.iaload, 1) := dk_46 (dk_at dksL_law_20 8 rfl rfl)
theorem dL_law_687 : decode cL_law 687 = .ok (.invokevirtual 172, 3) := dk_182 0 172 (dk_at dksL_law_20 9 rfl rfl)
theorem dL_law_690 : decode cL_law 690 = .ok (.istore 7, 2) := dk_54 7 (dk_at dksL_law_20 12 rfl rfl)
theorem dL_law_692 : decode cL_law 692 = .ok (.aload_n 2, 1) := dk_44 (dk_at dksL_law_20 14 rfl rfl)
theorem dL_law_693 : decode cL_law 693 = .ok (.invokevirtual 129, 3) := dk_182 0 129 (dk_at dksL_law_20 15 rfl rfl)
theorem dL_law_696 : decode cL_law 696 = .ok (.iload 6, 2) := dk_21 6 (dk_at dksL_law_20 18 rfl rfl)
theorem dL_law_698 : decode cL_law 698 = .ok (.if_icmp .eq 5, 3) := dk_159 0 5 (dk_at dksL_law_20 20 rfl rfl)
theorem dL_law_701 : decode cL_law 701 = .ok (.iconst 0, 1) := dk_3 (dk_at dksL_law_20 23 rfl rfl)
theorem dL_law_702 : decode cL_law 702 = .ok (.ireturn, 1) := dk_172 (dk_at dksL_law_21 0 rfl rfl)
theorem dL_law_703 : decode cL_law 703 = .ok (.iload 6, 2) := dk_21 6 (dk_at dksL_law_21 1 rfl rfl)
theorem dL_law_705 : decode cL_law 705 = .ok (.ifCond .ne 15, 3) := dk_154 0 15 (dk_at dksL_law_21 3 rfl rfl)
theorem dL_law_708 : decode cL_law 708 = .ok (.aload_n 3, 1) := dk_45 (dk_at dksL_law_21 6 rfl rfl)
theorem dL_law_709 : decode cL_law 709 = .ok (.iconst 0, 1) := dk_3 (dk_at dksL_law_21 7 rfl rfl)
theorem dL_law_710 : decode cL_law 710 = .ok (.laload, 1) := dk_47 (dk_at dksL_law_21 8 rfl rfl)
theorem dL_law_711 : decode cL_law 711 = .ok (.iload 7, 2) := dk_21 7 (dk_at dksL_law_21 9 rfl rfl)
theorem dL_law_713 : decode cL_law 713 = .ok (.i2l, 1) := dk_133 (dk_at dksL_law_21 11 rfl rfl)
theorem dL_law_714 : decode cL_law 714 = .ok (.lcmp, 1) := dk_148 (dk_at dksL_law_21 12 rfl rfl)
theorem dL_law_715 : decode cL_law 715 = .ok (.ifCond .eq 5, 3) := dk_153 0 5 (dk_at dksL_law_21 13 rfl rfl)
theorem dL_law_718 : decode cL_law 718 = .ok (.iconst 0, 1) := dk_3 (dk_at dksL_law_21 16 rfl rfl)
theorem dL_law_719 : decode cL_law 719 = .ok (.ireturn, 1) := dk_172 (dk_at dksL_law_21 17 rfl rfl)
theorem dL_law_720 : decode cL_law 720 = .ok (.goto 1864, 3) := dk_167 7 72 (dk_at dksL_law_21 18 rfl rfl)
theorem dL_law_723 : decode cL_law 723 = .ok (.aload_n 1, 1) := dk_43 (dk_at dksL_law_21 21 rfl rfl)
theorem dL_law_724 : decode cL_law 724 = .ok (.aload_n 0, 1) := dk_42 (dk_at dksL_law_21 22 rfl rfl)
theorem dL_law_725 : decode cL_law 725 = .ok (.iload 5, 2) := dk_21 5 (dk_at dksL_law_22 0 rfl rfl)
theorem dL_law_727 : decode cL_law 727 = .ok (.iconst 1, 1) := dk_4 (dk_at dksL_law_22 2 rfl rfl)
theorem dL_law_728 : decode cL_law 728 = .ok (.iadd, 1) := dk_96 (dk_at dksL_law_22 3 rfl rfl)
theorem dL_law_729 : decode cL_law 729 = .ok (.iaload, 1) := dk_46 (dk_at dksL_law_22 4 rfl rfl)
theorem dL_law_730 : decode cL_law 730 = .ok (.aload_n 3, 1) := dk_45 (dk_at dksL_law_22 5 rfl rfl)
theorem dL_law_731 : decode cL_law 731 = .ok (.invokestatic 173, 3) := dk_184 0 173 (dk_at dksL_law_22 6 rfl rfl)
theorem dL_law_734 : decode cL_law 734 = .ok (.istore 6, 2) := dk_54 6 (dk_at dksL_law_22 9 rfl rfl)
theorem dL_law_736 : decode cL_law 736 = .ok (.aload_n 2, 1) := dk_44 (dk_at dksL_law_22 11 rfl rfl)
theorem dL_law_737 : decode cL_law 737 = .ok (.aload_n 0, 1) := dk_42 (dk_at dksL_law_22 12 rfl rfl)
theorem dL_law_738 : decode cL_law 738 = .ok (.iload 5, 2) := dk_21 5 (dk_at dksL_law_22 13 rfl rfl)
theorem dL_law_740 : decode cL_law 740 = .ok (.iconst 1, 1) := dk_4 (dk_at dksL_law_22 15 rfl rfl)
theorem dL_law_741 : decode cL_law 741 = .ok (.iadd, 1) := dk_96 (dk_at dksL_law_22 16 rfl rfl)
theorem dL_law_742 : decode cL_law 742 = .ok (.iaload, 1) := dk_46 (dk_at dksL_law_22 17 rfl rfl)
theorem dL_law_743 : decode cL_law 743 = .ok (.invokevirtual 175, 3) := dk_182 0 175 (dk_at dksL_law_22 18 rfl rfl)
theorem dL_law_746 : decode cL_law 746 = .ok (.istore 7, 2) := dk_54 7 (dk_at dksL_law_22 21 rfl rfl)
theorem dL_law_748 : decode cL_law 748 = .ok (.aload_n 2, 1) := dk_44 (dk_at dksL_law_22 23 rfl rfl)
theorem dL_law_749 : decode cL_law 749 = .ok (.invokevirtual 129, 3) := dk_182 0 129 (dk_at dksL_law_23 0 rfl rfl)
theorem dL_law_752 : decode cL_law 752 = .ok (.iload 6, 2) := dk_21 6 (dk_at dksL_law_23 3 rfl rfl)
theorem dL_law_754 : decode cL_law 754 = .ok (.if_icmp .eq 5, 3) := dk_159 0 5 (dk_at dksL_law_23 5 rfl rfl)
theorem dL_law_757 : decode cL_law 757 = .ok (.iconst 0, 1) := dk_3 (dk_at dksL_law_23 8 rfl rfl)
theorem dL_law_758 : decode cL_law 758 = .ok (.ireturn, 1) := dk_172 (dk_at dksL_law_23 9 rfl rfl)
theorem dL_law_759 : decode cL_law 759 = .ok (.iload 6, 2) := dk_21 6 (dk_at dksL_law_23 10 rfl rfl)
theorem dL_law_761 : decode cL_law 761 = .ok (.ifCond .ne 22, 3) := dk_154 0 22 (dk_at dksL_law_23 12 rfl rfl)
theorem dL_law_764 : decode cL_law 764 = .ok (.aload_n 3, 1) := dk_45 (dk_at dksL_law_23 15 rfl rfl)
theorem dL_law_765 : decode cL_law 765 = .ok (.iconst 0, 1) := dk_3 (dk_at dksL_law_23 16 rfl rfl)
theorem dL_law_766 : decode cL_law 766 = .ok (.laload, 1) := dk_47 (dk_at dksL_law_23 17 rfl rfl)
theorem dL_law_767 : decode cL_law 767 = .ok (.iload 7, 2) := dk_21 7 (dk_at dksL_law_23 18 rfl rfl)
theorem dL_law_769 : decode cL_law 769 = .ok (.ifCond .eq 7, 3) := dk_153 0 7 (dk_at dksL_law_23 20 rfl rfl)
theorem dL_law_772 : decode cL_law 772 = .ok (.lconst 1, 1) := dk_10 (dk_at dksL_law_23 23 rfl rfl)
theorem dL_law_773 : decode cL_law 773 = .ok (.goto 4, 3) := dk_167 0 4 (dk_at dksL_law_24 0 rfl rfl)
theorem dL_law_776 : decode cL_law 776 = .ok (.lconst 0, 1) := dk_9 (dk_at dksL_law_24 3 rfl rfl)
theorem dL_law_777 : decode cL_law 777 = .ok (.lcmp, 1) := dk_148 (dk_at dksL_law_24 4 rfl rfl)
theorem dL_law_778 : decode cL_law 778 = .ok (.ifCond .eq 5, 3) := dk_153 0 5 (dk_at dksL_law_24 5 rfl rfl)
theorem dL_law_781 : decode cL_law 781 = .ok (.iconst 0, 1) := dk_3 (dk_at dksL_law_24 8 rfl rfl)
theorem dL_law_782 : decode cL_law 782 = .ok (.ireturn, 1) := dk_172 (dk_at dksL_law_24 9 rfl rfl)
theorem dL_law_783 : decode cL_law 783 = .ok (.goto 1801, 3) := dk_167 7 9 (dk_at dksL_law_24 10 rfl rfl)
theorem dL_law_786 : decode cL_law 786 = .ok (.aload_n 1, 1) := dk_43 (dk_at dksL_law_24 13 rfl rfl)
theorem dL_law_787 : decode cL_law 787 = .ok (.invokevirtual 176, 3) := dk_182 0 176 (dk_at dksL_law_24 14 rfl rfl)
theorem dL_law_790 : decode cL_law 790 = .ok (.aload_n 2, 1) := dk_44 (dk_at dksL_law_24 17 rfl rfl)
theorem dL_law_791 : decode cL_law 791 = .ok (.invokevirtual 179, 3) := dk_182 0 179 (dk_at dksL_law_24 18 rfl rfl)
theorem dL_law_794 : decode cL_law 794 = .ok (.if_icmp .eq 1790, 3) := dk_159 6 254 (dk_at dksL_law_24 21 rfl rfl)
theorem dL_law_797 : decode cL_law 797 = .ok (.iconst 0, 1) := dk_3 (dk_at dksL_law_25 0 rfl rfl)
theorem dL_law_798 : decode cL_law 798 = .ok (.ireturn, 1) := dk_172 (dk_at dksL_law_25 1 rfl rfl)
theorem dL_law_799 : decode cL_law 799 = .ok (.aload_n 1, 1) := dk_43 (dk_at dksL_law_25 2 rfl rfl)
theorem dL_law_800 : decode cL_law 800 = .ok (.invokevirtual 180, 3) := dk_182 0 180 (dk_at dksL_law_25 3 rfl rfl)
theorem dL_law_803 : decode cL_law 803 = .ok (.aload_n 2, 1) := dk_44 (dk_at dksL_law_25 6 rfl rfl)
theorem dL_law_804 : decode cL_law 804 = .ok (.invokevirtual 183, 3) := dk_182 0 183 (dk_at dksL_law_25 7 rfl rfl)
theorem dL_law_807 : decode cL_law 807 = .ok (.if_icmp .eq 1777, 3) := dk_159 6 241 (dk_at dksL_law_25 10 rfl rfl)
theorem dL_law_810 : decode cL_law 810 = .ok (.iconst 0, 1) := dk_3 (dk_at dksL_law_25 13 rfl rfl)
theorem dL_law_811 : decode cL_law 811 = .ok (.ireturn, 1) := dk_172 (dk_at dksL_law_25 14 rfl rfl)
theorem dL_law_812 : decode cL_law 812 = .ok (.aload_n 1, 1) := dk_43 (dk_at dksL_law_25 15 rfl rfl)
theorem dL_law_813 : decode cL_law 813 = .ok (.aload_n 0, 1) := dk_42 (dk_at dksL_law_25 16 rfl rfl)
theorem dL_law_814 : decode cL_law 814 = .ok (.iload 5, 2) := dk_21 5 (dk_at dksL_law_25 17 rfl rfl)
theorem dL_law_816 : decode cL_law 816 = .ok (.iconst 1, 1) := dk_4 (dk_at dksL_law_25 19 rfl rfl)
theorem dL_law_817 : decode cL_law 817 = .ok (.iadd, 1) := dk_96 (dk_at dksL_law_25 20 rfl rfl)
theorem dL_law_818 : decode cL_law 818 = .ok (.iaload, 1) := dk_46 (dk_at dksL_law_25 21 rfl rfl)
theorem dL_law_819 : decode cL_law 819 = .ok (.aload_n 3, 1) := dk_45 (dk_at dksL_law_25 22 rfl rfl)
theorem dL_law_820 : decode cL_law 820 = .ok (.invokestatic 184, 3) := dk_184 0 184 (dk_at dksL_law_26 0 rfl rfl)
theorem dL_law_823 : decode cL_law 823 = .ok (.istore 6, 2) := dk_54 6 (dk_at dksL_law_26 3 rfl rfl)
theorem dL_law_825 : decode cL_law 825 = .ok (.aload_n 2, 1) := dk_44 (dk_at dksL_law_26 5 rfl rfl)
theorem dL_law_826 : decode cL_law 826 = .ok (.aload_n 0, 1) := dk_42 (dk_at dksL_law_26 6 rfl rfl)
theorem dL_law_827 : decode cL_law 827 = .ok (.iload 5, 2) := dk_21 5 (dk_at dksL_law_26 7 rfl rfl)
theorem dL_law_829 : decode cL_law 829 = .ok (.iconst 1, 1) := dk_4 (dk_at dksL_law_26 9 rfl rfl)
theorem dL_law_830 : decode cL_law 830 = .ok (.iadd, 1) := dk_96 (dk_at dksL_law_26 10 rfl rfl)
theorem dL_law_831 : decode cL_law 831 = .ok (.iaload, 1) := dk_46 (dk_at dksL_law_26 11 rfl rfl)
theorem dL_law_832 : decode cL_law 832 = .ok (.invokevirtual 186, 3) := dk_182 0 186 (dk_at dksL_law_26 12 rfl rfl)
theorem dL_law_835 : decode cL_law 835 = .ok (.istore 7, 2) := dk_54 7 (dk_at dksL_law_26 15 rfl rfl)
theorem dL_law_837 : decode cL_law 837 = .ok (.aload_n 2, 1) := dk_44 (dk_at dksL_law_26 17 rfl rfl)
theorem dL_law_838 : decode cL_law 838 = .ok (.invokevirtual 129, 3) := dk_182 0 129 (dk_at dksL_law_26 18 rfl rfl)
theorem dL_law_841 : decode cL_law 841 = .ok (.iload 6, 2) := dk_21 6 (dk_at dksL_law_26 21 rfl rfl)
theorem dL_law_843 : decode cL_law 843 = .ok (.if_icmp .eq 5, 3) := dk_159 0 5 (dk_at dksL_law_27 0 rfl rfl)
theorem dL_law_846 : decode cL_law 846 = .ok (.iconst 0, 1) := dk_3 (dk_at dksL_law_27 3 rfl rfl)
theorem dL_law_847 : decode cL_law 847 = .ok (.ireturn, 1) := dk_172 (dk_at dksL_law_27 4 rfl rfl)
theorem dL_law_848 : decode cL_law 848 = .ok (.iload 6, 2) := dk_21 6 (dk_at dksL_law_27 5 rfl rfl)
theorem dL_law_850 : decode cL_law 850 = .ok (.ifCond .ne 15, 3) := dk_154 0 15 (dk_at dksL_law_27 7 rfl rfl)
theorem dL_law_853 : decode cL_law 853 = .ok (.aload_n 3, 1) := dk_45 (dk_at dksL_law_27 10 rfl rfl)
theorem dL_law_854 : decode cL_law 854 = .ok (.iconst 0, 1) := dk_3 (dk_at dksL_law_27 11 rfl rfl)
theorem dL_law_855 : decode cL_law 855 = .ok (.laload, 1) := dk_47 (dk_at dksL_law_27 12 rfl rfl)
theorem dL_law_856 : decode cL_law 856 = .ok (.iload 7, 2) := dk_21 7 (dk_at dksL_law_27 13 rfl rfl)
theorem dL_law_858 : decode cL_law 858 = .ok (.i2l, 1) := dk_133 (dk_at dksL_law_27 15 rfl rfl)
theorem dL_law_859 : decode cL_law 859 = .ok (.lcmp, 1) := dk_148 (dk_at dksL_law_27 16 rfl rfl)
theorem dL_law_860 : decode cL_law 860 = .ok (.ifCond .eq 5, 3) := dk_153 0 5 (dk_at dksL_law_27 17 rfl rfl)
theorem dL_law_863 : decode cL_law 863 = .ok (.iconst 0, 1) := dk_3 (dk_at dksL_law_27 20 rfl rfl)
theorem dL_law_864 : decode cL_law 864 = .ok (.ireturn, 1) := dk_172 (dk_at dksL_law_27 21 rfl rfl)
theorem dL_law_865 : decode cL_law 865 = .ok (.goto 1719, 3) := dk_167 6 183 (dk_at dksL_law_28 0 rfl rfl)
theorem dL_law_868 : decode cL_law 868 = .ok (.aload_n 1, 1) := dk_43 (dk_at dksL_law_28 3 rfl rfl)
theorem dL_law_869 : decode cL_law 869 = .ok (.aload_n 0, 1) := dk_42 (dk_at dksL_law_28 4 rfl rfl)
theorem dL_law_870 : decode cL_law 870 = .ok (.iload 5, 2) := dk_21 5 (dk_at dksL_law_28 5 rfl rfl)
theorem dL_law_872 : decode cL_law 872 = .ok (.iconst 1, 1) := dk_4 (dk_at dksL_law_28 7 rfl rfl)
theorem dL_law_873 : decode cL_law 873 = .ok (.iadd, 1) := dk_96 (dk_at dksL_law_28 8 rfl rfl)
theorem dL_law_874 : decode cL_law 874 = .ok (.iaload, 1) := dk_46 (dk_at dksL_law_28 9 rfl rfl)
theorem dL_law_875 : decode cL_law 875 = .ok (.aload_n 3, 1) := dk_45 (dk_at dksL_law_28 10 rfl rfl)
theorem dL_law_876 : decode cL_law 876 = .ok (.invokestatic 187, 3) := dk_184 0 187 (dk_at dksL_law_28 11 rfl rfl)
theorem dL_law_879 : decode cL_law 879 = .ok (.istore 6, 2) := dk_54 6 (dk_at dksL_law_28 14 rfl rfl)
theorem dL_law_881 : decode cL_law 881 = .ok (.aload_n 2, 1) := dk_44 (dk_at dksL_law_28 16 rfl rfl)
theorem dL_law_882 : decode cL_law 882 = .ok (.aload_n 0, 1) := dk_42 (dk_at dksL_law_28 17 rfl rfl)
theorem dL_law_883 : decode cL_law 883 = .ok (.iload 5, 2) := dk_21 5 (dk_at dksL_law_28 18 rfl rfl)
theorem dL_law_885 : decode cL_law 885 = .ok (.iconst 1, 1) := dk_4 (dk_at dksL_law_28 20 rfl rfl)
theorem dL_law_886 : decode cL_law 886 = .ok (.iadd, 1) := dk_96 (dk_at dksL_law_28 21 rfl rfl)
theorem dL_law_887 : decode cL_law 887 = .ok (.iaload, 1) := dk_46 (dk_at dksL_law_28 22 rfl rfl)
theorem dL_law_888 : decode cL_law 888 = .ok (.invokevirtual 189, 3) := dk_182 0 189 (dk_at dksL_law_29 0 rfl rfl)
theorem dL_law_891 : decode cL_law 891 = .ok (.istore 7, 2) := dk_54 7 (dk_at dksL_law_29 3 rfl rfl)
theorem dL_law_893 : decode cL_law 893 = .ok (.aload_n 2, 1) := dk_44 (dk_at dksL_law_29 5 rfl rfl)
theorem dL_law_894 : decode cL_law 894 = .ok (.invokevirtual 129, 3) := dk_182 0 129 (dk_at dksL_law_29 6 rfl rfl)
theorem dL_law_897 : decode cL_law 897 = .ok (.iload 6, 2) := dk_21 6 (dk_at dksL_law_29 9 rfl rfl)
theorem dL_law_899 : decode cL_law 899 = .ok (.if_icmp .eq 5, 3) := dk_159 0 5 (dk_at dksL_law_29 11 rfl rfl)
theorem dL_law_902 : decode cL_law 902 = .ok (.iconst 0, 1) := dk_3 (dk_at dksL_law_29 14 rfl rfl)
theorem dL_law_903 : decode cL_law 903 = .ok (.ireturn, 1) := dk_172 (dk_at dksL_law_29 15 rfl rfl)
theorem dL_law_904 : decode cL_law 904 = .ok (.iload 6, 2) := dk_21 6 (dk_at dksL_law_29 16 rfl rfl)
theorem dL_law_906 : decode cL_law 906 = .ok (.ifCond .ne 15, 3) := dk_154 0 15 (dk_at dksL_law_29 18 rfl rfl)
theorem dL_law_909 : decode cL_law 909 = .ok (.aload_n 3, 1) := dk_45 (dk_at dksL_law_29 21 rfl rfl)
theorem dL_law_910 : decode cL_law 910 = .ok (.iconst 0, 1) := dk_3 (dk_at dksL_law_29 22 rfl rfl)
theorem dL_law_911 : decode cL_law 911 = .ok (.laload, 1) := dk_47 (dk_at dksL_law_29 23 rfl rfl)
theorem dL_law_912 : decode cL_law 912 = .ok (.iload 7, 2) := dk_21 7 (dk_at dksL_law_30 0 rfl rfl)
theorem dL_law_914 : decode cL_law 914 = .ok (.i2l, 1) := dk_133 (dk_at dksL_law_30 2 rfl rfl)
theorem dL_law_915 : decode cL_law 915 = .ok (.lcmp, 1) := dk_148 (dk_at dksL_law_30 3 rfl rfl)
theorem dL_law_916 : decode cL_law 916 = .ok (.ifCond .eq 5, 3) := dk_153 0 5 (dk_at dksL_law_30 4 rfl rfl)
theorem dL_law_919 : decode cL_law 919 = .ok (.iconst 0, 1) := dk_3 (dk_at dksL_law_30 7 rfl rfl)
theorem dL_law_920 : decode cL_law 920 = .ok (.ireturn, 1) := dk_172 (dk_at dksL_law_30 8 rfl rfl)
theorem dL_law_921 : decode cL_law 921 = .ok (.goto 1663, 3) := dk_167 6 127 (dk_at dksL_law_30 9 rfl rfl)
theorem dL_law_924 : decode cL_law 924 = .ok (.aload_n 1, 1) := dk_43 (dk_at dksL_law_30 12 rfl rfl)
theorem dL_law_925 : decode cL_law 925 = .ok (.aload_n 0, 1) := dk_42 (dk_at dksL_law_30 13 rfl rfl)
theorem dL_law_926 : decode cL_law 926 = .ok (.iload 5, 2) := dk_21 5 (dk_at dksL_law_30 14 rfl rfl)
theorem dL_law_928 : decode cL_law 928 = .ok (.iconst 1, 1) := dk_4 (dk_at dksL_law_30 16 rfl rfl)
theorem dL_law_929 : decode cL_law 929 = .ok (.iadd, 1) := dk_96 (dk_at dksL_law_30 17 rfl rfl)
theorem dL_law_930 : decode cL_law 930 = .ok (.iaload, 1) := dk_46 (dk_at dksL_law_30 18 rfl rfl)
theorem dL_law_931 : decode cL_law 931 = .ok (.aload_n 3, 1) := dk_45 (dk_at dksL_law_30 19 rfl rfl)
theorem dL_law_932 : decode cL_law 932 = .ok (.invokestatic 190, 3) := dk_184 0 190 (dk_at dksL_law_30 20 rfl rfl)
theorem dL_law_935 : decode cL_law 935 = .ok (.istore 6, 2) := dk_54 6 (dk_at dksL_law_31 0 rfl rfl)
theorem dL_law_937 : decode cL_law 937 = .ok (.aload_n 2, 1) := dk_44 (dk_at dksL_law_31 2 rfl rfl)
theorem dL_law_938 : decode cL_law 938 = .ok (.aload_n 0, 1) := dk_42 (dk_at dksL_law_31 3 rfl rfl)
theorem dL_law_939 : decode cL_law 939 = .ok (.iload 5, 2) := dk_21 5 (dk_at dksL_law_31 4 rfl rfl)
theorem dL_law_941 : decode cL_law 941 = .ok (.iconst 1, 1) := dk_4 (dk_at dksL_law_31 6 rfl rfl)
theorem dL_law_942 : decode cL_law 942 = .ok (.iadd, 1) := dk_96 (dk_at dksL_law_31 7 rfl rfl)
theorem dL_law_943 : decode cL_law 943 = .ok (.iaload, 1) := dk_46 (dk_at dksL_law_31 8 rfl rfl)
theorem dL_law_944 : decode cL_law 944 = .ok (.invokevirtual 192, 3) := dk_182 0 192 (dk_at dksL_law_31 9 rfl rfl)
theorem dL_law_947 : decode cL_law 947 = .ok (.istore 7, 2) := dk_54 7 (dk_at dksL_law_31 12 rfl rfl)
theorem dL_law_949 : decode cL_law 949 = .ok (.aload_n 2, 1) := dk_44 (dk_at dksL_law_31 14 rfl rfl)
theorem dL_law_950 : decode cL_law 950 = .ok (.invokevirtual 129, 3) := dk_182 0 129 (dk_at dksL_law_31 15 rfl rfl)
theorem dL_law_953 : decode cL_law 953 = .ok (.iload 6, 2) := dk_21 6 (dk_at dksL_law_31 18 rfl rfl)
theorem dL_law_955 : decode cL_law 955 = .ok (.if_icmp .eq 5, 3) := dk_159 0 5 (dk_at dksL_law_31 20 rfl rfl)
theorem dL_law_958 : decode cL_law 958 = .ok (.iconst 0, 1) := dk_3 (dk_at dksL_law_31 23 rfl rfl)
theorem dL_law_959 : decode cL_law 959 = .ok (.ireturn, 1) := dk_172 (dk_at dksL_law_32 0 rfl rfl)
theorem dL_law_960 : decode cL_law 960 = .ok (.iload 6, 2) := dk_21 6 (dk_at dksL_law_32 1 rfl rfl)
theorem dL_law_962 : decode cL_law 962 = .ok (.ifCond .ne 15, 3) := dk_154 0 15 (dk_at dksL_law_32 3 rfl rfl)
theorem dL_law_965 : decode cL_law 965 = .ok (.aload_n 3, 1) := dk_45 (dk_at dksL_law_32 6 rfl rfl)
theorem dL_law_966 : decode cL_law 966 = .ok (.iconst 0, 1) := dk_3 (dk_at dksL_law_32 7 rfl rfl)
theorem dL_law_967 : decode cL_law 967 = .ok (.laload, 1) := dk_47 (dk_at dksL_law_32 8 rfl rfl)
theorem dL_law_968 : decode cL_law 968 = .ok (.iload 7, 2) := dk_21 7 (dk_at dksL_law_32 9 rfl rfl)
theorem dL_law_970 : decode cL_law 970 = .ok (.i2l, 1) := dk_133 (dk_at dksL_law_32 11 rfl rfl)
theorem dL_law_971 : decode cL_law 971 = .ok (.lcmp, 1) := dk_148 (dk_at dksL_law_32 12 rfl rfl)
theorem dL_law_972 : decode cL_law 972 = .ok (.ifCond .eq 5, 3) := dk_153 0 5 (dk_at dksL_law_32 13 rfl rfl)
theorem dL_law_975 : decode cL_law 975 = .ok (.iconst 0, 1) := dk_3 (dk_at dksL_law_32 16 rfl rfl)
theorem dL_law_976 : decode cL_law 976 = .ok (.ireturn, 1) := dk_172 (dk_at dksL_law_32 17 rfl rfl)
theorem dL_law_977 : decode cL_law 977 = .ok (.goto 1607, 3) := dk_167 6 71 (dk_at dksL_law_32 18 rfl rfl)
theorem dL_law_980 : decode cL_law 980 = .ok (.aload_n 1, 1) := dk_43 (dk_at dksL_law_32 21 rfl rfl)
theorem dL_law_981 : decode cL_law 981 = .ok (.aload_n 0, 1) := dk_42 (dk_at dksL_law_32 22 rfl rfl)
theorem dL_law_982 : decode cL_law 982 = .ok (.iload 5, 2) := dk_21 5 (dk_at dksL_law_33 0 rfl rfl)
theorem dL_law_984 : decode cL_law 984 = .ok (.iconst 1, 1) := dk_4 (dk_at dksL_law_33 2 rfl rfl)
theorem dL_law_985 : decode cL_law 985 = .ok (.iadd, 1) := dk_96 (dk_at dksL_law_33 3 rfl rfl)
theorem dL_law_986 : decode cL_law 986 = .ok (.iaload, 1) := dk_46 (dk_at dksL_law_33 4 rfl rfl)
theorem dL_law_987 : decode cL_law 987 = .ok (.aload_n 3, 1) := dk_45 (dk_at dksL_law_33 5 rfl rfl)
theorem dL_law_988 : decode cL_law 988 = .ok (.invokestatic 193, 3) := dk_184 0 193 (dk_at dksL_law_33 6 rfl rfl)
theorem dL_law_991 : decode cL_law 991 = .ok (.istore 6, 2) := dk_54 6 (dk_at dksL_law_33 9 rfl rfl)
theorem dL_law_993 : decode cL_law 993 = .ok (.aload_n 2, 1) := dk_44 (dk_at dksL_law_33 11 rfl rfl)
theorem dL_law_994 : decode cL_law 994 = .ok (.aload_n 0, 1) := dk_42 (dk_at dksL_law_33 12 rfl rfl)
theorem dL_law_995 : decode cL_law 995 = .ok (.iload 5, 2) := dk_21 5 (dk_at dksL_law_33 13 rfl rfl)
theorem dL_law_997 : decode cL_law 997 = .ok (.iconst 1, 1) := dk_4 (dk_at dksL_law_33 15 rfl rfl)
theorem dL_law_998 : decode cL_law 998 = .ok (.iadd, 1) := dk_96 (dk_at dksL_law_33 16 rfl rfl)
theorem dL_law_999 : decode cL_law 999 = .ok (.iaload, 1) := dk_46 (dk_at dksL_law_33 17 rfl rfl)
theorem dL_law_1000 : decode cL_law 1000 = .ok (.invokevirtual 195, 3) := dk_182 0 195 (dk_at dksL_law_33 18 rfl rfl)
theorem dL_law_1003 : decode cL_law 1003 = .ok (.istore 7, 2) := dk_54 7 (dk_at dksL_law_33 21 rfl rfl)
theorem dL_law_1005 : decode cL_law 1005 = .ok (.aload_n 2, 1) := dk_44 (dk_at dksL_law_33 23 rfl rfl)
theorem dL_law_1006 : decode cL_law 1006 = .ok (.invokevirtual 129, 3) := dk_182 0 129 (dk_at dksL_law_34 0 rfl rfl)
theorem dL_law_1009 : decode cL_law 1009 = .ok (.iload 6, 2) := dk_21 6 (dk_at dksL_law_34 3 rfl rfl)
theorem dL_law_1011 : decode cL_law 1011 = .ok (.if_icmp .eq 5, 3) := dk_159 0 5 (dk_at dksL_law_34 5 rfl rfl)
theorem dL_law_1014 : decode cL_law 1014 = .ok (.iconst 0, 1) := dk_3 (dk_at dksL_law_34 8 rfl rfl)
theorem dL_law_1015 : decode cL_law 1015 = .ok (.ireturn, 1) := dk_172 (dk_at dksL_law_34 9 rfl rfl)
theorem dL_law_1016 : decode cL_law 1016 = .ok (.iload 6, 2) := dk_21 6 (dk_at dksL_law_34 10 rfl rfl)
theorem dL_law_1018 : decode cL_law 1018 = .ok (.ifCond .ne 15, 3) := dk_154 0 15 (dk_at dksL_law_34 12 rfl rfl)
theorem dL_law_1021 : decode cL_law 1021 = .ok (.aload_n 3, 1) := dk_45 (dk_at dksL_law_34 15 rfl rfl)
theorem dL_law_1022 : decode cL_law 1022 = .ok (.iconst 0, 1) := dk_3 (dk_at dksL_law_34 16 rfl rfl)
theorem dL_law_1023 : decode cL_law 1023 = .ok (.laload, 1) := dk_47 (dk_at dksL_law_34 17 rfl rfl)
theorem dL_law_1024 : decode cL_law 1024 = .ok (.iload 7, 2) := dk_21 7 (dk_at dksL_law_34 18 rfl rfl)
theorem dL_law_1026 : decode cL_law 1026 = .ok (.i2l, 1) := dk_133 (dk_at dksL_law_34 20 rfl rfl)
theorem dL_law_1027 : decode cL_law 1027 = .ok (.lcmp, 1) := dk_148 (dk_at dksL_law_34 21 rfl rfl)
theorem dL_law_1028 : decode cL_law 1028 = .ok (.ifCond .eq 5, 3) := dk_153 0 5 (dk_at dksL_law_35 0 rfl rfl)
theorem dL_law_1031 : decode cL_law 1031 = .ok (.iconst 0, 1) := dk_3 (dk_at dksL_law_35 3 rfl rfl)
theorem dL_law_1032 : decode cL_law 1032 = .ok (.ireturn, 1) := dk_172 (dk_at dksL_law_35 4 rfl rfl)
theorem dL_law_1033 : decode cL_law 1033 = .ok (.goto 1551, 3) := dk_167 6 15 (dk_at dksL_law_35 5 rfl rfl)
theorem dL_law_1036 : decode cL_law 1036 = .ok (.aload_n 1, 1) := dk_43 (dk_at dksL_law_35 8 rfl rfl)
theorem dL_law_1037 : decode cL_law 1037 = .ok (.invokevirtual 196, 3) := dk_182 0 196 (dk_at dksL_law_35 9 rfl rfl)
theorem dL_law_1040 : decode cL_law 1040 = .ok (.aload_n 2, 1) := dk_44 (dk_at dksL_law_35 12 rfl rfl)
theorem dL_law_1041 : decode cL_law 1041 = .ok (.invokevirtual 199, 3) := dk_182 0 199 (dk_at dksL_law_35 13 rfl rfl)
theorem dL_law_1044 : decode cL_law 1044 = .ok (.if_icmp .eq 1540, 3) := dk_159 6 4 (dk_at dksL_law_35 16 rfl rfl)
theorem dL_law_1047 : decode cL_law 1047 = .ok (.iconst 0, 1) := dk_3 (dk_at dksL_law_35 19 rfl rfl)
theorem dL_law_1048 : decode cL_law 1048 = .ok (.ireturn, 1) := dk_172 (dk_at dksL_law_35 20 rfl rfl)
theorem dL_law_1049 : decode cL_law 1049 = .ok (.aload_n 1, 1) := dk_43 (dk_at dksL_law_35 21 rfl rfl)
theorem dL_law_1050 : decode cL_law 1050 = .ok (.invokevirtual 200, 3) := dk_182 0 200 (dk_at dksL_law_36 0 rfl rfl)
theorem dL_law_1053 : decode cL_law 1053 = .ok (.aload_n 2, 1) := dk_44 (dk_at dksL_law_36 3 rfl rfl)
theorem dL_law_1054 : decode cL_law 1054 = .ok (.invokevirtual 203, 3) := dk_182 0 203 (dk_at dksL_law_36 4 rfl rfl)
theorem dL_law_1057 : decode cL_law 1057 = .ok (.if_icmp .eq 1527, 3) := dk_159 5 247 (dk_at dksL_law_36 7 rfl rfl)
theorem dL_law_1060 : decode cL_law 1060 = .ok (.iconst 0, 1) := dk_3 (dk_at dksL_law_36 10 rfl rfl)
theorem dL_law_1061 : decode cL_law 1061 = .ok (.ireturn, 1) := dk_172 (dk_at dksL_law_36 11 rfl rfl)
theorem dL_law_1062 : decode cL_law 1062 = .ok (.aload_n 1, 1) := dk_43 (dk_at dksL_law_36 12 rfl rfl)
theorem dL_law_1063 : decode cL_law 1063 = .ok (.aload_n 0, 1) := dk_42 (dk_at dksL_law_36 13 rfl rfl)
theorem dL_law_1064 : decode cL_law 1064 = .ok (.iload 5, 2) := dk_21 5 (dk_at dksL_law_36 14 rfl rfl)
theorem dL_law_1066 : decode cL_law 1066 = .ok (.iconst 1, 1) := dk_4 (dk_at dksL_law_36 16 rfl rfl)
theorem dL_law_1067 : decode cL_law 1067 = .ok (.iadd, 1) := dk_96 (dk_at dksL_law_36 17 rfl rfl)
theorem dL_law_1068 : decode cL_law 1068 = .ok (.iaload, 1) := dk_46 (dk_at dksL_law_36 18 rfl rfl)
theorem dL_law_1069 : decode cL_law 1069 = .ok (.aload_n 3, 1) := dk_45 (dk_at dksL_law_36 19 rfl rfl)
theorem dL_law_1070 : decode cL_law 1070 = .ok (.invokestatic 204, 3) := dk_184 0 204 (dk_at dksL_law_36 20 rfl rfl)
theorem dL_law_1073 : decode cL_law 1073 = .ok (.istore 6, 2) := dk_54 6 (dk_at dksL_law_37 0 rfl rfl)
theorem dL_law_1075 : decode cL_law 1075 = .ok (.aload_n 2, 1) := dk_44 (dk_at dksL_law_37 2 rfl rfl)
theorem dL_law_1076 : decode cL_law 1076 = .ok (.aload_n 0, 1) := dk_42 (dk_at dksL_law_37 3 rfl rfl)
theorem dL_law_1077 : decode cL_law 1077 = .ok (.iload 5, 2) := dk_21 5 (dk_at dksL_law_37 4 rfl rfl)
theorem dL_law_1079 : decode cL_law 1079 = .ok (.iconst 1, 1) := dk_4 (dk_at dksL_law_37 6 rfl rfl)
theorem dL_law_1080 : decode cL_law 1080 = .ok (.iadd, 1) := dk_96 (dk_at dksL_law_37 7 rfl rfl)
theorem dL_law_1081 : decode cL_law 1081 = .ok (.iaload, 1) := dk_46 (dk_at dksL_law_37 8 rfl rfl)
theorem dL_law_1082 : decode cL_law 1082 = .ok (.invokevirtual 206, 3) := dk_182 0 206 (dk_at dksL_law_37 9 rfl rfl)
theorem dL_law_1085 : decode cL_law 1085 = .ok (.istore 7, 2) := dk_54 7 (dk_at dksL_law_37 12 rfl rfl)
theorem dL_law_1087 : decode cL_law 1087 = .ok (.aload_n 2, 1) := dk_44 (dk_at dksL_law_37 14 rfl rfl)
theorem dL_law_1088 : decode cL_law 1088 = .ok (.invokevirtual 129, 3) := dk_182 0 129 (dk_at dksL_law_37 15 rfl rfl)
theorem dL_law_1091 : decode cL_law 1091 = .ok (.iload 6, 2) := dk_21 6 (dk_at dksL_law_37 18 rfl rfl)
theorem dL_law_1093 : decode cL_law 1093 = .ok (.if_icmp .eq 5, 3) := dk_159 0 5 (dk_at dksL_law_37 20 rfl rfl)
theorem dL_law_1096 : decode cL_law 1096 = .ok (.iconst 0, 1) := dk_3 (dk_at dksL_law_37 23 rfl rfl)
theorem dL_law_1097 : decode cL_law 1097 = .ok (.ireturn, 1) := dk_172 (dk_at dksL_law_38 0 rfl rfl)
theorem dL_law_1098 : decode cL_law 1098 = .ok (.iload 6, 2) := dk_21 6 (dk_at dksL_law_38 1 rfl rfl)
theorem dL_law_1100 : decode cL_law 1100 = .ok (.ifCond .ne 15, 3) := dk_154 0 15 (dk_at dksL_law_38 3 rfl rfl)
theorem dL_law_1103 : decode cL_law 1103 = .ok (.aload_n 3, 1) := dk_45 (dk_at dksL_law_38 6 rfl rfl)
theorem dL_law_1104 : decode cL_law 1104 = .ok (.iconst 0, 1) := dk_3 (dk_at dksL_law_38 7 rfl rfl)
theorem dL_law_1105 : decode cL_law 1105 = .ok (.laload, 1) := dk_47 (dk_at dksL_law_38 8 rfl rfl)
theorem dL_law_1106 : decode cL_law 1106 = .ok (.iload 7, 2) := dk_21 7 (dk_at dksL_law_38 9 rfl rfl)
theorem dL_law_1108 : decode cL_law 1108 = .ok (.i2l, 1) := dk_133 (dk_at dksL_law_38 11 rfl rfl)
theorem dL_law_1109 : decode cL_law 1109 = .ok (.lcmp, 1) := dk_148 (dk_at dksL_law_38 12 rfl rfl)
theorem dL_law_1110 : decode cL_law 1110 = .ok (.ifCond .eq 5, 3) := dk_153 0 5 (dk_at dksL_law_38 13 rfl rfl)
theorem dL_law_1113 : decode cL_law 1113 = .ok (.iconst 0, 1) := dk_3 (dk_at dksL_law_38 16 rfl rfl)
theorem dL_law_1114 : decode cL_law 1114 = .ok (.ireturn, 1) := dk_172 (dk_at dksL_law_38 17 rfl rfl)
theorem dL_law_1115 : decode cL_law 1115 = .ok (.goto 1469, 3) := dk_167 5 189 (dk_at dksL_law_38 18 rfl rfl)
theorem dL_law_1118 : decode cL_law 1118 = .ok (.aload_n 1, 1) := dk_43 (dk_at dksL_law_38 21 rfl rfl)
theorem dL_law_1119 : decode cL_law 1119 = .ok (.aload_n 0, 1) := dk_42 (dk_at dksL_law_38 22 rfl rfl)
theorem dL_law_1120 : decode cL_law 1120 = .ok (.iload 5, 2) := dk_21 5 (dk_at dksL_law_39 0 rfl rfl)
theorem dL_law_1122 : decode cL_law 1122 = .ok (.iconst 1, 1) := dk_4 (dk_at dksL_law_39 2 rfl rfl)
theorem dL_law_1123 : decode cL_law 1123 = .ok (.iadd, 1) := dk_96 (dk_at dksL_law_39 3 rfl rfl)
theorem dL_law_1124 : decode cL_law 1124 = .ok (.iaload, 1) := dk_46 (dk_at dksL_law_39 4 rfl rfl)
theorem dL_law_1125 : decode cL_law 1125 = .ok (.aload_n 3, 1) := dk_45 (dk_at dksL_law_39 5 rfl rfl)
theorem dL_law_1126 : decode cL_law 1126 = .ok (.invokestatic 207, 3) := dk_184 0 207 (dk_at dksL_law_39 6 rfl rfl)
theorem dL_law_1129 : decode cL_law 1129 = .ok (.istore 6, 2) := dk_54 6 (dk_at dksL_law_39 9 rfl rfl)
theorem dL_law_1131 : decode cL_law 1131 = .ok (.aload_n 2, 1) := dk_44 (dk_at dksL_law_39 11 rfl rfl)
theorem dL_law_1132 : decode cL_law 1132 = .ok (.aload_n 0, 1) := dk_42 (dk_at dksL_law_39 12 rfl rfl)
theorem dL_law_1133 : decode cL_law 1133 = .ok (.iload 5, 2) := dk_21 5 (dk_at dksL_law_39 13 rfl rfl)
theorem dL_law_1135 : decode cL_law 1135 = .ok (.iconst 1, 1) := dk_4 (dk_at dksL_law_39 15 rfl rfl)
theorem dL_law_1136 : decode cL_law 1136 = .ok (.iadd, 1) := dk_96 (dk_at dksL_law_39 16 rfl rfl)
theorem dL_law_1137 : decode cL_law 1137 = .ok (.iaload, 1) := dk_46 (dk_at dksL_law_39 17 rfl rfl)
theorem dL_law_1138 : decode cL_law 1138 = .ok (.invokevirtual 209, 3) := dk_182 0 209 (dk_at dksL_law_39 18 rfl rfl)
theorem dL_law_1141 : decode cL_law 1141 = .ok (.istore 7, 2) := dk_54 7 (dk_at dksL_law_39 21 rfl rfl)
theorem dL_law_1143 : decode cL_law 1143 = .ok (.aload_n 2, 1) := dk_44 (dk_at dksL_law_39 23 rfl rfl)
theorem dL_law_1144 : decode cL_law 1144 = .ok (.invokevirtual 129, 3) := dk_182 0 129 (dk_at dksL_law_40 0 rfl rfl)
theorem dL_law_1147 : decode cL_law 1147 = .ok (.iload 6, 2) := dk_21 6 (dk_at dksL_law_40 3 rfl rfl)
theorem dL_law_1149 : decode cL_law 1149 = .ok (.if_icmp .eq 5, 3) := dk_159 0 5 (dk_at dksL_law_40 5 rfl rfl)
theorem dL_law_1152 : decode cL_law 1152 = .ok (.iconst 0, 1) := dk_3 (dk_at dksL_law_40 8 rfl rfl)
theorem dL_law_1153 : decode cL_law 1153 = .ok (.ireturn, 1) := dk_172 (dk_at dksL_law_40 9 rfl rfl)
theorem dL_law_1154 : decode cL_law 1154 = .ok (.iload 6, 2) := dk_21 6 (dk_at dksL_law_40 10 rfl rfl)
theorem dL_law_1156 : decode cL_law 1156 = .ok (.ifCond .ne 15, 3) := dk_154 0 15 (dk_at dksL_law_40 12 rfl rfl)
theorem dL_law_1159 : decode cL_law 1159 = .ok (.aload_n 3, 1) := dk_45 (dk_at dksL_law_40 15 rfl rfl)
theorem dL_law_1160 : decode cL_law 1160 = .ok (.iconst 0, 1) := dk_3 (dk_at dksL_law_40 16 rfl rfl)
theorem dL_law_1161 : decode cL_law 1161 = .ok (.laload, 1) := dk_47 (dk_at dksL_law_40 17 rfl rfl)
theorem dL_law_1162 : decode cL_law 1162 = .ok (.iload 7, 2) := dk_21 7 (dk_at dksL_law_40 18 rfl rfl)
theorem dL_law_1164 : decode cL_law 1164 = .ok (.i2l, 1) := dk_133 (dk_at dksL_law_40 20 rfl rfl)
theorem dL_law_1165 : decode cL_law 1165 = .ok (.lcmp, 1) := dk_148 (dk_at dksL_law_40 21 rfl rfl)
theorem dL_law_1166 : decode cL_law 1166 = .ok (.ifCond .eq 5, 3) := dk_153 0 5 (dk_at dksL_law_41 0 rfl rfl)
theorem dL_law_1169 : decode cL_law 1169 = .ok (.iconst 0, 1) := dk_3 (dk_at dksL_law_41 3 rfl rfl)
theorem dL_law_1170 : decode cL_law 1170 = .ok (.ireturn, 1) := dk_172 (dk_at dksL_law_41 4 rfl rfl)
theorem dL_law_1171 : decode cL_law 1171 = .ok (.goto 1413, 3) := dk_167 5 133 (dk_at dksL_law_41 5 rfl rfl)
theorem dL_law_1174 : decode cL_law 1174 = .ok (.aload_n 1, 1) := dk_43 (dk_at dksL_law_41 8 rfl rfl)
theorem dL_law_1175 : decode cL_law 1175 = .ok (.aload_n 0, 1) := dk_42 (dk_at dksL_law_41 9 rfl rfl)
theorem dL_law_1176 : decode cL_law 1176 = .ok (.iload 5, 2) := dk_21 5 (dk_at dksL_law_41 10 rfl rfl)
theorem dL_law_1178 : decode cL_law 1178 = .ok (.iconst 1, 1) := dk_4 (dk_at dksL_law_41 12 rfl rfl)
theorem dL_law_1179 : decode cL_law 1179 = .ok (.iadd, 1) := dk_96 (dk_at dksL_law_41 13 rfl rfl)
theorem dL_law_1180 : decode cL_law 1180 = .ok (.iaload, 1) := dk_46 (dk_at dksL_law_41 14 rfl rfl)
theorem dL_law_1181 : decode cL_law 1181 = .ok (.aload_n 3, 1) := dk_45 (dk_at dksL_law_41 15 rfl rfl)
theorem dL_law_1182 : decode cL_law 1182 = .ok (.invokestatic 210, 3) := dk_184 0 210 (dk_at dksL_law_41 16 rfl rfl)
theorem dL_law_1185 : decode cL_law 1185 = .ok (.istore 6, 2) := dk_54 6 (dk_at dksL_law_41 19 rfl rfl)
theorem dL_law_1187 : decode cL_law 1187 = .ok (.aload_n 2, 1) := dk_44 (dk_at dksL_law_41 21 rfl rfl)
theorem dL_law_1188 : decode cL_law 1188 = .ok (.aload_n 0, 1) := dk_42 (dk_at dksL_law_41 22 rfl rfl)
theorem dL_law_1189 : decode cL_law 1189 = .ok (.iload 5, 2) := dk_21 5 (dk_at dksL_law_42 0 rfl rfl)
theorem dL_law_1191 : decode cL_law 1191 = .ok (.iconst 1, 1) := dk_4 (dk_at dksL_law_42 2 rfl rfl)
theorem dL_law_1192 : decode cL_law 1192 = .ok (.iadd, 1) := dk_96 (dk_at dksL_law_42 3 rfl rfl)
theorem dL_law_1193 : decode cL_law 1193 = .ok (.iaload, 1) := dk_46 (dk_at dksL_law_42 4 rfl rfl)
theorem dL_law_1194 : decode cL_law 1194 = .ok (.invokevirtual 212, 3) := dk_182 0 212 (dk_at dksL_law_42 5 rfl rfl)
theorem dL_law_1197 : decode cL_law 1197 = .ok (.istore 7, 2) := dk_54 7 (dk_at dksL_law_42 8 rfl rfl)
theorem dL_law_1199 : decode cL_law 1199 = .ok (.aload_n 2, 1) := dk_44 (dk_at dksL_law_42 10 rfl rfl)
theorem dL_law_1200 : decode cL_law 1200 = .ok (.invokevirtual 129, 3) := dk_182 0 129 (dk_at dksL_law_42 11 rfl rfl)
theorem dL_law_1203 : decode cL_law 1203 = .ok (.iload 6, 2) := dk_21 6 (dk_at dksL_law_42 14 rfl rfl)
theorem dL_law_1205 : decode cL_law 1205 = .ok (.if_icmp .eq 5, 3) := dk_159 0 5 (dk_at dksL_law_42 16 rfl rfl)
theorem dL_law_1208 : decode cL_law 1208 = .ok (.iconst 0, 1) := dk_3 (dk_at dksL_law_42 19 rfl rfl)
theorem dL_law_1209 : decode cL_law 1209 = .ok (.ireturn, 1) := dk_172 (dk_at dksL_law_42 20 rfl rfl)
theorem dL_law_1210 : decode cL_law 1210 = .ok (.iload 6, 2) := dk_21 6 (dk_at dksL_law_42 21 rfl rfl)
theorem dL_law_1212 : decode cL_law 1212 = .ok (.ifCond .ne 15, 3) := dk_154 0 15 (dk_at dksL_law_43 0 rfl rfl)
theorem dL_law_1215 : decode cL_law 1215 = .ok (.aload_n 3, 1) := dk_45 (dk_at dksL_law_43 3 rfl rfl)
theorem dL_law_1216 : decode cL_law 1216 = .ok (.iconst 0, 1) := dk_3 (dk_at dksL_law_43 4 rfl rfl)
theorem dL_law_1217 : decode cL_law 1217 = .ok (.laload, 1) := dk_47 (dk_at dksL_law_43 5 rfl rfl)
theorem dL_law_1218 : decode cL_law 1218 = .ok (.iload 7, 2) := dk_21 7 (dk_at dksL_law_43 6 rfl rfl)
theorem dL_law_1220 : decode cL_law 1220 = .ok (.i2l, 1) := dk_133 (dk_at dksL_law_43 8 rfl rfl)
theorem dL_law_1221 : decode cL_law 1221 = .ok (.lcmp, 1) := dk_148 (dk_at dksL_law_43 9 rfl rfl)
theorem dL_law_1222 : decode cL_law 1222 = .ok (.ifCond .eq 5, 3) := dk_153 0 5 (dk_at dksL_law_43 10 rfl rfl)
theorem dL_law_1225 : decode cL_law 1225 = .ok (.iconst 0, 1) := dk_3 (dk_at dksL_law_43 13 rfl rfl)
theorem dL_law_1226 : decode cL_law 1226 = .ok (.ireturn, 1) := dk_172 (dk_at dksL_law_43 14 rfl rfl)
theorem dL_law_1227 : decode cL_law 1227 = .ok (.goto 1357, 3) := dk_167 5 77 (dk_at dksL_law_43 15 rfl rfl)
theorem dL_law_1230 : decode cL_law 1230 = .ok (.aload_n 1, 1) := dk_43 (dk_at dksL_law_43 18 rfl rfl)
theorem dL_law_1231 : decode cL_law 1231 = .ok (.aload_n 0, 1) := dk_42 (dk_at dksL_law_43 19 rfl rfl)
theorem dL_law_1232 : decode cL_law 1232 = .ok (.iload 5, 2) := dk_21 5 (dk_at dksL_law_43 20 rfl rfl)
theorem dL_law_1234 : decode cL_law 1234 = .ok (.iconst 1, 1) := dk_4 (dk_at dksL_law_43 22 rfl rfl)
theorem dL_law_1235 : decode cL_law 1235 = .ok (.iadd, 1) := dk_96 (dk_at dksL_law_43 23 rfl rfl)
theorem dL_law_1236 : decode cL_law 1236 = .ok (.iaload, 1) := dk_46 (dk_at dksL_law_44 0 rfl rfl)
theorem dL_law_1237 : decode cL_law 1237 = .ok (.aload_n 0, 1) := dk_42 (dk_at dksL_law_44 1 rfl rfl)
theorem dL_law_1238 : decode cL_law 1238 = .ok (.iload 5, 2) := dk_21 5 (dk_at dksL_law_44 2 rfl rfl)
theorem dL_law_1240 : decode cL_law 1240 = .ok (.iconst 2, 1) := dk_5 (dk_at dksL_law_44 4 rfl rfl)
theorem dL_law_1241 : decode cL_law 1241 = .ok (.iadd, 1) := dk_96 (dk_at dksL_law_44 5 rfl rfl)
theorem dL_law_1242 : decode cL_law 1242 = .ok (.iaload, 1) := dk_46 (dk_at dksL_law_44 6 rfl rfl)
theorem dL_law_1243 : decode cL_law 1243 = .ok (.aload_n 0, 1) := dk_42 (dk_at dksL_law_44 7 rfl rfl)
theorem dL_law_1244 : decode cL_law 1244 = .ok (.iload 5, 2) := dk_21 5 (dk_at dksL_law_44 8 rfl rfl)
theorem dL_law_1246 : decode cL_law 1246 = .ok (.iconst 3, 1) := dk_6 (dk_at dksL_law_44 10 rfl rfl)
theorem dL_law_1247 : decode cL_law 1247 = .ok (.iadd, 1) := dk_96 (dk_at dksL_law_44 11 rfl rfl)
theorem dL_law_1248 : decode cL_law 1248 = .ok (.iaload, 1) := dk_46 (dk_at dksL_law_44 12 rfl rfl)
theorem dL_law_1249 : decode cL_law 1249 = .ok (.aload_n 3, 1) := dk_45 (dk_at dksL_law_44 13 rfl rfl)
theorem dL_law_1250 : decode cL_law 1250 = .ok (.invokestatic 213, 3) := dk_184 0 213 (dk_at dksL_law_44 14 rfl rfl)
theorem dL_law_1253 : decode cL_law 1253 = .ok (.istore 6, 2) := dk_54 6 (dk_at dksL_law_44 17 rfl rfl)
theorem dL_law_1255 : decode cL_law 1255 = .ok (.aload_n 2, 1) := dk_44 (dk_at dksL_law_44 19 rfl rfl)
theorem dL_law_1256 : decode cL_law 1256 = .ok (.aload_n 0, 1) := dk_42 (dk_at dksL_law_44 20 rfl rfl)
theorem dL_law_1257 : decode cL_law 1257 = .ok (.iload 5, 2) := dk_21 5 (dk_at dksL_law_44 21 rfl rfl)
theorem dL_law_1259 : decode cL_law 1259 = .ok (.iconst 1, 1) := dk_4 (dk_at dksL_law_44 23 rfl rfl)
theorem dL_law_1260 : decode cL_law 1260 = .ok (.iadd, 1) := dk_96 (dk_at dksL_law_45 0 rfl rfl)
theorem dL_law_1261 : decode cL_law 1261 = .ok (.iaload, 1) := dk_46 (dk_at dksL_law_45 1 rfl rfl)
theorem dL_law_1262 : decode cL_law 1262 = .ok (.aload_n 0, 1) := dk_42 (dk_at dksL_law_45 2 rfl rfl)
theorem dL_law_1263 : decode cL_law 1263 = .ok (.iload 5, 2) := dk_21 5 (dk_at dksL_law_45 3 rfl rfl)
theorem dL_law_1265 : decode cL_law 1265 = .ok (.iconst 2, 1) := dk_5 (dk_at dksL_law_45 5 rfl rfl)
theorem dL_law_1266 : decode cL_law 1266 = .ok (.iadd, 1) := dk_96 (dk_at dksL_law_45 6 rfl rfl)
theorem dL_law_1267 : decode cL_law 1267 = .ok (.iaload, 1) := dk_46 (dk_at dksL_law_45 7 rfl rfl)
theorem dL_law_1268 : decode cL_law 1268 = .ok (.aload_n 0, 1) := dk_42 (dk_at dksL_law_45 8 rfl rfl)
theorem dL_law_1269 : decode cL_law 1269 = .ok (.iload 5, 2) := dk_21 5 (dk_at dksL_law_45 9 rfl rfl)
theorem dL_law_1271 : decode cL_law 1271 = .ok (.iconst 3, 1) := dk_6 (dk_at dksL_law_45 11 rfl rfl)
theorem dL_law_1272 : decode cL_law 1272 = .ok (.iadd, 1) := dk_96 (dk_at dksL_law_45 12 rfl rfl)
theorem dL_law_1273 : decode cL_law 1273 = .ok (.iaload, 1) := dk_46 (dk_at dksL_law_45 13 rfl rfl)
theorem dL_law_1274 : decode cL_law 1274 = .ok (.invokevirtual 216, 3) := dk_182 0 216 (dk_at dksL_law_45 14 rfl rfl)
theorem dL_law_1277 : decode cL_law 1277 = .ok (.istore 7, 2) := dk_54 7 (dk_at dksL_law_45 17 rfl rfl)
theorem dL_law_1279 : decode cL_law 1279 = .ok (.aload_n 2, 1) := dk_44 (dk_at dksL_law_45 19 rfl rfl)
theorem dL_law_1280 : decode cL_law 1280 = .ok (.invokevirtual 129, 3) := dk_182 0 129 (dk_at dksL_law_45 20 rfl rfl)
theorem dL_law_1283 : decode cL_law 1283 = .ok (.iload 6, 2) := dk_21 6 (dk_at dksL_law_46 0 rfl rfl)
theorem dL_law_1285 : decode cL_law 1285 = .ok (.if_icmp .eq 5, 3) := dk_159 0 5 (dk_at dksL_law_46 2 rfl rfl)
theorem dL_law_1288 : decode cL_law 1288 = .ok (.iconst 0, 1) := dk_3 (dk_at dksL_law_46 5 rfl rfl)
theorem dL_law_1289 : decode cL_law 1289 = .ok (.ireturn, 1) := dk_172 (dk_at dksL_law_46 6 rfl rfl)
theorem dL_law_1290 : decode cL_law 1290 = .ok (.iload 6, 2) := dk_21 6 (dk_at dksL_law_46 7 rfl rfl)
theorem dL_law_1292 : decode cL_law 1292 = .ok (.ifCond .ne 15, 3) := dk_154 0 15 (dk_at dksL_law_46 9 rfl rfl)
theorem dL_law_1295 : decode cL_law 1295 = .ok (.aload_n 3, 1) := dk_45 (dk_at dksL_law_46 12 rfl rfl)
theorem dL_law_1296 : decode cL_law 1296 = .ok (.iconst 0, 1) := dk_3 (dk_at dksL_law_46 13 rfl rfl)
theorem dL_law_1297 : decode cL_law 1297 = .ok (.laload, 1) := dk_47 (dk_at dksL_law_46 14 rfl rfl)
theorem dL_law_1298 : decode cL_law 1298 = .ok (.iload 7, 2) := dk_21 7 (dk_at dksL_law_46 15 rfl rfl)
theorem dL_law_1300 : decode cL_law 1300 = .ok (.i2l, 1) := dk_133 (dk_at dksL_law_46 17 rfl rfl)
theorem dL_law_1301 : decode cL_law 1301 = .ok (.lcmp, 1) := dk_148 (dk_at dksL_law_46 18 rfl rfl)
theorem dL_law_1302 : decode cL_law 1302 = .ok (.ifCond .eq 5, 3) := dk_153 0 5 (dk_at dksL_law_46 19 rfl rfl)
theorem dL_law_1305 : decode cL_law 1305 = .ok (.iconst 0, 1) := dk_3 (dk_at dksL_law_46 22 rfl rfl)
theorem dL_law_1306 : decode cL_law 1306 = .ok (.ireturn, 1) := dk_172 (dk_at dksL_law_46 23 rfl rfl)
theorem dL_law_1307 : decode cL_law 1307 = .ok (.goto 1277, 3) := dk_167 4 253 (dk_at dksL_law_47 0 rfl rfl)
theorem dL_law_1310 : decode cL_law 1310 = .ok (.aload_n 1, 1) := dk_43 (dk_at dksL_law_47 3 rfl rfl)
theorem dL_law_1311 : decode cL_law 1311 = .ok (.aload_n 0, 1) := dk_42 (dk_at dksL_law_47 4 rfl rfl)
theorem dL_law_1312 : decode cL_law 1312 = .ok (.iload 5, 2) := dk_21 5 (dk_at dksL_law_47 5 rfl rfl)
theorem dL_law_1314 : decode cL_law 1314 = .ok (.iconst 1, 1) := dk_4 (dk_at dksL_law_47 7 rfl rfl)
theorem dL_law_1315 : decode cL_law 1315 = .ok (.iadd, 1) := dk_96 (dk_at dksL_law_47 8 rfl rfl)
theorem dL_law_1316 : decode cL_law 1316 = .ok (.iaload, 1) := dk_46 (dk_at dksL_law_47 9 rfl rfl)
theorem dL_law_1317 : decode cL_law 1317 = .ok (.aload_n 3, 1) := dk_45 (dk_at dksL_law_47 10 rfl rfl)
theorem dL_law_1318 : decode cL_law 1318 = .ok (.invokestatic 217, 3) := dk_184 0 217 (dk_at dksL_law_47 11 rfl rfl)
theorem dL_law_1321 : decode cL_law 1321 = .ok (.istore 6, 2) := dk_54 6 (dk_at dksL_law_47 14 rfl rfl)
theorem dL_law_1323 : decode cL_law 1323 = .ok (.aload_n 2, 1) := dk_44 (dk_at dksL_law_47 16 rfl rfl)
theorem dL_law_1324 : decode cL_law 1324 = .ok (.aload_n 0, 1) := dk_42 (dk_at dksL_law_47 17 rfl rfl)
theorem dL_law_1325 : decode cL_law 1325 = .ok (.iload 5, 2) := dk_21 5 (dk_at dksL_law_47 18 rfl rfl)
theorem dL_law_1327 : decode cL_law 1327 = .ok (.iconst 1, 1) := dk_4 (dk_at dksL_law_47 20 rfl rfl)
theorem dL_law_1328 : decode cL_law 1328 = .ok (.iadd, 1) := dk_96 (dk_at dksL_law_47 21 rfl rfl)
theorem dL_law_1329 : decode cL_law 1329 = .ok (.iaload, 1) := dk_46 (dk_at dksL_law_47 22 rfl rfl)
theorem dL_law_1330 : decode cL_law 1330 = .ok (.invokevirtual 219, 3) := dk_182 0 219 (dk_at dksL_law_48 0 rfl rfl)
theorem dL_law_1333 : decode cL_law 1333 = .ok (.istore 7, 2) := dk_54 7 (dk_at dksL_law_48 3 rfl rfl)
theorem dL_law_1335 : decode cL_law 1335 = .ok (.aload_n 2, 1) := dk_44 (dk_at dksL_law_48 5 rfl rfl)
theorem dL_law_1336 : decode cL_law 1336 = .ok (.invokevirtual 129, 3) := dk_182 0 129 (dk_at dksL_law_48 6 rfl rfl)
theorem dL_law_1339 : decode cL_law 1339 = .ok (.iload 6, 2) := dk_21 6 (dk_at dksL_law_48 9 rfl rfl)
theorem dL_law_1341 : decode cL_law 1341 = .ok (.if_icmp .eq 5, 3) := dk_159 0 5 (dk_at dksL_law_48 11 rfl rfl)
theorem dL_law_1344 : decode cL_law 1344 = .ok (.iconst 0, 1) := dk_3 (dk_at dksL_law_48 14 rfl rfl)
theorem dL_law_1345 : decode cL_law 1345 = .ok (.ireturn, 1) := dk_172 (dk_at dksL_law_48 15 rfl rfl)
theorem dL_law_1346 : decode cL_law 1346 = .ok (.iload 6, 2) := dk_21 6 (dk_at dksL_law_48 16 rfl rfl)
theorem dL_law_1348 : decode cL_law 1348 = .ok (.ifCond .ne 15, 3) := dk_154 0 15 (dk_at dksL_law_48 18 rfl rfl)
theorem dL_law_1351 : decode cL_law 1351 = .ok (.aload_n 3, 1) := dk_45 (dk_at dksL_law_48 21 rfl rfl)
theorem dL_law_1352 : decode cL_law 1352 = .ok (.iconst 0, 1) := dk_3 (dk_at dksL_law_48 22 rfl rfl)
theorem dL_law_1353 : decode cL_law 1353 = .ok (.laload, 1) := dk_47 (dk_at dksL_law_48 23 rfl rfl)
theorem dL_law_1354 : decode cL_law 1354 = .ok (.iload 7, 2) := dk_21 7 (dk_at dksL_law_49 0 rfl rfl)
theorem dL_law_1356 : decode cL_law 1356 = .ok (.i2l, 1) := dk_133 (dk_at dksL_law_49 2 rfl rfl)
theorem dL_law_1357 : decode cL_law 1357 = .ok (.lcmp, 1) := dk_148 (dk_at dksL_law_49 3 rfl rfl)
theorem dL_law_1358 : decode cL_law 1358 = .ok (.ifCond .eq 5, 3) := dk_153 0 5 (dk_at dksL_law_49 4 rfl rfl)
theorem dL_law_1361 : decode cL_law 1361 = .ok (.iconst 0, 1) := dk_3 (dk_at dksL_law_49 7 rfl rfl)
theorem dL_law_1362 : decode cL_law 1362 = .ok (.ireturn, 1) := dk_172 (dk_at dksL_law_49 8 rfl rfl)
theorem dL_law_1363 : decode cL_law 1363 = .ok (.goto 1221, 3) := dk_167 4 197 (dk_at dksL_law_49 9 rfl rfl)
theorem dL_law_1366 : decode cL_law 1366 = .ok (.aload_n 1, 1) := dk_43 (dk_at dksL_law_49 12 rfl rfl)
theorem dL_law_1367 : decode cL_law 1367 = .ok (.aload_n 0, 1) := dk_42 (dk_at dksL_law_49 13 rfl rfl)
theorem dL_law_1368 : decode cL_law 1368 = .ok (.iload 5, 2) := dk_21 5 (dk_at dksL_law_49 14 rfl rfl)
theorem dL_law_1370 : decode cL_law 1370 = .ok (.iconst 1, 1) := dk_4 (dk_at dksL_law_49 16 rfl rfl)
theorem dL_law_1371 : decode cL_law 1371 = .ok (.iadd, 1) := dk_96 (dk_at dksL_law_49 17 rfl rfl)
theorem dL_law_1372 : decode cL_law 1372 = .ok (.iaload, 1) := dk_46 (dk_at dksL_law_49 18 rfl rfl)
theorem dL_law_1373 : decode cL_law 1373 = .ok (.aload_n 3, 1) := dk_45 (dk_at dksL_law_49 19 rfl rfl)
theorem dL_law_1374 : decode cL_law 1374 = .ok (.invokestatic 220, 3) := dk_184 0 220 (dk_at dksL_law_49 20 rfl rfl)
theorem dL_law_1377 : decode cL_law 1377 = .ok (.istore 6, 2) := dk_54 6 (dk_at dksL_law_50 0 rfl rfl)
theorem dL_law_1379 : decode cL_law 1379 = .ok (.aload_n 2, 1) := dk_44 (dk_at dksL_law_50 2 rfl rfl)
theorem dL_law_1380 : decode cL_law 1380 = .ok (.aload_n 0, 1) := dk_42 (dk_at dksL_law_50 3 rfl rfl)
theorem dL_law_1381 : decode cL_law 1381 = .ok (.iload 5, 2) := dk_21 5 (dk_at dksL_law_50 4 rfl rfl)
theorem dL_law_1383 : decode cL_law 1383 = .ok (.iconst 1, 1) := dk_4 (dk_at dksL_law_50 6 rfl rfl)
theorem dL_law_1384 : decode cL_law 1384 = .ok (.iadd, 1) := dk_96 (dk_at dksL_law_50 7 rfl rfl)
theorem dL_law_1385 : decode cL_law 1385 = .ok (.iaload, 1) := dk_46 (dk_at dksL_law_50 8 rfl rfl)
theorem dL_law_1386 : decode cL_law 1386 = .ok (.invokevirtual 222, 3) := dk_182 0 222 (dk_at dksL_law_50 9 rfl rfl)
theorem dL_law_1389 : decode cL_law 1389 = .ok (.istore 7, 2) := dk_54 7 (dk_at dksL_law_50 12 rfl rfl)
theorem dL_law_1391 : decode cL_law 1391 = .ok (.aload_n 2, 1) := dk_44 (dk_at dksL_law_50 14 rfl rfl)
theorem dL_law_1392 : decode cL_law 1392 = .ok (.invokevirtual 129, 3) := dk_182 0 129 (dk_at dksL_law_50 15 rfl rfl)
theorem dL_law_1395 : decode cL_law 1395 = .ok (.iload 6, 2) := dk_21 6 (dk_at dksL_law_50 18 rfl rfl)
theorem dL_law_1397 : decode cL_law 1397 = .ok (.if_icmp .eq 5, 3) := dk_159 0 5 (dk_at dksL_law_50 20 rfl rfl)
theorem dL_law_1400 : decode cL_law 1400 = .ok (.iconst 0, 1) := dk_3 (dk_at dksL_law_50 23 rfl rfl)
theorem dL_law_1401 : decode cL_law 1401 = .ok (.ireturn, 1) := dk_172 (dk_at dksL_law_51 0 rfl rfl)
theorem dL_law_1402 : decode cL_law 1402 = .ok (.iload 6, 2) := dk_21 6 (dk_at dksL_law_51 1 rfl rfl)
theorem dL_law_1404 : decode cL_law 1404 = .ok (.ifCond .ne 15, 3) := dk_154 0 15 (dk_at dksL_law_51 3 rfl rfl)
theorem dL_law_1407 : decode cL_law 1407 = .ok (.aload_n 3, 1) := dk_45 (dk_at dksL_law_51 6 rfl rfl)
theorem dL_law_1408 : decode cL_law 1408 = .ok (.iconst 0, 1) := dk_3 (dk_at dksL_law_51 7 rfl rfl)
theorem dL_law_1409 : decode cL_law 1409 = .ok (.laload, 1) := dk_47 (dk_at dksL_law_51 8 rfl rfl)
theorem dL_law_1410 : decode cL_law 1410 = .ok (.iload 7, 2) := dk_21 7 (dk_at dksL_law_51 9 rfl rfl)
theorem dL_law_1412 : decode cL_law 1412 = .ok (.i2l, 1) := dk_133 (dk_at dksL_law_51 11 rfl rfl)
theorem dL_law_1413 : decode cL_law 1413 = .ok (.lcmp, 1) := dk_148 (dk_at dksL_law_51 12 rfl rfl)
theorem dL_law_1414 : decode cL_law 1414 = .ok (.ifCond .eq 5, 3) := dk_153 0 5 (dk_at dksL_law_51 13 rfl rfl)
theorem dL_law_1417 : decode cL_law 1417 = .ok (.iconst 0, 1) := dk_3 (dk_at dksL_law_51 16 rfl rfl)
theorem dL_law_1418 : decode cL_law 1418 = .ok (.ireturn, 1) := dk_172 (dk_at dksL_law_51 17 rfl rfl)
theorem dL_law_1419 : decode cL_law 1419 = .ok (.goto 1165, 3) := dk_167 4 141 (dk_at dksL_law_51 18 rfl rfl)
theorem dL_law_1422 : decode cL_law 1422 = .ok (.aload_n 1, 1) := dk_43 (dk_at dksL_law_51 21 rfl rfl)
theorem dL_law_1423 : decode cL_law 1423 = .ok (.aload_n 0, 1) := dk_42 (dk_at dksL_law_51 22 rfl rfl)
theorem dL_law_1424 : decode cL_law 1424 = .ok (.iload 5, 2) := dk_21 5 (dk_at dksL_law_52 0 rfl rfl)
theorem dL_law_1426 : decode cL_law 1426 = .ok (.iconst 1, 1) := dk_4 (dk_at dksL_law_52 2 rfl rfl)
theorem dL_law_1427 : decode cL_law 1427 = .ok (.iadd, 1) := dk_96 (dk_at dksL_law_52 3 rfl rfl)
theorem dL_law_1428 : decode cL_law 1428 = .ok (.iaload, 1) := dk_46 (dk_at dksL_law_52 4 rfl rfl)
theorem dL_law_1429 : decode cL_law 1429 = .ok (.aload_n 0, 1) := dk_42 (dk_at dksL_law_52 5 rfl rfl)
theorem dL_law_1430 : decode cL_law 1430 = .ok (.iload 5, 2) := dk_21 5 (dk_at dksL_law_52 6 rfl rfl)
theorem dL_law_1432 : decode cL_law 1432 = .ok (.iconst 2, 1) := dk_5 (dk_at dksL_law_52 8 rfl rfl)
theorem dL_law_1433 : decode cL_law 1433 = .ok (.iadd, 1) := dk_96 (dk_at dksL_law_52 9 rfl rfl)
theorem dL_law_1434 : decode cL_law 1434 = .ok (.iaload, 1) := dk_46 (dk_at dksL_law_52 10 rfl rfl)
theorem dL_law_1435 : decode cL_law 1435 = .ok (.aload_n 3, 1) := dk_45 (dk_at dksL_law_52 11 rfl rfl)
theorem dL_law_1436 : decode cL_law 1436 = .ok (.invokestatic 223, 3) := dk_184 0 223 (dk_at dksL_law_52 12 rfl rfl)
theorem dL_law_1439 : decode cL_law 1439 = .ok (.istore 6, 2) := dk_54 6 (dk_at dksL_law_52 15 rfl rfl)
theorem dL_law_1441 : decode cL_law 1441 = .ok (.aload_n 2, 1) := dk_44 (dk_at dksL_law_52 17 rfl rfl)
theorem dL_law_1442 : decode cL_law 1442 = .ok (.aload_n 0, 1) := dk_42 (dk_at dksL_law_52 18 rfl rfl)
theorem dL_law_1443 : decode cL_law 1443 = .ok (.iload 5, 2) := dk_21 5 (dk_at dksL_law_52 19 rfl rfl)
theorem dL_law_1445 : decode cL_law 1445 = .ok (.iconst 1, 1) := dk_4 (dk_at dksL_law_52 21 rfl rfl)
theorem dL_law_1446 : decode cL_law 1446 = .ok (.iadd, 1) := dk_96 (dk_at dksL_law_52 22 rfl rfl)
theorem dL_law_1447 : decode cL_law 1447 = .ok (.iaload, 1) := dk_46 (dk_at dksL_law_52 23 rfl rfl)
theorem dL_law_1448 : decode cL_law 1448 = .ok (.aload_n 0, 1) := dk_42 (dk_at dksL_law_53 0 rfl rfl)
theorem dL_law_1449 : decode cL_law 1449 = .ok (.iload 5, 2) := dk_21 5 (dk_at dksL_law_53 1 rfl rfl)
theorem dL_law_1451 : decode cL_law 1451 = .ok (.iconst 2, 1) := dk_5 (dk_at dksL_law_53 3 rfl rfl)
theorem dL_law_1452 : decode cL_law 1452 = .ok (.iadd, 1) := dk_96 (dk_at dksL_law_53 4 rfl rfl)
theorem dL_law_1453 : decode cL_law 1453 = .ok (.iaload, 1) := dk_46 (dk_at dksL_law_53 5 rfl rfl)
theorem dL_law_1454 : decode cL_law 1454 = .ok (.invokevirtual 226, 3) := dk_182 0 226 (dk_at dksL_law_53 6 rfl rfl)
theorem dL_law_1457 : decode cL_law 1457 = .ok (.istore 7, 2) := dk_54 7 (dk_at dksL_law_53 9 rfl rfl)
theorem dL_law_1459 : decode cL_law 1459 = .ok (.aload_n 2, 1) := dk_44 (dk_at dksL_law_53 11 rfl rfl)
theorem dL_law_1460 : decode cL_law 1460 = .ok (.invokevirtual 129, 3) := dk_182 0 129 (dk_at dksL_law_53 12 rfl rfl)
theorem dL_law_1463 : decode cL_law 1463 = .ok (.iload 6, 2) := dk_21 6 (dk_at dksL_law_53 15 rfl rfl)
theorem dL_law_1465 : decode cL_law 1465 = .ok (.if_icmp .eq 5, 3) := dk_159 0 5 (dk_at dksL_law_53 17 rfl rfl)
theorem dL_law_1468 : decode cL_law 1468 = .ok (.iconst 0, 1) := dk_3 (dk_at dksL_law_53 20 rfl rfl)
theorem dL_law_1469 : decode cL_law 1469 = .ok (.ireturn, 1) := dk_172 (dk_at dksL_law_53 21 rfl rfl)
theorem dL_law_1470 : decode cL_law 1470 = .ok (.iload 6, 2) := dk_21 6 (dk_at dksL_law_53 22 rfl rfl)
theorem dL_law_1472 : decode cL_law 1472 = .ok (.ifCond .ne 15, 3) := dk_154 0 15 (dk_at dksL_law_54 0 rfl rfl)
theorem dL_law_1475 : decode cL_law 1475 = .ok (.aload_n 3, 1) := dk_45 (dk_at dksL_law_54 3 rfl rfl)
theorem dL_law_1476 : decode cL_law 1476 = .ok (.iconst 0, 1) := dk_3 (dk_at dksL_law_54 4 rfl rfl)
theorem dL_law_1477 : decode cL_law 1477 = .ok (.laload, 1) := dk_47 (dk_at dksL_law_54 5 rfl rfl)
theorem dL_law_1478 : decode cL_law 1478 = .ok (.iload 7, 2) := dk_21 7 (dk_at dksL_law_54 6 rfl rfl)
theorem dL_law_1480 : decode cL_law 1480 = .ok (.i2l, 1) := dk_133 (dk_at dksL_law_54 8 rfl rfl)
theorem dL_law_1481 : decode cL_law 1481 = .ok (.lcmp, 1) := dk_148 (dk_at dksL_law_54 9 rfl rfl)
theorem dL_law_1482 : decode cL_law 1482 = .ok (.ifCond .eq 5, 3) := dk_153 0 5 (dk_at dksL_law_54 10 rfl rfl)
theorem dL_law_1485 : decode cL_law 1485 = .ok (.iconst 0, 1) := dk_3 (dk_at dksL_law_54 13 rfl rfl)
theorem dL_law_1486 : decode cL_law 1486 = .ok (.ireturn, 1) := dk_172 (dk_at dksL_law_54 14 rfl rfl)
theorem dL_law_1487 : decode cL_law 1487 = .ok (.goto 1097, 3) := dk_167 4 73 (dk_at dksL_law_54 15 rfl rfl)
theorem dL_law_1490 : decode cL_law 1490 = .ok (.aload_n 1, 1) := dk_43 (dk_at dksL_law_54 18 rfl rfl)
theorem dL_law_1491 : decode cL_law 1491 = .ok (.invokevirtual 227, 3) := dk_182 0 227 (dk_at dksL_law_54 19 rfl rfl)
theorem dL_law_1494 : decode cL_law 1494 = .ok (.aload_n 2, 1) := dk_44 (dk_at dksL_law_54 22 rfl rfl)
theorem dL_law_1495 : decode cL_law 1495 = .ok (.invokevirtual 230, 3) := dk_182 0 230 (dk_at dksL_law_55 0 rfl rfl)
theorem dL_law_1498 : decode cL_law 1498 = .ok (.if_icmp .eq 1086, 3) := dk_159 4 62 (dk_at dksL_law_55 3 rfl rfl)
theorem dL_law_1501 : decode cL_law 1501 = .ok (.iconst 0, 1) := dk_3 (dk_at dksL_law_55 6 rfl rfl)
theorem dL_law_1502 : decode cL_law 1502 = .ok (.ireturn, 1) := dk_172 (dk_at dksL_law_55 7 rfl rfl)
theorem dL_law_1503 : decode cL_law 1503 = .ok (.aload_n 1, 1) := dk_43 (dk_at dksL_law_55 8 rfl rfl)
theorem dL_law_1504 : decode cL_law 1504 = .ok (.invokevirtual 231, 3) := dk_182 0 231 (dk_at dksL_law_55 9 rfl rfl)
theorem dL_law_1507 : decode cL_law 1507 = .ok (.aload_n 2, 1) := dk_44 (dk_at dksL_law_55 12 rfl rfl)
theorem dL_law_1508 : decode cL_law 1508 = .ok (.invokevirtual 234, 3) := dk_182 0 234 (dk_at dksL_law_55 13 rfl rfl)
theorem dL_law_1511 : decode cL_law 1511 = .ok (.if_icmp .eq 1073, 3) := dk_159 4 49 (dk_at dksL_law_55 16 rfl rfl)
theorem dL_law_1514 : decode cL_law 1514 = .ok (.iconst 0, 1) := dk_3 (dk_at dksL_law_55 19 rfl rfl)
theorem dL_law_1515 : decode cL_law 1515 = .ok (.ireturn, 1) := dk_172 (dk_at dksL_law_55 20 rfl rfl)
theorem dL_law_1516 : decode cL_law 1516 = .ok (.aload_n 1, 1) := dk_43 (dk_at dksL_law_55 21 rfl rfl)
theorem dL_law_1517 : decode cL_law 1517 = .ok (.invokevirtual 235, 3) := dk_182 0 235 (dk_at dksL_law_56 0 rfl rfl)
theorem dL_law_1520 : decode cL_law 1520 = .ok (.aload_n 2, 1) := dk_44 (dk_at dksL_law_56 3 rfl rfl)
theorem dL_law_1521 : decode cL_law 1521 = .ok (.invokevirtual 238, 3) := dk_182 0 238 (dk_at dksL_law_56 4 rfl rfl)
theorem dL_law_1524 : decode cL_law 1524 = .ok (.if_icmp .eq 1060, 3) := dk_159 4 36 (dk_at dksL_law_56 7 rfl rfl)
theorem dL_law_1527 : decode cL_law 1527 = .ok (.iconst 0, 1) := dk_3 (dk_at dksL_law_56 10 rfl rfl)
theorem dL_law_1528 : decode cL_law 1528 = .ok (.ireturn, 1) := dk_172 (dk_at dksL_law_56 11 rfl rfl)
theorem dL_law_1529 : decode cL_law 1529 = .ok (.aload_n 1, 1) := dk_43 (dk_at dksL_law_56 12 rfl rfl)
theorem dL_law_1530 : decode cL_law 1530 = .ok (.invokevirtual 239, 3) := dk_182 0 239 (dk_at dksL_law_56 13 rfl rfl)
theorem dL_law_1533 : decode cL_law 1533 = .ok (.aload_n 2, 1) := dk_44 (dk_at dksL_law_56 16 rfl rfl)
theorem dL_law_1534 : decode cL_law 1534 = .ok (.invokevirtual 242, 3) := dk_182 0 242 (dk_at dksL_law_56 17 rfl rfl)
theorem dL_law_1537 : decode cL_law 1537 = .ok (.if_icmp .eq 1047, 3) := dk_159 4 23 (dk_at dksL_law_56 20 rfl rfl)
theorem dL_law_1540 : decode cL_law 1540 = .ok (.iconst 0, 1) := dk_3 (dk_at dksL_law_56 23 rfl rfl)
theorem dL_law_1541 : decode cL_law 1541 = .ok (.ireturn, 1) := dk_172 (dk_at dksL_law_57 0 rfl rfl)
theorem dL_law_1542 : decode cL_law 1542 = .ok (.aload_n 1, 1) := dk_43 (dk_at dksL_law_57 1 rfl rfl)
theorem dL_law_1543 : decode cL_law 1543 = .ok (.aload_n 0, 1) := dk_42 (dk_at dksL_law_57 2 rfl rfl)
theorem dL_law_1544 : decode cL_law 1544 = .ok (.iload 5, 2) := dk_21 5 (dk_at dksL_law_57 3 rfl rfl)
theorem dL_law_1546 : decode cL_law 1546 = .ok (.iconst 1, 1) := dk_4 (dk_at dksL_law_57 5 rfl rfl)
theorem dL_law_1547 : decode cL_law 1547 = .ok (.iadd, 1) := dk_96 (dk_at dksL_law_57 6 rfl rfl)
theorem dL_law_1548 : decode cL_law 1548 = .ok (.iaload, 1) := dk_46 (dk_at dksL_law_57 7 rfl rfl)
theorem dL_law_1549 : decode cL_law 1549 = .ok (.aload_n 0, 1) := dk_42 (dk_at dksL_law_57 8 rfl rfl)
theorem dL_law_1550 : decode cL_law 1550 = .ok (.iload 5, 2) := dk_21 5 (dk_at dksL_law_57 9 rfl rfl)
theorem dL_law_1552 : decode cL_law 1552 = .ok (.iconst 2, 1) := dk_5 (dk_at dksL_law_57 11 rfl rfl)
theorem dL_law_1553 : decode cL_law 1553 = .ok (.iadd, 1) := dk_96 (dk_at dksL_law_57 12 rfl rfl)
theorem dL_law_1554 : decode cL_law 1554 = .ok (.iaload, 1) := dk_46 (dk_at dksL_law_57 13 rfl rfl)
theorem dL_law_1555 : decode cL_law 1555 = .ok (.aload_n 0, 1) := dk_42 (dk_at dksL_law_57 14 rfl rfl)
theorem dL_law_1556 : decode cL_law 1556 = .ok (.iload 5, 2) := dk_21 5 (dk_at dksL_law_57 15 rfl rfl)
theorem dL_law_1558 : decode cL_law 1558 = .ok (.iconst 3, 1) := dk_6 (dk_at dksL_law_57 17 rfl rfl)
theorem dL_law_1559 : decode cL_law 1559 = .ok (.iadd, 1) := dk_96 (dk_at dksL_law_57 18 rfl rfl)
theorem dL_law_1560 : decode cL_law 1560 = .ok (.iaload, 1) := dk_46 (dk_at dksL_law_57 19 rfl rfl)
theorem dL_law_1561 : decode cL_law 1561 = .ok (.aload_n 3, 1) := dk_45 (dk_at dksL_law_57 20 rfl rfl)
theorem dL_law_1562 : decode cL_law 1562 = .ok (.invokestatic 243, 3) := dk_184 0 243 (dk_at dksL_law_57 21 rfl rfl)
theorem dL_law_1565 : decode cL_law 1565 = .ok (.istore 6, 2) := dk_54 6 (dk_at dksL_law_58 0 rfl rfl)
theorem dL_law_1567 : decode cL_law 1567 = .ok (.aload_n 2, 1) := dk_44 (dk_at dksL_law_58 2 rfl rfl)
theorem dL_law_1568 : decode cL_law 1568 = .ok (.aload_n 0, 1) := dk_42 (dk_at dksL_law_58 3 rfl rfl)
theorem dL_law_1569 : decode cL_law 1569 = .ok (.iload 5, 2) := dk_21 5 (dk_at dksL_law_58 4 rfl rfl)
theorem dL_law_1571 : decode cL_law 1571 = .ok (.iconst 1, 1) := dk_4 (dk_at dksL_law_58 6 rfl rfl)
theorem dL_law_1572 : decode cL_law 1572 = .ok (.iadd, 1) := dk_96 (dk_at dksL_law_58 7 rfl rfl)
theorem dL_law_1573 : decode cL_law 1573 = .ok (.iaload, 1) := dk_46 (dk_at dksL_law_58 8 rfl rfl)
theorem dL_law_1574 : decode cL_law 1574 = .ok (.aload_n 0, 1) := dk_42 (dk_at dksL_law_58 9 rfl rfl)
theorem dL_law_1575 : decode cL_law 1575 = .ok (.iload 5, 2) := dk_21 5 (dk_at dksL_law_58 10 rfl rfl)
theorem dL_law_1577 : decode cL_law 1577 = .ok (.iconst 2, 1) := dk_5 (dk_at dksL_law_58 12 rfl rfl)
theorem dL_law_1578 : decode cL_law 1578 = .ok (.iadd, 1) := dk_96 (dk_at dksL_law_58 13 rfl rfl)
theorem dL_law_1579 : decode cL_law 1579 = .ok (.iaload, 1) := dk_46 (dk_at dksL_law_58 14 rfl rfl)
theorem dL_law_1580 : decode cL_law 1580 = .ok (.aload_n 0, 1) := dk_42 (dk_at dksL_law_58 15 rfl rfl)
theorem dL_law_1581 : decode cL_law 1581 = .ok (.iload 5, 2) := dk_21 5 (dk_at dksL_law_58 16 rfl rfl)
theorem dL_law_1583 : decode cL_law 1583 = .ok (.iconst 3, 1) := dk_6 (dk_at dksL_law_58 18 rfl rfl)
theorem dL_law_1584 : decode cL_law 1584 = .ok (.iadd, 1) := dk_96 (dk_at dksL_law_58 19 rfl rfl)
theorem dL_law_1585 : decode cL_law 1585 = .ok (.iaload, 1) := dk_46 (dk_at dksL_law_58 20 rfl rfl)
theorem dL_law_1586 : decode cL_law 1586 = .ok (.invokevirtual 245, 3) := dk_182 0 245 (dk_at dksL_law_58 21 rfl rfl)
theorem dL_law_1589 : decode cL_law 1589 = .ok (.istore 7, 2) := dk_54 7 (dk_at dksL_law_59 0 rfl rfl)
theorem dL_law_1591 : decode cL_law 1591 = .ok (.aload_n 2, 1) := dk_44 (dk_at dksL_law_59 2 rfl rfl)
theorem dL_law_1592 : decode cL_law 1592 = .ok (.invokevirtual 129, 3) := dk_182 0 129 (dk_at dksL_law_59 3 rfl rfl)
theorem dL_law_1595 : decode cL_law 1595 = .ok (.iload 6, 2) := dk_21 6 (dk_at dksL_law_59 6 rfl rfl)
theorem dL_law_1597 : decode cL_law 1597 = .ok (.if_icmp .eq 5, 3) := dk_159 0 5 (dk_at dksL_law_59 8 rfl rfl)
theorem dL_law_1600 : decode cL_law 1600 = .ok (.iconst 0, 1) := dk_3 (dk_at dksL_law_59 11 rfl rfl)
theorem dL_law_1601 : decode cL_law 1601 = .ok (.ireturn, 1) := dk_172 (dk_at dksL_law_59 12 rfl rfl)
theorem dL_law_1602 : decode cL_law 1602 = .ok (.iload 6, 2) := dk_21 6 (dk_at dksL_law_59 13 rfl rfl)
theorem dL_law_1604 : decode cL_law 1604 = .ok (.ifCond .ne 22, 3) := dk_154 0 22 (dk_at dksL_law_59 15 rfl rfl)
theorem dL_law_1607 : decode cL_law 1607 = .ok (.aload_n 3, 1) := dk_45 (dk_at dksL_law_59 18 rfl rfl)
theorem dL_law_1608 : decode cL_law 1608 = .ok (.iconst 0, 1) := dk_3 (dk_at dksL_law_59 19 rfl rfl)
theorem dL_law_1609 : decode cL_law 1609 = .ok (.laload, 1) := dk_47 (dk_at dksL_law_59 20 rfl rfl)
theorem dL_law_1610 : decode cL_law 1610 = .ok (.iload 7, 2) := dk_21 7 (dk_at dksL_law_59 21 rfl rfl)
theorem dL_law_1612 : decode cL_law 1612 = .ok (.ifCond .eq 7, 3) := dk_153 0 7 (dk_at dksL_law_60 0 rfl rfl)
theorem dL_law_1615 : decode cL_law 1615 = .ok (.lconst 1, 1) := dk_10 (dk_at dksL_law_60 3 rfl rfl)
theorem dL_law_1616 : decode cL_law 1616 = .ok (.goto 4, 3) := dk_167 0 4 (dk_at dksL_law_60 4 rfl rfl)
theorem dL_law_1619 : decode cL_law 1619 = .ok (.lconst 0, 1) := dk_9 (dk_at dksL_law_60 7 rfl rfl)
theorem dL_law_1620 : decode cL_law 1620 = .ok (.lcmp, 1) := dk_148 (dk_at dksL_law_60 8 rfl rfl)
theorem dL_law_1621 : decode cL_law 1621 = .ok (.ifCond .eq 5, 3) := dk_153 0 5 (dk_at dksL_law_60 9 rfl rfl)
theorem dL_law_1624 : decode cL_law 1624 = .ok (.iconst 0, 1) := dk_3 (dk_at dksL_law_60 12 rfl rfl)
theorem dL_law_1625 : decode cL_law 1625 = .ok (.ireturn, 1) := dk_172 (dk_at dksL_law_60 13 rfl rfl)
theorem dL_law_1626 : decode cL_law 1626 = .ok (.goto 958, 3) := dk_167 3 190 (dk_at dksL_law_60 14 rfl rfl)
theorem dL_law_1629 : decode cL_law 1629 = .ok (.aload_n 1, 1) := dk_43 (dk_at dksL_law_60 17 rfl rfl)
theorem dL_law_1630 : decode cL_law 1630 = .ok (.invokevirtual 246, 3) := dk_182 0 246 (dk_at dksL_law_60 18 rfl rfl)
theorem dL_law_1633 : decode cL_law 1633 = .ok (.aload_n 2, 1) := dk_44 (dk_at dksL_law_60 21 rfl rfl)
theorem dL_law_1634 : decode cL_law 1634 = .ok (.invokevirtual 249, 3) := dk_182 0 249 (dk_at dksL_law_61 0 rfl rfl)
theorem dL_law_1637 : decode cL_law 1637 = .ok (.if_icmp .eq 947, 3) := dk_159 3 179 (dk_at dksL_law_61 3 rfl rfl)
theorem dL_law_1640 : decode cL_law 1640 = .ok (.iconst 0, 1) := dk_3 (dk_at dksL_law_61 6 rfl rfl)
theorem dL_law_1641 : decode cL_law 1641 = .ok (.ireturn, 1) := dk_172 (dk_at dksL_law_61 7 rfl rfl)
theorem dL_law_1642 : decode cL_law 1642 = .ok (.aload_n 1, 1) := dk_43 (dk_at dksL_law_61 8 rfl rfl)
theorem dL_law_1643 : decode cL_law 1643 = .ok (.invokevirtual 250, 3) := dk_182 0 250 (dk_at dksL_law_61 9 rfl rfl)
theorem dL_law_1646 : decode cL_law 1646 = .ok (.aload_n 2, 1) := dk_44 (dk_at dksL_law_61 12 rfl rfl)
theorem dL_law_1647 : decode cL_law 1647 = .ok (.invokevirtual 253, 3) := dk_182 0 253 (dk_at dksL_law_61 13 rfl rfl)
theorem dL_law_1650 : decode cL_law 1650 = .ok (.if_icmp .eq 934, 3) := dk_159 3 166 (dk_at dksL_law_61 16 rfl rfl)
theorem dL_law_1653 : decode cL_law 1653 = .ok (.iconst 0, 1) := dk_3 (dk_at dksL_law_61 19 rfl rfl)
theorem dL_law_1654 : decode cL_law 1654 = .ok (.ireturn, 1) := dk_172 (dk_at dksL_law_61 20 rfl rfl)
theorem dL_law_1655 : decode cL_law 1655 = .ok (.aload_n 1, 1) := dk_43 (dk_at dksL_law_61 21 rfl rfl)
theorem dL_law_1656 : decode cL_law 1656 = .ok (.invokevirtual 254, 3) := dk_182 0 254 (dk_at dksL_law_62 0 rfl rfl)
theorem dL_law_1659 : decode cL_law 1659 = .ok (.dstore 6, 2) := dk_57 6 (dk_at dksL_law_62 3 rfl rfl)
theorem dL_law_1661 : decode cL_law 1661 = .ok (.aload_n 2, 1) := dk_44 (dk_at dksL_law_62 5 rfl rfl)
theorem dL_law_1662 : decode cL_law 1662 = .ok (.invokevirtual 258, 3) := dk_182 1 2 (dk_at dksL_law_62 6 rfl rfl)
theorem dL_law_1665 : decode cL_law 1665 = .ok (.dstore 8, 2) := dk_57 8 (dk_at dksL_law_62 9 rfl rfl)
theorem dL_law_1667 : decode cL_law 1667 = .ok (.dload 6, 2) := dk_24 6 (dk_at dksL_law_62 11 rfl rfl)
theorem dL_law_1669 : decode cL_law 1669 = .ok (.dload 8, 2) := dk_24 8 (dk_at dksL_law_62 13 rfl rfl)
theorem dL_law_1671 : decode cL_law 1671 = .ok (.dcmp .l, 1) := dk_151 (dk_at dksL_law_62 15 rfl rfl)
theorem dL_law_1672 : decode cL_law 1672 = .ok (.ifCond .eq 21, 3) := dk_153 0 21 (dk_at dksL_law_62 16 rfl rfl)
theorem dL_law_1675 : decode cL_law 1675 = .ok (.dload 6, 2) := dk_24 6 (dk_at dksL_law_62 19 rfl rfl)
theorem dL_law_1677 : decode cL_law 1677 = .ok (.dload 6, 2) := dk_24 6 (dk_at dksL_law_62 21 rfl rfl)
theorem dL_law_1679 : decode cL_law 1679 = .ok (.dcmp .l, 1) := dk_151 (dk_at dksL_law_62 23 rfl rfl)
theorem dL_law_1680 : decode cL_law 1680 = .ok (.ifCond .eq 11, 3) := dk_153 0 11 (dk_at dksL_law_63 0 rfl rfl)
theorem dL_law_1683 : decode cL_law 1683 = .ok (.dload 8, 2) := dk_24 8 (dk_at dksL_law_63 3 rfl rfl)
theorem dL_law_1685 : decode cL_law 1685 = .ok (.dload 8, 2) := dk_24 8 (dk_at dksL_law_63 5 rfl rfl)
theorem dL_law_1687 : decode cL_law 1687 = .ok (.dcmp .l, 1) := dk_151 (dk_at dksL_law_63 7 rfl rfl)
theorem dL_law_1688 : decode cL_law 1688 = .ok (.ifCond .ne 5, 3) := dk_154 0 5 (dk_at dksL_law_63 8 rfl rfl)
theorem dL_law_1691 : decode cL_law 1691 = .ok (.iconst 0, 1) := dk_3 (dk_at dksL_law_63 11 rfl rfl)
theorem dL_law_1692 : decode cL_law 1692 = .ok (.ireturn, 1) := dk_172 (dk_at dksL_law_63 12 rfl rfl)
theorem dL_law_1693 : decode cL_law 1693 = .ok (.goto 891, 3) := dk_167 3 123 (dk_at dksL_law_63 13 rfl rfl)
theorem dL_law_1696 : decode cL_law 1696 = .ok (.aload_n 1, 1) := dk_43 (dk_at dksL_law_63 16 rfl rfl)
theorem dL_law_1697 : decode cL_law 1697 = .ok (.aload_n 0, 1) := dk_42 (dk_at dksL_law_63 17 rfl rfl)
theorem dL_law_1698 : decode cL_law 1698 = .ok (.iload 5, 2) := dk_21 5 (dk_at dksL_law_63 18 rfl rfl)
theorem dL_law_1700 : decode cL_law 1700 = .ok (.iconst 1, 1) := dk_4 (dk_at dksL_law_63 20 rfl rfl)
theorem dL_law_1701 : decode cL_law 1701 = .ok (.iadd, 1) := dk_96 (dk_at dksL_law_63 21 rfl rfl)
theorem dL_law_1702 : decode cL_law 1702 = .ok (.iaload, 1) := dk_46 (dk_at dksL_law_63 22 rfl rfl)
theorem dL_law_1703 : decode cL_law 1703 = .ok (.aload 4, 2) := dk_25 4 (dk_at dksL_law_64 0 rfl rfl)
theorem dL_law_1705 : decode cL_law 1705 = .ok (.invokestatic 259, 3) := dk_184 1 3 (dk_at dksL_law_64 2 rfl rfl)
theorem dL_law_1708 : decode cL_law 1708 = .ok (.istore 6, 2) := dk_54 6 (dk_at dksL_law_64 5 rfl rfl)
theorem dL_law_1710 : decode cL_law 1710 = .ok (.aload_n 2, 1) := dk_44 (dk_at dksL_law_64 7 rfl rfl)
theorem dL_law_1711 : decode cL_law 1711 = .ok (.aload_n 0, 1) := dk_42 (dk_at dksL_law_64 8 rfl rfl)
theorem dL_law_1712 : decode cL_law 1712 = .ok (.iload 5, 2) := dk_21 5 (dk_at dksL_law_64 9 rfl rfl)
theorem dL_law_1714 : decode cL_law 1714 = .ok (.iconst 1, 1) := dk_4 (dk_at dksL_law_64 11 rfl rfl)
theorem dL_law_1715 : decode cL_law 1715 = .ok (.iadd, 1) := dk_96 (dk_at dksL_law_64 12 rfl rfl)
theorem dL_law_1716 : decode cL_law 1716 = .ok (.iaload, 1) := dk_46 (dk_at dksL_law_64 13 rfl rfl)
theorem dL_law_1717 : decode cL_law 1717 = .ok (.invokevirtual 262, 3) := dk_182 1 6 (dk_at dksL_law_64 14 rfl rfl)
theorem dL_law_1720 : decode cL_law 1720 = .ok (.fstore 7, 2) := dk_56 7 (dk_at dksL_law_64 17 rfl rfl)
theorem dL_law_1722 : decode cL_law 1722 = .ok (.aload_n 2, 1) := dk_44 (dk_at dksL_law_64 19 rfl rfl)
theorem dL_law_1723 : decode cL_law 1723 = .ok (.invokevirtual 129, 3) := dk_182 0 129 (dk_at dksL_law_64 20 rfl rfl)
theorem dL_law_1726 : decode cL_law 1726 = .ok (.iload 6, 2) := dk_21 6 (dk_at dksL_law_65 0 rfl rfl)
theorem dL_law_1728 : decode cL_law 1728 = .ok (.if_icmp .eq 5, 3) := dk_159 0 5 (dk_at dksL_law_65 2 rfl rfl)
theorem dL_law_1731 : decode cL_law 1731 = .ok (.iconst 0, 1) := dk_3 (dk_at dksL_law_65 5 rfl rfl)
theorem dL_law_1732 : decode cL_law 1732 = .ok (.ireturn, 1) := dk_172 (dk_at dksL_law_65 6 rfl rfl)
theorem dL_law_1733 : decode cL_law 1733 = .ok (.iload 6, 2) := dk_21 6 (dk_at dksL_law_65 7 rfl rfl)
theorem dL_law_1735 : decode cL_law 1735 = .ok (.ifCond .ne 36, 3) := dk_154 0 36 (dk_at dksL_law_65 9 rfl rfl)
theorem dL_law_1738 : decode cL_law 1738 = .ok (.aload 4, 2) := dk_25 4 (dk_at dksL_law_65 12 rfl rfl)
theorem dL_law_1740 : decode cL_law 1740 = .ok (.iconst 0, 1) := dk_3 (dk_at dksL_law_65 14 rfl rfl)
theorem dL_law_1741 : decode cL_law 1741 = .ok (.daload, 1) := dk_49 (dk_at dksL_law_65 15 rfl rfl)
theorem dL_law_1742 : decode cL_law 1742 = .ok (.fload 7, 2) := dk_23 7 (dk_at dksL_law_65 16 rfl rfl)
theorem dL_law_1744 : decode cL_law 1744 = .ok (.f2d, 1) := dk_141 (dk_at dksL_law_65 18 rfl rfl)
theorem dL_law_1745 : decode cL_law 1745 = .ok (.dcmp .l, 1) := dk_151 (dk_at dksL_law_65 19 rfl rfl)
theorem dL_law_1746 : decode cL_law 1746 = .ok (.ifCond .eq 25, 3) := dk_153 0 25 (dk_at dksL_law_65 20 rfl rfl)
theorem dL_law_1749 : decode cL_law 1749 = .ok (.aload 4, 2) := dk_25 4 (dk_at dksL_law_66 0 rfl rfl)
theorem dL_law_1751 : decode cL_law 1751 = .ok (.iconst 0, 1) := dk_3 (dk_at dksL_law_66 2 rfl rfl)
theorem dL_law_1752 : decode cL_law 1752 = .ok (.daload, 1) := dk_49 (dk_at dksL_law_66 3 rfl rfl)
theorem dL_law_1753 : decode cL_law 1753 = .ok (.aload 4, 2) := dk_25 4 (dk_at dksL_law_66 4 rfl rfl)
theorem dL_law_1755 : decode cL_law 1755 = .ok (.iconst 0, 1) := dk_3 (dk_at dksL_law_66 6 rfl rfl)
theorem dL_law_1756 : decode cL_law 1756 = .ok (.daload, 1) := dk_49 (dk_at dksL_law_66 7 rfl rfl)
theorem dL_law_1757 : decode cL_law 1757 = .ok (.dcmp .l, 1) := dk_151 (dk_at dksL_law_66 8 rfl rfl)
theorem dL_law_1758 : decode cL_law 1758 = .ok (.ifCond .eq 11, 3) := dk_153 0 11 (dk_at dksL_law_66 9 rfl rfl)
theorem dL_law_1761 : decode cL_law 1761 = .ok (.fload 7, 2) := dk_23 7 (dk_at dksL_law_66 12 rfl rfl)
theorem dL_law_1763 : decode cL_law 1763 = .ok (.fload 7, 2) := dk_23 7 (dk_at dksL_law_66 14 rfl rfl)
theorem dL_law_1765 : decode cL_law 1765 = .ok (.fcmp .l, 1) := dk_149 (dk_at dksL_law_66 16 rfl rfl)
theorem dL_law_1766 : decode cL_law 1766 = .ok (.ifCond .ne 5, 3) := dk_154 0 5 (dk_at dksL_law_66 17 rfl rfl)
theorem dL_law_1769 : decode cL_law 1769 = .ok (.iconst 0, 1) := dk_3 (dk_at dksL_law_66 20 rfl rfl)
theorem dL_law_1770 : decode cL_law 1770 = .ok (.ireturn, 1) := dk_172 (dk_at dksL_law_66 21 rfl rfl)
theorem dL_law_1771 : decode cL_law 1771 = .ok (.goto 813, 3) := dk_167 3 45 (dk_at dksL_law_67 0 rfl rfl)
theorem dL_law_1774 : decode cL_law 1774 = .ok (.aload_n 1, 1) := dk_43 (dk_at dksL_law_67 3 rfl rfl)
theorem dL_law_1775 : decode cL_law 1775 = .ok (.invokevirtual 263, 3) := dk_182 1 7 (dk_at dksL_law_67 4 rfl rfl)
theorem dL_law_1778 : decode cL_law 1778 = .ok (.aload_n 2, 1) := dk_44 (dk_at dksL_law_67 7 rfl rfl)
theorem dL_law_1779 : decode cL_law 1779 = .ok (.invokevirtual 266, 3) := dk_182 1 10 (dk_at dksL_law_67 8 rfl rfl)
theorem dL_law_1782 : decode cL_law 1782 = .ok (.if_icmp .eq 802, 3) := dk_159 3 34 (dk_at dksL_law_67 11 rfl rfl)
theorem dL_law_1785 : decode cL_law 1785 = .ok (.iconst 0, 1) := dk_3 (dk_at dksL_law_67 14 rfl rfl)
theorem dL_law_1786 : decode cL_law 1786 = .ok (.ireturn, 1) := dk_172 (dk_at dksL_law_67 15 rfl rfl)
theorem dL_law_1787 : decode cL_law 1787 = .ok (.aload_n 1, 1) := dk_43 (dk_at dksL_law_67 16 rfl rfl)
theorem dL_law_1788 : decode cL_law 1788 = .ok (.aload_n 0, 1) := dk_42 (dk_at dksL_law_67 17 rfl rfl)
theorem dL_law_1789 : decode cL_law 1789 = .ok (.iload 5, 2) := dk_21 5 (dk_at dksL_law_67 18 rfl rfl)
theorem dL_law_1791 : decode cL_law 1791 = .ok (.iconst 1, 1) := dk_4 (dk_at dksL_law_67 20 rfl rfl)
theorem dL_law_1792 : decode cL_law 1792 = .ok (.iadd, 1) := dk_96 (dk_at dksL_law_67 21 rfl rfl)
theorem dL_law_1793 : decode cL_law 1793 = .ok (.iaload, 1) := dk_46 (dk_at dksL_law_67 22 rfl rfl)
theorem dL_law_1794 : decode cL_law 1794 = .ok (.aload_n 0, 1) := dk_42 (dk_at dksL_law_67 23 rfl rfl)
theorem dL_law_1795 : decode cL_law 1795 = .ok (.iload 5, 2) := dk_21 5 (dk_at dksL_law_68 0 rfl rfl)
theorem dL_law_1797 : decode cL_law 1797 = .ok (.iconst 2, 1) := dk_5 (dk_at dksL_law_68 2 rfl rfl)
theorem dL_law_1798 : decode cL_law 1798 = .ok (.iadd, 1) := dk_96 (dk_at dksL_law_68 3 rfl rfl)
theorem dL_law_1799 : decode cL_law 1799 = .ok (.iaload, 1) := dk_46 (dk_at dksL_law_68 4 rfl rfl)
theorem dL_law_1800 : decode cL_law 1800 = .ok (.aload_n 3, 1) := dk_45 (dk_at dksL_law_68 5 rfl rfl)
theorem dL_law_1801 : decode cL_law 1801 = .ok (.invokestatic 267, 3) := dk_184 1 11 (dk_at dksL_law_68 6 rfl rfl)
theorem dL_law_1804 : decode cL_law 1804 = .ok (.istore 6, 2) := dk_54 6 (dk_at dksL_law_68 9 rfl rfl)
theorem dL_law_1806 : decode cL_law 1806 = .ok (.aload_n 2, 1) := dk_44 (dk_at dksL_law_68 11 rfl rfl)
theorem dL_law_1807 : decode cL_law 1807 = .ok (.aload_n 0, 1) := dk_42 (dk_at dksL_law_68 12 rfl rfl)
theorem dL_law_1808 : decode cL_law 1808 = .ok (.iload 5, 2) := dk_21 5 (dk_at dksL_law_68 13 rfl rfl)
theorem dL_law_1810 : decode cL_law 1810 = .ok (.iconst 1, 1) := dk_4 (dk_at dksL_law_68 15 rfl rfl)
theorem dL_law_1811 : decode cL_law 1811 = .ok (.iadd, 1) := dk_96 (dk_at dksL_law_68 16 rfl rfl)
theorem dL_law_1812 : decode cL_law 1812 = .ok (.iaload, 1) := dk_46 (dk_at dksL_law_68 17 rfl rfl)
theorem dL_law_1813 : decode cL_law 1813 = .ok (.aload_n 0, 1) := dk_42 (dk_at dksL_law_68 18 rfl rfl)
theorem dL_law_1814 : decode cL_law 1814 = .ok (.iload 5, 2) := dk_21 5 (dk_at dksL_law_68 19 rfl rfl)
theorem dL_law_1816 : decode cL_law 1816 = .ok (.iconst 2, 1) := dk_5 (dk_at dksL_law_68 21 rfl rfl)
theorem dL_law_1817 : decode cL_law 1817 = .ok (.iadd, 1) := dk_96 (dk_at dksL_law_68 22 rfl rfl)
theorem dL_law_1818 : decode cL_law 1818 = .ok (.iaload, 1) := dk_46 (dk_at dksL_law_68 23 rfl rfl)
theorem dL_law_1819 : decode cL_law 1819 = .ok (.invokevirtual 269, 3) := dk_182 1 13 (dk_at dksL_law_69 0 rfl rfl)
theorem dL_law_1822 : decode cL_law 1822 = .ok (.istore 7, 2) := dk_54 7 (dk_at dksL_law_69 3 rfl rfl)
theorem dL_law_1824 : decode cL_law 1824 = .ok (.aload_n 2, 1) := dk_44 (dk_at dksL_law_69 5 rfl rfl)
theorem dL_law_1825 : decode cL_law 1825 = .ok (.invokevirtual 129, 3) := dk_182 0 129 (dk_at dksL_law_69 6 rfl rfl)
theorem dL_law_1828 : decode cL_law 1828 = .ok (.iload 6, 2) := dk_21 6 (dk_at dksL_law_69 9 rfl rfl)
theorem dL_law_1830 : decode cL_law 1830 = .ok (.if_icmp .eq 5, 3) := dk_159 0 5 (dk_at dksL_law_69 11 rfl rfl)
theorem dL_law_1833 : decode cL_law 1833 = .ok (.iconst 0, 1) := dk_3 (dk_at dksL_law_69 14 rfl rfl)
theorem dL_law_1834 : decode cL_law 1834 = .ok (.ireturn, 1) := dk_172 (dk_at dksL_law_69 15 rfl rfl)
theorem dL_law_1835 : decode cL_law 1835 = .ok (.iload 6, 2) := dk_21 6 (dk_at dksL_law_69 16 rfl rfl)
theorem dL_law_1837 : decode cL_law 1837 = .ok (.ifCond .ne 15, 3) := dk_154 0 15 (dk_at dksL_law_69 18 rfl rfl)
theorem dL_law_1840 : decode cL_law 1840 = .ok (.aload_n 3, 1) := dk_45 (dk_at dksL_law_69 21 rfl rfl)
theorem dL_law_1841 : decode cL_law 1841 = .ok (.iconst 0, 1) := dk_3 (dk_at dksL_law_69 22 rfl rfl)
theorem dL_law_1842 : decode cL_law 1842 = .ok (.laload, 1) := dk_47 (dk_at dksL_law_69 23 rfl rfl)
theorem dL_law_1843 : decode cL_law 1843 = .ok (.iload 7, 2) := dk_21 7 (dk_at dksL_law_70 0 rfl rfl)
theorem dL_law_1845 : decode cL_law 1845 = .ok (.i2l, 1) := dk_133 (dk_at dksL_law_70 2 rfl rfl)
theorem dL_law_1846 : decode cL_law 1846 = .ok (.lcmp, 1) := dk_148 (dk_at dksL_law_70 3 rfl rfl)
theorem dL_law_1847 : decode cL_law 1847 = .ok (.ifCond .eq 5, 3) := dk_153 0 5 (dk_at dksL_law_70 4 rfl rfl)
theorem dL_law_1850 : decode cL_law 1850 = .ok (.iconst 0, 1) := dk_3 (dk_at dksL_law_70 7 rfl rfl)
theorem dL_law_1851 : decode cL_law 1851 = .ok (.ireturn, 1) := dk_172 (dk_at dksL_law_70 8 rfl rfl)
theorem dL_law_1852 : decode cL_law 1852 = .ok (.goto 732, 3) := dk_167 2 220 (dk_at dksL_law_70 9 rfl rfl)
theorem dL_law_1855 : decode cL_law 1855 = .ok (.aload_n 1, 1) := dk_43 (dk_at dksL_law_70 12 rfl rfl)
theorem dL_law_1856 : decode cL_law 1856 = .ok (.aload_n 0, 1) := dk_42 (dk_at dksL_law_70 13 rfl rfl)
theorem dL_law_1857 : decode cL_law 1857 = .ok (.iload 5, 2) := dk_21 5 (dk_at dksL_law_70 14 rfl rfl)
theorem dL_law_1859 : decode cL_law 1859 = .ok (.iconst 1, 1) := dk_4 (dk_at dksL_law_70 16 rfl rfl)
theorem dL_law_1860 : decode cL_law 1860 = .ok (.iadd, 1) := dk_96 (dk_at dksL_law_70 17 rfl rfl)
theorem dL_law_1861 : decode cL_law 1861 = .ok (.iaload, 1) := dk_46 (dk_at dksL_law_70 18 rfl rfl)
theorem dL_law_1862 : decode cL_law 1862 = .ok (.aload_n 3, 1) := dk_45 (dk_at dksL_law_70 19 rfl rfl)
theorem dL_law_1863 : decode cL_law 1863 = .ok (.invokestatic 270, 3) := dk_184 1 14 (dk_at dksL_law_70 20 rfl rfl)
theorem dL_law_1866 : decode cL_law 1866 = .ok (.istore 6, 2) := dk_54 6 (dk_at dksL_law_71 0 rfl rfl)
theorem dL_law_1868 : decode cL_law 1868 = .ok (.aload_n 2, 1) := dk_44 (dk_at dksL_law_71 2 rfl rfl)
theorem dL_law_1869 : decode cL_law 1869 = .ok (.aload_n 0, 1) := dk_42 (dk_at dksL_law_71 3 rfl rfl)
theorem dL_law_1870 : decode cL_law 1870 = .ok (.iload 5, 2) := dk_21 5 (dk_at dksL_law_71 4 rfl rfl)
theorem dL_law_1872 : decode cL_law 1872 = .ok (.iconst 1, 1) := dk_4 (dk_at dksL_law_71 6 rfl rfl)
theorem dL_law_1873 : decode cL_law 1873 = .ok (.iadd, 1) := dk_96 (dk_at dksL_law_71 7 rfl rfl)
theorem dL_law_1874 : decode cL_law 1874 = .ok (.iaload, 1) := dk_46 (dk_at dksL_law_71 8 rfl rfl)
theorem dL_law_1875 : decode cL_law 1875 = .ok (.invokevirtual 272, 3) := dk_182 1 16 (dk_at dksL_law_71 9 rfl rfl)
theorem dL_law_1878 : decode cL_law 1878 = .ok (.istore 7, 2) := dk_54 7 (dk_at dksL_law_71 12 rfl rfl)
theorem dL_law_1880 : decode cL_law 1880 = .ok (.aload_n 2, 1) := dk_44 (dk_at dksL_law_71 14 rfl rfl)
theorem dL_law_1881 : decode cL_law 1881 = .ok (.invokevirtual 129, 3) := dk_182 0 129 (dk_at dksL_law_71 15 rfl rfl)
theorem dL_law_1884 : decode cL_law 1884 = .ok (.iload 6, 2) := dk_21 6 (dk_at dksL_law_71 18 rfl rfl)
theorem dL_law_1886 : decode cL_law 1886 = .ok (.if_icmp .eq 5, 3) := dk_159 0 5 (dk_at dksL_law_71 20 rfl rfl)
theorem dL_law_1889 : decode cL_law 1889 = .ok (.iconst 0, 1) := dk_3 (dk_at dksL_law_71 23 rfl rfl)
theorem dL_law_1890 : decode cL_law 1890 = .ok (.ireturn, 1) := dk_172 (dk_at dksL_law_72 0 rfl rfl)
theorem dL_law_1891 : decode cL_law 1891 = .ok (.iload 6, 2) := dk_21 6 (dk_at dksL_law_72 1 rfl rfl)
theorem dL_law_1893 : decode cL_law 1893 = .ok (.ifCond .ne 15, 3) := dk_154 0 15 (dk_at dksL_law_72 3 rfl rfl)
theorem dL_law_1896 : decode cL_law 1896 = .ok (.aload_n 3, 1) := dk_45 (dk_at dksL_law_72 6 rfl rfl)
theorem dL_law_1897 : decode cL_law 1897 = .ok (.iconst 0, 1) := dk_3 (dk_at dksL_law_72 7 rfl rfl)
theorem dL_law_1898 : decode cL_law 1898 = .ok (.laload, 1) := dk_47 (dk_at dksL_law_72 8 rfl rfl)
theorem dL_law_1899 : decode cL_law 1899 = .ok (.iload 7, 2) := dk_21 7 (dk_at dksL_law_72 9 rfl rfl)
theorem dL_law_1901 : decode cL_law 1901 = .ok (.i2l, 1) := dk_133 (dk_at dksL_law_72 11 rfl rfl)
theorem dL_law_1902 : decode cL_law 1902 = .ok (.lcmp, 1) := dk_148 (dk_at dksL_law_72 12 rfl rfl)
theorem dL_law_1903 : decode cL_law 1903 = .ok (.ifCond .eq 5, 3) := dk_153 0 5 (dk_at dksL_law_72 13 rfl rfl)
theorem dL_law_1906 : decode cL_law 1906 = .ok (.iconst 0, 1) := dk_3 (dk_at dksL_law_72 16 rfl rfl)
theorem dL_law_1907 : decode cL_law 1907 = .ok (.ireturn, 1) := dk_172 (dk_at dksL_law_72 17 rfl rfl)
theorem dL_law_1908 : decode cL_law 1908 = .ok (.goto 676, 3) := dk_167 2 164 (dk_at dksL_law_72 18 rfl rfl)
theorem dL_law_1911 : decode cL_law 1911 = .ok (.aload_n 1, 1) := dk_43 (dk_at dksL_law_72 21 rfl rfl)
theorem dL_law_1912 : decode cL_law 1912 = .ok (.aload_n 0, 1) := dk_42 (dk_at dksL_law_72 22 rfl rfl)
theorem dL_law_1913 : decode cL_law 1913 = .ok (.iload 5, 2) := dk_21 5 (dk_at dksL_law_73 0 rfl rfl)
theorem dL_law_1915 : decode cL_law 1915 = .ok (.iconst 1, 1) := dk_4 (dk_at dksL_law_73 2 rfl rfl)
theorem dL_law_1916 : decode cL_law 1916 = .ok (.iadd, 1) := dk_96 (dk_at dksL_law_73 3 rfl rfl)
theorem dL_law_1917 : decode cL_law 1917 = .ok (.iaload, 1) := dk_46 (dk_at dksL_law_73 4 rfl rfl)
theorem dL_law_1918 : decode cL_law 1918 = .ok (.aload_n 0, 1) := dk_42 (dk_at dksL_law_73 5 rfl rfl)
theorem dL_law_1919 : decode cL_law 1919 = .ok (.iload 5, 2) := dk_21 5 (dk_at dksL_law_73 6 rfl rfl)
theorem dL_law_1921 : decode cL_law 1921 = .ok (.iconst 2, 1) := dk_5 (dk_at dksL_law_73 8 rfl rfl)
theorem dL_law_1922 : decode cL_law 1922 = .ok (.iadd, 1) := dk_96 (dk_at dksL_law_73 9 rfl rfl)
theorem dL_law_1923 : decode cL_law 1923 = .ok (.iaload, 1) := dk_46 (dk_at dksL_law_73 10 rfl rfl)
theorem dL_law_1924 : decode cL_law 1924 = .ok (.aload_n 3, 1) := dk_45 (dk_at dksL_law_73 11 rfl rfl)
theorem dL_law_1925 : decode cL_law 1925 = .ok (.invokestatic 273, 3) := dk_184 1 17 (dk_at dksL_law_73 12 rfl rfl)
theorem dL_law_1928 : decode cL_law 1928 = .ok (.istore 6, 2) := dk_54 6 (dk_at dksL_law_73 15 rfl rfl)
theorem dL_law_1930 : decode cL_law 1930 = .ok (.aload_n 2, 1) := dk_44 (dk_at dksL_law_73 17 rfl rfl)
theorem dL_law_1931 : decode cL_law 1931 = .ok (.aload_n 0, 1) := dk_42 (dk_at dksL_law_73 18 rfl rfl)
theorem dL_law_1932 : decode cL_law 1932 = .ok (.iload 5, 2) := dk_21 5 (dk_at dksL_law_73 19 rfl rfl)
theorem dL_law_1934 : decode cL_law 1934 = .ok (.iconst 1, 1) := dk_4 (dk_at dksL_law_73 21 rfl rfl)
theorem dL_law_1935 : decode cL_law 1935 = .ok (.iadd, 1) := dk_96 (dk_at dksL_law_73 22 rfl rfl)
theorem dL_law_1936 : decode cL_law 1936 = .ok (.iaload, 1) := dk_46 (dk_at dksL_law_73 23 rfl rfl)
theorem dL_law_1937 : decode cL_law 1937 = .ok (.aload_n 0, 1) := dk_42 (dk_at dksL_law_74 0 rfl rfl)
theorem dL_law_1938 : decode cL_law 1938 = .ok (.iload 5, 2) := dk_21 5 (dk_at dksL_law_74 1 rfl rfl)
theorem dL_law_1940 : decode cL_law 1940 = .ok (.iconst 2, 1) := dk_5 (dk_at dksL_law_74 3 rfl rfl)
theorem dL_law_1941 : decode cL_law 1941 = .ok (.iadd, 1) := dk_96 (dk_at dksL_law_74 4 rfl rfl)
theorem dL_law_1942 : decode cL_law 1942 = .ok (.iaload, 1) := dk_46 (dk_at dksL_law_74 5 rfl rfl)
theorem dL_law_1943 : decode cL_law 1943 = .ok (.invokevirtual 275, 3) := dk_182 1 19 (dk_at dksL_law_74 6 rfl rfl)
theorem dL_law_1946 : decode cL_law 1946 = .ok (.istore 7, 2) := dk_54 7 (dk_at dksL_law_74 9 rfl rfl)
theorem dL_law_1948 : decode cL_law 1948 = .ok (.aload_n 2, 1) := dk_44 (dk_at dksL_law_74 11 rfl rfl)
theorem dL_law_1949 : decode cL_law 1949 = .ok (.invokevirtual 129, 3) := dk_182 0 129 (dk_at dksL_law_74 12 rfl rfl)
theorem dL_law_1952 : decode cL_law 1952 = .ok (.iload 6, 2) := dk_21 6 (dk_at dksL_law_74 15 rfl rfl)
theorem dL_law_1954 : decode cL_law 1954 = .ok (.if_icmp .eq 5, 3) := dk_159 0 5 (dk_at dksL_law_74 17 rfl rfl)
theorem dL_law_1957 : decode cL_law 1957 = .ok (.iconst 0, 1) := dk_3 (dk_at dksL_law_74 20 rfl rfl)
theorem dL_law_1958 : decode cL_law 1958 = .ok (.ireturn, 1) := dk_172 (dk_at dksL_law_74 21 rfl rfl)
theorem dL_law_1959 : decode cL_law 1959 = .ok (.iload 6, 2) := dk_21 6 (dk_at dksL_law_74 22 rfl rfl)
theorem dL_law_1961 : decode cL_law 1961 = .ok (.ifCond .ne 15, 3) := dk_154 0 15 (dk_at dksL_law_75 0 rfl rfl)
theorem dL_law_1964 : decode cL_law 1964 = .ok (.aload_n 3, 1) := dk_45 (dk_at dksL_law_75 3 rfl rfl)
theorem dL_law_1965 : decode cL_law 1965 = .ok (.iconst 0, 1) := dk_3 (dk_at dksL_law_75 4 rfl rfl)
theorem dL_law_1966 : decode cL_law 1966 = .ok (.laload, 1) := dk_47 (dk_at dksL_law_75 5 rfl rfl)
theorem dL_law_1967 : decode cL_law 1967 = .ok (.iload 7, 2) := dk_21 7 (dk_at dksL_law_75 6 rfl rfl)
theorem dL_law_1969 : decode cL_law 1969 = .ok (.i2l, 1) := dk_133 (dk_at dksL_law_75 8 rfl rfl)
theorem dL_law_1970 : decode cL_law 1970 = .ok (.lcmp, 1) := dk_148 (dk_at dksL_law_75 9 rfl rfl)
theorem dL_law_1971 : decode cL_law 1971 = .ok (.ifCond .eq 5, 3) := dk_153 0 5 (dk_at dksL_law_75 10 rfl rfl)
theorem dL_law_1974 : decode cL_law 1974 = .ok (.iconst 0, 1) := dk_3 (dk_at dksL_law_75 13 rfl rfl)
theorem dL_law_1975 : decode cL_law 1975 = .ok (.ireturn, 1) := dk_172 (dk_at dksL_law_75 14 rfl rfl)
theorem dL_law_1976 : decode cL_law 1976 = .ok (.goto 608, 3) := dk_167 2 96 (dk_at dksL_law_75 15 rfl rfl)
theorem dL_law_1979 : decode cL_law 1979 = .ok (.aload_n 1, 1) := dk_43 (dk_at dksL_law_75 18 rfl rfl)
theorem dL_law_1980 : decode cL_law 1980 = .ok (.aload_n 0, 1) := dk_42 (dk_at dksL_law_75 19 rfl rfl)
theorem dL_law_1981 : decode cL_law 1981 = .ok (.iload 5, 2) := dk_21 5 (dk_at dksL_law_75 20 rfl rfl)
theorem dL_law_1983 : decode cL_law 1983 = .ok (.iconst 1, 1) := dk_4 (dk_at dksL_law_75 22 rfl rfl)
theorem dL_law_1984 : decode cL_law 1984 = .ok (.iadd, 1) := dk_96 (dk_at dksL_law_75 23 rfl rfl)
theorem dL_law_1985 : decode cL_law 1985 = .ok (.iaload, 1) := dk_46 (dk_at dksL_law_76 0 rfl rfl)
theorem dL_law_1986 : decode cL_law 1986 = .ok (.aload_n 3, 1) := dk_45 (dk_at dksL_law_76 1 rfl rfl)
theorem dL_law_1987 : decode cL_law 1987 = .ok (.invokestatic 276, 3) := dk_184 1 20 (dk_at dksL_law_76 2 rfl rfl)
theorem dL_law_1990 : decode cL_law 1990 = .ok (.istore 6, 2) := dk_54 6 (dk_at dksL_law_76 5 rfl rfl)
theorem dL_law_1992 : decode cL_law 1992 = .ok (.aload_n 2, 1) := dk_44 (dk_at dksL_law_76 7 rfl rfl)
theorem dL_law_1993 : decode cL_law 1993 = .ok (.aload_n 0, 1) := dk_42 (dk_at dksL_law_76 8 rfl rfl)
theorem dL_law_1994 : decode cL_law 1994 = .ok (.iload 5, 2) := dk_21 5 (dk_at dksL_law_76 9 rfl rfl)
theorem dL_law_1996 : decode cL_law 1996 = .ok (.iconst 1, 1) := dk_4 (dk_at dksL_law_76 11 rfl rfl)
theorem dL_law_1997 : decode cL_law 1997 = .ok (.iadd, 1) := dk_96 (dk_at dksL_law_76 12 rfl rfl)
theorem dL_law_1998 : decode cL_law 1998 = .ok (.iaload, 1) := dk_46 (dk_at dksL_law_76 13 rfl rfl)
theorem dL_law_1999 : decode cL_law 1999 = .ok (.invokevirtual 278, 3) := dk_182 1 22 (dk_at dksL_law_76 14 rfl rfl)
theorem dL_law_2002 : decode cL_law 2002 = .ok (.istore 7, 2) := dk_54 7 (dk_at dksL_law_76 17 rfl rfl)
theorem dL_law_2004 : decode cL_law 2004 = .ok (.aload_n 2, 1) := dk_44 (dk_at dksL_law_76 19 rfl rfl)
theorem dL_law_2005 : decode cL_law 2005 = .ok (.invokevirtual 129, 3) := dk_182 0 129 (dk_at dksL_law_76 20 rfl rfl)
theorem dL_law_2008 : decode cL_law 2008 = .ok (.iload 6, 2) := dk_21 6 (dk_at dksL_law_77 0 rfl rfl)
theorem dL_law_2010 : decode cL_law 2010 = .ok (.if_icmp .eq 5, 3) := dk_159 0 5 (dk_at dksL_law_77 2 rfl rfl)
theorem dL_law_2013 : decode cL_law 2013 = .ok (.iconst 0, 1) := dk_3 (dk_at dksL_law_77 5 rfl rfl)
theorem dL_law_2014 : decode cL_law 2014 = .ok (.ireturn, 1) := dk_172 (dk_at dksL_law_77 6 rfl rfl)
theorem dL_law_2015 : decode cL_law 2015 = .ok (.iload 6, 2) := dk_21 6 (dk_at dksL_law_77 7 rfl rfl)
theorem dL_law_2017 : decode cL_law 2017 = .ok (.ifCond .ne 15, 3) := dk_154 0 15 (dk_at dksL_law_77 9 rfl rfl)
theorem dL_law_2020 : decode cL_law 2020 = .ok (.aload_n 3, 1) := dk_45 (dk_at dksL_law_77 12 rfl rfl)
theorem dL_law_2021 : decode cL_law 2021 = .ok (.iconst 0, 1) := dk_3 (dk_at dksL_law_77 13 rfl rfl)
theorem dL_law_2022 : decode cL_law 2022 = .ok (.laload, 1) := dk_47 (dk_at dksL_law_77 14 rfl rfl)
theorem dL_law_2023 : decode cL_law 2023 = .ok (.iload 7, 2) := dk_21 7 (dk_at dksL_law_77 15 rfl rfl)
theorem dL_law_2025 : decode cL_law 2025 = .ok (.i2l, 1) := dk_133 (dk_at dksL_law_77 17 rfl rfl)
theorem dL_law_2026 : decode cL_law 2026 = .ok (.lcmp, 1) := dk_148 (dk_at dksL_law_77 18 rfl rfl)
theorem dL_law_2027 : decode cL_law 2027 = .ok (.ifCond .eq 5, 3) := dk_153 0 5 (dk_at dksL_law_77 19 rfl rfl)
theorem dL_law_2030 : decode cL_law 2030 = .ok (.iconst 0, 1) := dk_3 (dk_at dksL_law_77 22 rfl rfl)
theorem dL_law_2031 : decode cL_law 2031 = .ok (.ireturn, 1) := dk_172 (dk_at dksL_law_77 23 rfl rfl)
theorem dL_law_2032 : decode cL_law 2032 = .ok (.goto 552, 3) := dk_167 2 40 (dk_at dksL_law_78 0 rfl rfl)
theorem dL_law_2035 : decode cL_law 2035 = .ok (.aload_n 1, 1) := dk_43 (dk_at dksL_law_78 3 rfl rfl)
theorem dL_law_2036 : decode cL_law 2036 = .ok (.invokevirtual 279, 3) := dk_182 1 23 (dk_at dksL_law_78 4 rfl rfl)
theorem dL_law_2039 : decode cL_law 2039 = .ok (.aload_n 2, 1) := dk_44 (dk_at dksL_law_78 7 rfl rfl)
theorem dL_law_2040 : decode cL_law 2040 = .ok (.invokevirtual 282, 3) := dk_182 1 26 (dk_at dksL_law_78 8 rfl rfl)
theorem dL_law_2043 : decode cL_law 2043 = .ok (.if_icmp .eq 541, 3) := dk_159 2 29 (dk_at dksL_law_78 11 rfl rfl)
theorem dL_law_2046 : decode cL_law 2046 = .ok (.iconst 0, 1) := dk_3 (dk_at dksL_law_78 14 rfl rfl)
theorem dL_law_2047 : decode cL_law 2047 = .ok (.ireturn, 1) := dk_172 (dk_at dksL_law_78 15 rfl rfl)
theorem dL_law_2048 : decode cL_law 2048 = .ok (.aload_n 1, 1) := dk_43 (dk_at dksL_law_78 16 rfl rfl)
theorem dL_law_2049 : decode cL_law 2049 = .ok (.aload_n 0, 1) := dk_42 (dk_at dksL_law_78 17 rfl rfl)
theorem dL_law_2050 : decode cL_law 2050 = .ok (.iload 5, 2) := dk_21 5 (dk_at dksL_law_78 18 rfl rfl)
theorem dL_law_2052 : decode cL_law 2052 = .ok (.iconst 1, 1) := dk_4 (dk_at dksL_law_78 20 rfl rfl)
theorem dL_law_2053 : decode cL_law 2053 = .ok (.iadd, 1) := dk_96 (dk_at dksL_law_78 21 rfl rfl)
theorem dL_law_2054 : decode cL_law 2054 = .ok (.iaload, 1) := dk_46 (dk_at dksL_law_78 22 rfl rfl)
theorem dL_law_2055 : decode cL_law 2055 = .ok (.aload_n 0, 1) := dk_42 (dk_at dksL_law_78 23 rfl rfl)
theorem dL_law_2056 : decode cL_law 2056 = .ok (.iload 5, 2) := dk_21 5 (dk_at dksL_law_79 0 rfl rfl)
theorem dL_law_2058 : decode cL_law 2058 = .ok (.iconst 2, 1) := dk_5 (dk_at dksL_law_79 2 rfl rfl)
theorem dL_law_2059 : decode cL_law 2059 = .ok (.iadd, 1) := dk_96 (dk_at dksL_law_79 3 rfl rfl)
theorem dL_law_2060 : decode cL_law 2060 = .ok (.iaload, 1) := dk_46 (dk_at dksL_law_79 4 rfl rfl)
theorem dL_law_2061 : decode cL_law 2061 = .ok (.aload_n 0, 1) := dk_42 (dk_at dksL_law_79 5 rfl rfl)
theorem dL_law_2062 : decode cL_law 2062 = .ok (.iload 5, 2) := dk_21 5 (dk_at dksL_law_79 6 rfl rfl)
theorem dL_law_2064 : decode cL_law 2064 = .ok (.iconst 3, 1) := dk_6 (dk_at dksL_law_79 8 rfl rfl)
theorem dL_law_2065 : decode cL_law 2065 = .ok (.iadd, 1) := dk_96 (dk_at dksL_law_79 9 rfl rfl)
theorem dL_law_2066 : decode cL_law 2066 = .ok (.iaload, 1) := dk_46 (dk_at dksL_law_79 10 rfl rfl)
theorem dL_law_2067 : decode cL_law 2067 = .ok (.aload_n 0, 1) := dk_42 (dk_at dksL_law_79 11 rfl rfl)
theorem dL_law_2068 : decode cL_law 2068 = .ok (.iload 5, 2) := dk_21 5 (dk_at dksL_law_79 12 rfl rfl)
theorem dL_law_2070 : decode cL_law 2070 = .ok (.iconst 4, 1) := dk_7 (dk_at dksL_law_79 14 rfl rfl)
theorem dL_law_2071 : decode cL_law 2071 = .ok (.iadd, 1) := dk_96 (dk_at dksL_law_79 15 rfl rfl)
theorem dL_law_2072 : decode cL_law 2072 = .ok (.iaload, 1) := dk_46 (dk_at dksL_law_79 16 rfl rfl)
theorem dL_law_2073 : decode cL_law 2073 = .ok (.aload_n 3, 1) := dk_45 (dk_at dksL_law_79 17 rfl rfl)
theorem dL_law_2074 : decode cL_law 2074 = .ok (.invokestatic 283, 3) := dk_184 1 27 (dk_at dksL_law_79 18 rfl rfl)
theorem dL_law_2077 : decode cL_law 2077 = .ok (.istore 6, 2) := dk_54 6 (dk_at dksL_law_79 21 rfl rfl)
theorem dL_law_2079 : decode cL_law 2079 = .ok (.aload_n 2, 1) := dk_44 (dk_at dksL_law_79 23 rfl rfl)
theorem dL_law_2080 : decode cL_law 2080 = .ok (.aload_n 0, 1) := dk_42 (dk_at dksL_law_80 0 rfl rfl)
theorem dL_law_2081 : decode cL_law 2081 = .ok (.iload 5, 2) := dk_21 5 (dk_at dksL_law_80 1 rfl rfl)
theorem dL_law_2083 : decode cL_law 2083 = .ok (.iconst 1, 1) := dk_4 (dk_at dksL_law_80 3 rfl rfl)
theorem dL_law_2084 : decode cL_law 2084 = .ok (.iadd, 1) := dk_96 (dk_at dksL_law_80 4 rfl rfl)
theorem dL_law_2085 : decode cL_law 2085 = .ok (.iaload, 1) := dk_46 (dk_at dksL_law_80 5 rfl rfl)
theorem dL_law_2086 : decode cL_law 2086 = .ok (.aload_n 0, 1) := dk_42 (dk_at dksL_law_80 6 rfl rfl)
theorem dL_law_2087 : decode cL_law 2087 = .ok (.iload 5, 2) := dk_21 5 (dk_at dksL_law_80 7 rfl rfl)
theorem dL_law_2089 : decode cL_law 2089 = .ok (.iconst 2, 1) := dk_5 (dk_at dksL_law_80 9 rfl rfl)
theorem dL_law_2090 : decode cL_law 2090 = .ok (.iadd, 1) := dk_96 (dk_at dksL_law_80 10 rfl rfl)
theorem dL_law_2091 : decode cL_law 2091 = .ok (.iaload, 1) := dk_46 (dk_at dksL_law_80 11 rfl rfl)
theorem dL_law_2092 : decode cL_law 2092 = .ok (.aload_n 0, 1) := dk_42 (dk_at dksL_law_80 12 rfl rfl)
theorem dL_law_2093 : decode cL_law 2093 = .ok (.iload 5, 2) := dk_21 5 (dk_at dksL_law_80 13 rfl rfl)
theorem dL_law_2095 : decode cL_law 2095 = .ok (.iconst 3, 1) := dk_6 (dk_at dksL_law_80 15 rfl rfl)
theorem dL_law_2096 : decode cL_law 2096 = .ok (.iadd, 1) := dk_96 (dk_at dksL_law_80 16 rfl rfl)
theorem dL_law_2097 : decode cL_law 2097 = .ok (.iaload, 1) := dk_46 (dk_at dksL_law_80 17 rfl rfl)
theorem dL_law_2098 : decode cL_law 2098 = .ok (.aload_n 0, 1) := dk_42 (dk_at dksL_law_80 18 rfl rfl)
theorem dL_law_2099 : decode cL_law 2099 = .ok (.iload 5, 2) := dk_21 5 (dk_at dksL_law_80 19 rfl rfl)
theorem dL_law_2101 : decode cL_law 2101 = .ok (.iconst 4, 1) := dk_7 (dk_at dksL_law_80 21 rfl rfl)
theorem dL_law_2102 : decode cL_law 2102 = .ok (.iadd, 1) := dk_96 (dk_at dksL_law_80 22 rfl rfl)
theorem dL_law_2103 : decode cL_law 2103 = .ok (.iaload, 1) := dk_46 (dk_at dksL_law_80 23 rfl rfl)
theorem dL_law_2104 : decode cL_law 2104 = .ok (.invokevirtual 286, 3) := dk_182 1 30 (dk_at dksL_law_81 0 rfl rfl)
theorem dL_law_2107 : decode cL_law 2107 = .ok (.istore 7, 2) := dk_54 7 (dk_at dksL_law_81 3 rfl rfl)
theorem dL_law_2109 : decode cL_law 2109 = .ok (.aload_n 2, 1) := dk_44 (dk_at dksL_law_81 5 rfl rfl)
theorem dL_law_2110 : decode cL_law 2110 = .ok (.invokevirtual 129, 3) := dk_182 0 129 (dk_at dksL_law_81 6 rfl rfl)
theorem dL_law_2113 : decode cL_law 2113 = .ok (.iload 6, 2) := dk_21 6 (dk_at dksL_law_81 9 rfl rfl)
theorem dL_law_2115 : decode cL_law 2115 = .ok (.if_icmp .eq 5, 3) := dk_159 0 5 (dk_at dksL_law_81 11 rfl rfl)
theorem dL_law_2118 : decode cL_law 2118 = .ok (.iconst 0, 1) := dk_3 (dk_at dksL_law_81 14 rfl rfl)
theorem dL_law_2119 : decode cL_law 2119 = .ok (.ireturn, 1) := dk_172 (dk_at dksL_law_81 15 rfl rfl)
theorem dL_law_2120 : decode cL_law 2120 = .ok (.iload 6, 2) := dk_21 6 (dk_at dksL_law_81 16 rfl rfl)
theorem dL_law_2122 : decode cL_law 2122 = .ok (.ifCond .ne 15, 3) := dk_154 0 15 (dk_at dksL_law_81 18 rfl rfl)
theorem dL_law_2125 : decode cL_law 2125 = .ok (.aload_n 3, 1) := dk_45 (dk_at dksL_law_81 21 rfl rfl)
theorem dL_law_2126 : decode cL_law 2126 = .ok (.iconst 0, 1) := dk_3 (dk_at dksL_law_81 22 rfl rfl)
theorem dL_law_2127 : decode cL_law 2127 = .ok (.laload, 1) := dk_47 (dk_at dksL_law_81 23 rfl rfl)
theorem dL_law_2128 : decode cL_law 2128 = .ok (.iload 7, 2) := dk_21 7 (dk_at dksL_law_82 0 rfl rfl)
theorem dL_law_2130 : decode cL_law 2130 = .ok (.i2l, 1) := dk_133 (dk_at dksL_law_82 2 rfl rfl)
theorem dL_law_2131 : decode cL_law 2131 = .ok (.lcmp, 1) := dk_148 (dk_at dksL_law_82 3 rfl rfl)
theorem dL_law_2132 : decode cL_law 2132 = .ok (.ifCond .eq 5, 3) := dk_153 0 5 (dk_at dksL_law_82 4 rfl rfl)
theorem dL_law_2135 : decode cL_law 2135 = .ok (.iconst 0, 1) := dk_3 (dk_at dksL_law_82 7 rfl rfl)
theorem dL_law_2136 : decode cL_law 2136 = .ok (.ireturn, 1) := dk_172 (dk_at dksL_law_82 8 rfl rfl)
theorem dL_law_2137 : decode cL_law 2137 = .ok (.goto 447, 3) := dk_167 1 191 (dk_at dksL_law_82 9 rfl rfl)
theorem dL_law_2140 : decode cL_law 2140 = .ok (.aload_n 1, 1) := dk_43 (dk_at dksL_law_82 12 rfl rfl)
theorem dL_law_2141 : decode cL_law 2141 = .ok (.aload_n 0, 1) := dk_42 (dk_at dksL_law_82 13 rfl rfl)
theorem dL_law_2142 : decode cL_law 2142 = .ok (.iload 5, 2) := dk_21 5 (dk_at dksL_law_82 14 rfl rfl)
theorem dL_law_2144 : decode cL_law 2144 = .ok (.iconst 1, 1) := dk_4 (dk_at dksL_law_82 16 rfl rfl)
theorem dL_law_2145 : decode cL_law 2145 = .ok (.iadd, 1) := dk_96 (dk_at dksL_law_82 17 rfl rfl)
theorem dL_law_2146 : decode cL_law 2146 = .ok (.iaload, 1) := dk_46 (dk_at dksL_law_82 18 rfl rfl)
theorem dL_law_2147 : decode cL_law 2147 = .ok (.aload_n 3, 1) := dk_45 (dk_at dksL_law_82 19 rfl rfl)
theorem dL_law_2148 : decode cL_law 2148 = .ok (.invokestatic 287, 3) := dk_184 1 31 (dk_at dksL_law_82 20 rfl rfl)
theorem dL_law_2151 : decode cL_law 2151 = .ok (.istore 6, 2) := dk_54 6 (dk_at dksL_law_83 0 rfl rfl)
theorem dL_law_2153 : decode cL_law 2153 = .ok (.aload_n 2, 1) := dk_44 (dk_at dksL_law_83 2 rfl rfl)
theorem dL_law_2154 : decode cL_law 2154 = .ok (.aload_n 0, 1) := dk_42 (dk_at dksL_law_83 3 rfl rfl)
theorem dL_law_2155 : decode cL_law 2155 = .ok (.iload 5, 2) := dk_21 5 (dk_at dksL_law_83 4 rfl rfl)
theorem dL_law_2157 : decode cL_law 2157 = .ok (.iconst 1, 1) := dk_4 (dk_at dksL_law_83 6 rfl rfl)
theorem dL_law_2158 : decode cL_law 2158 = .ok (.iadd, 1) := dk_96 (dk_at dksL_law_83 7 rfl rfl)
theorem dL_law_2159 : decode cL_law 2159 = .ok (.iaload, 1) := dk_46 (dk_at dksL_law_83 8 rfl rfl)
theorem dL_law_2160 : decode cL_law 2160 = .ok (.invokevirtual 289, 3) := dk_182 1 33 (dk_at dksL_law_83 9 rfl rfl)
theorem dL_law_2163 : decode cL_law 2163 = .ok (.istore 7, 2) := dk_54 7 (dk_at dksL_law_83 12 rfl rfl)
theorem dL_law_2165 : decode cL_law 2165 = .ok (.aload_n 2, 1) := dk_44 (dk_at dksL_law_83 14 rfl rfl)
theorem dL_law_2166 : decode cL_law 2166 = .ok (.invokevirtual 129, 3) := dk_182 0 129 (dk_at dksL_law_83 15 rfl rfl)
theorem dL_law_2169 : decode cL_law 2169 = .ok (.iload 6, 2) := dk_21 6 (dk_at dksL_law_83 18 rfl rfl)
theorem dL_law_2171 : decode cL_law 2171 = .ok (.if_icmp .eq 5, 3) := dk_159 0 5 (dk_at dksL_law_83 20 rfl rfl)
theorem dL_law_2174 : decode cL_law 2174 = .ok (.iconst 0, 1) := dk_3 (dk_at dksL_law_83 23 rfl rfl)
theorem dL_law_2175 : decode cL_law 2175 = .ok (.ireturn, 1) := dk_172 (dk_at dksL_law_84 0 rfl rfl)
theorem dL_law_2176 : decode cL_law 2176 = .ok (.iload 6, 2) := dk_21 6 (dk_at dksL_law_84 1 rfl rfl)
theorem dL_law_2178 : decode cL_law 2178 = .ok (.ifCond .ne 15, 3) := dk_154 0 15 (dk_at dksL_law_84 3 rfl rfl)
theorem dL_law_2181 : decode cL_law 2181 = .ok (.aload_n 3, 1) := dk_45 (dk_at dksL_law_84 6 rfl rfl)
theorem dL_law_2182 : decode cL_law 2182 = .ok (.iconst 0, 1) := dk_3 (dk_at dksL_law_84 7 rfl rfl)
theorem dL_law_2183 : decode cL_law 2183 = .ok (.laload, 1) := dk_47 (dk_at dksL_law_84 8 rfl rfl)
theorem dL_law_2184 : decode cL_law 2184 = .ok (.iload 7, 2) := dk_21 7 (dk_at dksL_law_84 9 rfl rfl)
theorem dL_law_2186 : decode cL_law 2186 = .ok (.i2l, 1) := dk_133 (dk_at dksL_law_84 11 rfl rfl)
theorem dL_law_2187 : decode cL_law 2187 = .ok (.lcmp, 1) := dk_148 (dk_at dksL_law_84 12 rfl rfl)
theorem dL_law_2188 : decode cL_law 2188 = .ok (.ifCond .eq 5, 3) := dk_153 0 5 (dk_at dksL_law_84 13 rfl rfl)
theorem dL_law_2191 : decode cL_law 2191 = .ok (.iconst 0, 1) := dk_3 (dk_at dksL_law_84 16 rfl rfl)
theorem dL_law_2192 : decode cL_law 2192 = .ok (.ireturn, 1) := dk_172 (dk_at dksL_law_84 17 rfl rfl)
theorem dL_law_2193 : decode cL_law 2193 = .ok (.goto 391, 3) := dk_167 1 135 (dk_at dksL_law_84 18 rfl rfl)
theorem dL_law_2196 : decode cL_law 2196 = .ok (.aload_n 1, 1) := dk_43 (dk_at dksL_law_84 21 rfl rfl)
theorem dL_law_2197 : decode cL_law 2197 = .ok (.aload_n 0, 1) := dk_42 (dk_at dksL_law_84 22 rfl rfl)
theorem dL_law_2198 : decode cL_law 2198 = .ok (.iload 5, 2) := dk_21 5 (dk_at dksL_law_85 0 rfl rfl)
theorem dL_law_2200 : decode cL_law 2200 = .ok (.iconst 1, 1) := dk_4 (dk_at dksL_law_85 2 rfl rfl)
theorem dL_law_2201 : decode cL_law 2201 = .ok (.iadd, 1) := dk_96 (dk_at dksL_law_85 3 rfl rfl)
theorem dL_law_2202 : decode cL_law 2202 = .ok (.iaload, 1) := dk_46 (dk_at dksL_law_85 4 rfl rfl)
theorem dL_law_2203 : decode cL_law 2203 = .ok (.aload_n 3, 1) := dk_45 (dk_at dksL_law_85 5 rfl rfl)
theorem dL_law_2204 : decode cL_law 2204 = .ok (.invokestatic 290, 3) := dk_184 1 34 (dk_at dksL_law_85 6 rfl rfl)
theorem dL_law_2207 : decode cL_law 2207 = .ok (.istore 6, 2) := dk_54 6 (dk_at dksL_law_85 9 rfl rfl)
theorem dL_law_2209 : decode cL_law 2209 = .ok (.aload_n 2, 1) := dk_44 (dk_at dksL_law_85 11 rfl rfl)
theorem dL_law_2210 : decode cL_law 2210 = .ok (.aload_n 0, 1) := dk_42 (dk_at dksL_law_85 12 rfl rfl)
theorem dL_law_2211 : decode cL_law 2211 = .ok (.iload 5, 2) := dk_21 5 (dk_at dksL_law_85 13 rfl rfl)
theorem dL_law_2213 : decode cL_law 2213 = .ok (.iconst 1, 1) := dk_4 (dk_at dksL_law_85 15 rfl rfl)
theorem dL_law_2214 : decode cL_law 2214 = .ok (.iadd, 1) := dk_96 (dk_at dksL_law_85 16 rfl rfl)
theorem dL_law_2215 : decode cL_law 2215 = .ok (.iaload, 1) := dk_46 (dk_at dksL_law_85 17 rfl rfl)
theorem dL_law_2216 : decode cL_law 2216 = .ok (.invokevirtual 292, 3) := dk_182 1 36 (dk_at dksL_law_85 18 rfl rfl)
theorem dL_law_2219 : decode cL_law 2219 = .ok (.istore 7, 2) := dk_54 7 (dk_at dksL_law_85 21 rfl rfl)
theorem dL_law_2221 : decode cL_law 2221 = .ok (.aload_n 2, 1) := dk_44 (dk_at dksL_law_85 23 rfl rfl)
theorem dL_law_2222 : decode cL_law 2222 = .ok (.invokevirtual 129, 3) := dk_182 0 129 (dk_at dksL_law_86 0 rfl rfl)
theorem dL_law_2225 : decode cL_law 2225 = .ok (.iload 6, 2) := dk_21 6 (dk_at dksL_law_86 3 rfl rfl)
theorem dL_law_2227 : decode cL_law 2227 = .ok (.if_icmp .eq 5, 3) := dk_159 0 5 (dk_at dksL_law_86 5 rfl rfl)
theorem dL_law_2230 : decode cL_law 2230 = .ok (.iconst 0, 1) := dk_3 (dk_at dksL_law_86 8 rfl rfl)
theorem dL_law_2231 : decode cL_law 2231 = .ok (.ireturn, 1) := dk_172 (dk_at dksL_law_86 9 rfl rfl)
theorem dL_law_2232 : decode cL_law 2232 = .ok (.iload 6, 2) := dk_21 6 (dk_at dksL_law_86 10 rfl rfl)
theorem dL_law_2234 : decode cL_law 2234 = .ok (.ifCond .ne 15, 3) := dk_154 0 15 (dk_at dksL_law_86 12 rfl rfl)
theorem dL_law_2237 : decode cL_law 2237 = .ok (.aload_n 3, 1) := dk_45 (dk_at dksL_law_86 15 rfl rfl)
theorem dL_law_2238 : decode cL_law 2238 = .ok (.iconst 0, 1) := dk_3 (dk_at dksL_law_86 16 rfl rfl)
theorem dL_law_2239 : decode cL_law 2239 = .ok (.laload, 1) := dk_47 (dk_at dksL_law_86 17 rfl rfl)
theorem dL_law_2240 : decode cL_law 2240 = .ok (.iload 7, 2) := dk_21 7 (dk_at dksL_law_86 18 rfl rfl)
theorem dL_law_2242 : decode cL_law 2242 = .ok (.i2l, 1) := dk_133 (dk_at dksL_law_86 20 rfl rfl)
theorem dL_law_2243 : decode cL_law 2243 = .ok (.lcmp, 1) := dk_148 (dk_at dksL_law_86 21 rfl rfl)
theorem dL_law_2244 : decode cL_law 2244 = .ok (.ifCond .eq 5, 3) := dk_153 0 5 (dk_at dksL_law_87 0 rfl rfl)
theorem dL_law_2247 : decode cL_law 2247 = .ok (.iconst 0, 1) := dk_3 (dk_at dksL_law_87 3 rfl rfl)
theorem dL_law_2248 : decode cL_law 2248 = .ok (.ireturn, 1) := dk_172 (dk_at dksL_law_87 4 rfl rfl)
theorem dL_law_2249 : decode cL_law 2249 = .ok (.goto 335, 3) := dk_167 1 79 (dk_at dksL_law_87 5 rfl rfl)
theorem dL_law_2252 : decode cL_law 2252 = .ok (.aload_n 1, 1) := dk_43 (dk_at dksL_law_87 8 rfl rfl)
theorem dL_law_2253 : decode cL_law 2253 = .ok (.aload_n 0, 1) := dk_42 (dk_at dksL_law_87 9 rfl rfl)
theorem dL_law_2254 : decode cL_law 2254 = .ok (.iload 5, 2) := dk_21 5 (dk_at dksL_law_87 10 rfl rfl)
theorem dL_law_2256 : decode cL_law 2256 = .ok (.iconst 1, 1) := dk_4 (dk_at dksL_law_87 12 rfl rfl)
theorem dL_law_2257 : decode cL_law 2257 = .ok (.iadd, 1) := dk_96 (dk_at dksL_law_87 13 rfl rfl)
theorem dL_law_2258 : decode cL_law 2258 = .ok (.iaload, 1) := dk_46 (dk_at dksL_law_87 14 rfl rfl)
theorem dL_law_2259 : decode cL_law 2259 = .ok (.aload_n 3, 1) := dk_45 (dk_at dksL_law_87 15 rfl rfl)
theorem dL_law_2260 : decode cL_law 2260 = .ok (.invokestatic 293, 3) := dk_184 1 37 (dk_at dksL_law_87 16 rfl rfl)
theorem dL_law_2263 : decode cL_law 2263 = .ok (.istore 6, 2) := dk_54 6 (dk_at dksL_law_87 19 rfl rfl)
theorem dL_law_2265 : decode cL_law 2265 = .ok (.aload_n 2, 1) := dk_44 (dk_at dksL_law_87 21 rfl rfl)
theorem dL_law_2266 : decode cL_law 2266 = .ok (.aload_n 0, 1) := dk_42 (dk_at dksL_law_87 22 rfl rfl)
theorem dL_law_2267 : decode cL_law 2267 = .ok (.iload 5, 2) := dk_21 5 (dk_at dksL_law_88 0 rfl rfl)
theorem dL_law_2269 : decode cL_law 2269 = .ok (.iconst 1, 1) := dk_4 (dk_at dksL_law_88 2 rfl rfl)
theorem dL_law_2270 : decode cL_law 2270 = .ok (.iadd, 1) := dk_96 (dk_at dksL_law_88 3 rfl rfl)
theorem dL_law_2271 : decode cL_law 2271 = .ok (.iaload, 1) := dk_46 (dk_at dksL_law_88 4 rfl rfl)
theorem dL_law_2272 : decode cL_law 2272 = .ok (.invokevirtual 295, 3) := dk_182 1 39 (dk_at dksL_law_88 5 rfl rfl)
theorem dL_law_2275 : decode cL_law 2275 = .ok (.istore 7, 2) := dk_54 7 (dk_at dksL_law_88 8 rfl rfl)
theorem dL_law_2277 : decode cL_law 2277 = .ok (.aload_n 2, 1) := dk_44 (dk_at dksL_law_88 10 rfl rfl)
theorem dL_law_2278 : decode cL_law 2278 = .ok (.invokevirtual 129, 3) := dk_182 0 129 (dk_at dksL_law_88 11 rfl rfl)
theorem dL_law_2281 : decode cL_law 2281 = .ok (.iload 6, 2) := dk_21 6 (dk_at dksL_law_88 14 rfl rfl)
theorem dL_law_2283 : decode cL_law 2283 = .ok (.if_icmp .eq 5, 3) := dk_159 0 5 (dk_at dksL_law_88 16 rfl rfl)
theorem dL_law_2286 : decode cL_law 2286 = .ok (.iconst 0, 1) := dk_3 (dk_at dksL_law_88 19 rfl rfl)
theorem dL_law_2287 : decode cL_law 2287 = .ok (.ireturn, 1) := dk_172 (dk_at dksL_law_88 20 rfl rfl)
theorem dL_law_2288 : decode cL_law 2288 = .ok (.iload 6, 2) := dk_21 6 (dk_at dksL_law_88 21 rfl rfl)
theorem dL_law_2290 : decode cL_law 2290 = .ok (.ifCond .ne 15, 3) := dk_154 0 15 (dk_at dksL_law_89 0 rfl rfl)
theorem dL_law_2293 : decode cL_law 2293 = .ok (.aload_n 3, 1) := dk_45 (dk_at dksL_law_89 3 rfl rfl)
theorem dL_law_2294 : decode cL_law 2294 = .ok (.iconst 0, 1) := dk_3 (dk_at dksL_law_89 4 rfl rfl)
theorem dL_law_2295 : decode cL_law 2295 = .ok (.laload, 1) := dk_47 (dk_at dksL_law_89 5 rfl rfl)
theorem dL_law_2296 : decode cL_law 2296 = .ok (.iload 7, 2) := dk_21 7 (dk_at dksL_law_89 6 rfl rfl)
theorem dL_law_2298 : decode cL_law 2298 = .ok (.i2l, 1) := dk_133 (dk_at dksL_law_89 8 rfl rfl)
theorem dL_law_2299 : decode cL_law 2299 = .ok (.lcmp, 1) := dk_148 (dk_at dksL_law_89 9 rfl rfl)
theorem dL_law_2300 : decode cL_law 2300 = .ok (.ifCond .eq 5, 3) := dk_153 0 5 (dk_at dksL_law_89 10 rfl rfl)
theorem dL_law_2303 : decode cL_law 2303 = .ok (.iconst 0, 1) := dk_3 (dk_at dksL_law_89 13 rfl rfl)
theorem dL_law_2304 : decode cL_law 2304 = .ok (.ireturn, 1) := dk_172 (dk_at dksL_law_89 14 rfl rfl)
theorem dL_law_2305 : decode cL_law 2305 = .ok (.goto 279, 3) := dk_167 1 23 (dk_at dksL_law_89 15 rfl rfl)
theorem dL_law_2308 : decode cL_law 2308 = .ok (.aload_n 1, 1) := dk_43 (dk_at dksL_law_89 18 rfl rfl)
theorem dL_law_2309 : decode cL_law 2309 = .ok (.aload_n 0, 1) := dk_42 (dk_at dksL_law_89 19 rfl rfl)
theorem dL_law_2310 : decode cL_law 2310 = .ok (.iload 5, 2) := dk_21 5 (dk_at dksL_law_89 20 rfl rfl)
theorem dL_law_2312 : decode cL_law 2312 = .ok (.iconst 1, 1) := dk_4 (dk_at dksL_law_89 22 rfl rfl)
theorem dL_law_2313 : decode cL_law 2313 = .ok (.iadd, 1) := dk_96 (dk_at dksL_law_89 23 rfl rfl)
theorem dL_law_2314 : decode cL_law 2314 = .ok (.iaload, 1) := dk_46 (dk_at dksL_law_90 0 rfl rfl)
theorem dL_law_2315 : decode cL_law 2315 = .ok (.aload_n 3, 1) := dk_45 (dk_at dksL_law_90 1 rfl rfl)
theorem dL_law_2316 : decode cL_law 2316 = .ok (.invokestatic 296, 3) := dk_184 1 40 (dk_at dksL_law_90 2 rfl rfl)
theorem dL_law_2319 : decode cL_law 2319 = .ok (.istore 6, 2) := dk_54 6 (dk_at dksL_law_90 5 rfl rfl)
theorem dL_law_2321 : decode cL_law 2321 = .ok (.aload_n 2, 1) := dk_44 (dk_at dksL_law_90 7 rfl rfl)
theorem dL_law_2322 : decode cL_law 2322 = .ok (.aload_n 0, 1) := dk_42 (dk_at dksL_law_90 8 rfl rfl)
theorem dL_law_2323 : decode cL_law 2323 = .ok (.iload 5, 2) := dk_21 5 (dk_at dksL_law_90 9 rfl rfl)
theorem dL_law_2325 : decode cL_law 2325 = .ok (.iconst 1, 1) := dk_4 (dk_at dksL_law_90 11 rfl rfl)
theorem dL_law_2326 : decode cL_law 2326 = .ok (.iadd, 1) := dk_96 (dk_at dksL_law_90 12 rfl rfl)
theorem dL_law_2327 : decode cL_law 2327 = .ok (.iaload, 1) := dk_46 (dk_at dksL_law_90 13 rfl rfl)
theorem dL_law_2328 : decode cL_law 2328 = .ok (.invokevirtual 298, 3) := dk_182 1 42 (dk_at dksL_law_90 14 rfl rfl)
theorem dL_law_2331 : decode cL_law 2331 = .ok (.istore 7, 2) := dk_54 7 (dk_at dksL_law_90 17 rfl rfl)
theorem dL_law_2333 : decode cL_law 2333 = .ok (.aload_n 2, 1) := dk_44 (dk_at dksL_law_90 19 rfl rfl)
theorem dL_law_2334 : decode cL_law 2334 = .ok (.invokevirtual 129, 3) := dk_182 0 129 (dk_at dksL_law_90 20 rfl rfl)
theorem dL_law_2337 : decode cL_law 2337 = .ok (.iload 6, 2) := dk_21 6 (dk_at dksL_law_91 0 rfl rfl)
theorem dL_law_2339 : decode cL_law 2339 = .ok (.if_icmp .eq 5, 3) := dk_159 0 5 (dk_at dksL_law_91 2 rfl rfl)
theorem dL_law_2342 : decode cL_law 2342 = .ok (.iconst 0, 1) := dk_3 (dk_at dksL_law_91 5 rfl rfl)
theorem dL_law_2343 : decode cL_law 2343 = .ok (.ireturn, 1) := dk_172 (dk_at dksL_law_91 6 rfl rfl)
theorem dL_law_2344 : decode cL_law 2344 = .ok (.iload 6, 2) := dk_21 6 (dk_at dksL_law_91 7 rfl rfl)
theorem dL_law_2346 : decode cL_law 2346 = .ok (.ifCond .ne 15, 3) := dk_154 0 15 (dk_at dksL_law_91 9 rfl rfl)
theorem dL_law_2349 : decode cL_law 2349 = .ok (.aload_n 3, 1) := dk_45 (dk_at dksL_law_91 12 rfl rfl)
theorem dL_law_2350 : decode cL_law 2350 = .ok (.iconst 0, 1) := dk_3 (dk_at dksL_law_91 13 rfl rfl)
theorem dL_law_2351 : decode cL_law 2351 = .ok (.laload, 1) := dk_47 (dk_at dksL_law_91 14 rfl rfl)
theorem dL_law_2352 : decode cL_law 2352 = .ok (.iload 7, 2) := dk_21 7 (dk_at dksL_law_91 15 rfl rfl)
theorem dL_law_2354 : decode cL_law 2354 = .ok (.i2l, 1) := dk_133 (dk_at dksL_law_91 17 rfl rfl)
theorem dL_law_2355 : decode cL_law 2355 = .ok (.lcmp, 1) := dk_148 (dk_at dksL_law_91 18 rfl rfl)
theorem dL_law_2356 : decode cL_law 2356 = .ok (.ifCond .eq 5, 3) := dk_153 0 5 (dk_at dksL_law_91 19 rfl rfl)
theorem dL_law_2359 : decode cL_law 2359 = .ok (.iconst 0, 1) := dk_3 (dk_at dksL_law_91 22 rfl rfl)
theorem dL_law_2360 : decode cL_law 2360 = .ok (.ireturn, 1) := dk_172 (dk_at dksL_law_91 23 rfl rfl)
theorem dL_law_2361 : decode cL_law 2361 = .ok (.goto 223, 3) := dk_167 0 223 (dk_at dksL_law_92 0 rfl rfl)
theorem dL_law_2364 : decode cL_law 2364 = .ok (.aload_n 1, 1) := dk_43 (dk_at dksL_law_92 3 rfl rfl)
theorem dL_law_2365 : decode cL_law 2365 = .ok (.invokevirtual 299, 3) := dk_182 1 43 (dk_at dksL_law_92 4 rfl rfl)
theorem dL_law_2368 : decode cL_law 2368 = .ok (.aload_n 2, 1) := dk_44 (dk_at dksL_law_92 7 rfl rfl)
theorem dL_law_2369 : decode cL_law 2369 = .ok (.invokevirtual 302, 3) := dk_182 1 46 (dk_at dksL_law_92 8 rfl rfl)
theorem dL_law_2372 : decode cL_law 2372 = .ok (.if_icmp .eq 212, 3) := dk_159 0 212 (dk_at dksL_law_92 11 rfl rfl)
theorem dL_law_2375 : decode cL_law 2375 = .ok (.iconst 0, 1) := dk_3 (dk_at dksL_law_92 14 rfl rfl)
theorem dL_law_2376 : decode cL_law 2376 = .ok (.ireturn, 1) := dk_172 (dk_at dksL_law_92 15 rfl rfl)
theorem dL_law_2377 : decode cL_law 2377 = .ok (.aload_n 1, 1) := dk_43 (dk_at dksL_law_92 16 rfl rfl)
theorem dL_law_2378 : decode cL_law 2378 = .ok (.invokevirtual 303, 3) := dk_182 1 47 (dk_at dksL_law_92 17 rfl rfl)
theorem dL_law_2381 : decode cL_law 2381 = .ok (.aload_n 2, 1) := dk_44 (dk_at dksL_law_92 20 rfl rfl)
theorem dL_law_2382 : decode cL_law 2382 = .ok (.invokevirtual 306, 3) := dk_182 1 50 (dk_at dksL_law_92 21 rfl rfl)
theorem dL_law_2385 : decode cL_law 2385 = .ok (.if_icmp .eq 199, 3) := dk_159 0 199 (dk_at dksL_law_93 0 rfl rfl)
theorem dL_law_2388 : decode cL_law 2388 = .ok (.iconst 0, 1) := dk_3 (dk_at dksL_law_93 3 rfl rfl)
theorem dL_law_2389 : decode cL_law 2389 = .ok (.ireturn, 1) := dk_172 (dk_at dksL_law_93 4 rfl rfl)
theorem dL_law_2390 : decode cL_law 2390 = .ok (.aload_n 1, 1) := dk_43 (dk_at dksL_law_93 5 rfl rfl)
theorem dL_law_2391 : decode cL_law 2391 = .ok (.aload_n 0, 1) := dk_42 (dk_at dksL_law_93 6 rfl rfl)
theorem dL_law_2392 : decode cL_law 2392 = .ok (.iload 5, 2) := dk_21 5 (dk_at dksL_law_93 7 rfl rfl)
theorem dL_law_2394 : decode cL_law 2394 = .ok (.iconst 1, 1) := dk_4 (dk_at dksL_law_93 9 rfl rfl)
theorem dL_law_2395 : decode cL_law 2395 = .ok (.iadd, 1) := dk_96 (dk_at dksL_law_93 10 rfl rfl)
theorem dL_law_2396 : decode cL_law 2396 = .ok (.iaload, 1) := dk_46 (dk_at dksL_law_93 11 rfl rfl)
theorem dL_law_2397 : decode cL_law 2397 = .ok (.invokevirtual 307, 3) := dk_182 1 51 (dk_at dksL_law_93 12 rfl rfl)
theorem dL_law_2400 : decode cL_law 2400 = .ok (.aload_n 2, 1) := dk_44 (dk_at dksL_law_93 15 rfl rfl)
theorem dL_law_2401 : decode cL_law 2401 = .ok (.aload_n 0, 1) := dk_42 (dk_at dksL_law_93 16 rfl rfl)
theorem dL_law_2402 : decode cL_law 2402 = .ok (.iload 5, 2) := dk_21 5 (dk_at dksL_law_93 17 rfl rfl)
theorem dL_law_2404 : decode cL_law 2404 = .ok (.iconst 1, 1) := dk_4 (dk_at dksL_law_93 19 rfl rfl)
theorem dL_law_2405 : decode cL_law 2405 = .ok (.iadd, 1) := dk_96 (dk_at dksL_law_93 20 rfl rfl)
theorem dL_law_2406 : decode cL_law 2406 = .ok (.iaload, 1) := dk_46 (dk_at dksL_law_93 21 rfl rfl)
theorem dL_law_2407 : decode cL_law 2407 = .ok (.invokevirtual 310, 3) := dk_182 1 54 (dk_at dksL_law_94 0 rfl rfl)
theorem dL_law_2410 : decode cL_law 2410 = .ok (.if_icmp .eq 174, 3) := dk_159 0 174 (dk_at dksL_law_94 3 rfl rfl)
theorem dL_law_2413 : decode cL_law 2413 = .ok (.iconst 0, 1) := dk_3 (dk_at dksL_law_94 6 rfl rfl)
theorem dL_law_2414 : decode cL_law 2414 = .ok (.ireturn, 1) := dk_172 (dk_at dksL_law_94 7 rfl rfl)
theorem dL_law_2415 : decode cL_law 2415 = .ok (.aload_n 1, 1) := dk_43 (dk_at dksL_law_94 8 rfl rfl)
theorem dL_law_2416 : decode cL_law 2416 = .ok (.invokevirtual 311, 3) := dk_182 1 55 (dk_at dksL_law_94 9 rfl rfl)
theorem dL_law_2419 : decode cL_law 2419 = .ok (.aload_n 2, 1) := dk_44 (dk_at dksL_law_94 12 rfl rfl)
theorem dL_law_2420 : decode cL_law 2420 = .ok (.invokevirtual 314, 3) := dk_182 1 58 (dk_at dksL_law_94 13 rfl rfl)
theorem dL_law_2423 : decode cL_law 2423 = .ok (.if_icmp .eq 161, 3) := dk_159 0 161 (dk_at dksL_law_94 16 rfl rfl)
theorem dL_law_2426 : decode cL_law 2426 = .ok (.iconst 0, 1) := dk_3 (dk_at dksL_law_94 19 rfl rfl)
theorem dL_law_2427 : decode cL_law 2427 = .ok (.ireturn, 1) := dk_172 (dk_at dksL_law_94 20 rfl rfl)
theorem dL_law_2428 : decode cL_law 2428 = .ok (.aload_n 1, 1) := dk_43 (dk_at dksL_law_94 21 rfl rfl)
theorem dL_law_2429 : decode cL_law 2429 = .ok (.aload_n 3, 1) := dk_45 (dk_at dksL_law_94 22 rfl rfl)
theorem dL_law_2430 : decode cL_law 2430 = .ok (.invokestatic 315, 3) := dk_184 1 59 (dk_at dksL_law_95 0 rfl rfl)
theorem dL_law_2433 : decode cL_law 2433 = .ok (.istore 6, 2) := dk_54 6 (dk_at dksL_law_95 3 rfl rfl)
theorem dL_law_2435 : decode cL_law 2435 = .ok (.aload_n 2, 1) := dk_44 (dk_at dksL_law_95 5 rfl rfl)
theorem dL_law_2436 : decode cL_law 2436 = .ok (.invokevirtual 318, 3) := dk_182 1 62 (dk_at dksL_law_95 6 rfl rfl)
theorem dL_law_2439 : decode cL_law 2439 = .ok (.istore 7, 2) := dk_54 7 (dk_at dksL_law_95 9 rfl rfl)
theorem dL_law_2441 : decode cL_law 2441 = .ok (.aload_n 2, 1) := dk_44 (dk_at dksL_law_95 11 rfl rfl)
theorem dL_law_2442 : decode cL_law 2442 = .ok (.invokevirtual 129, 3) := dk_182 0 129 (dk_at dksL_law_95 12 rfl rfl)
theorem dL_law_2445 : decode cL_law 2445 = .ok (.iload 6, 2) := dk_21 6 (dk_at dksL_law_95 15 rfl rfl)
theorem dL_law_2447 : decode cL_law 2447 = .ok (.if_icmp .eq 5, 3) := dk_159 0 5 (dk_at dksL_law_95 17 rfl rfl)
theorem dL_law_2450 : decode cL_law 2450 = .ok (.iconst 0, 1) := dk_3 (dk_at dksL_law_95 20 rfl rfl)
theorem dL_law_2451 : decode cL_law 2451 = .ok (.ireturn, 1) := dk_172 (dk_at dksL_law_95 21 rfl rfl)
theorem dL_law_2452 : decode cL_law 2452 = .ok (.iload 6, 2) := dk_21 6 (dk_at dksL_law_95 22 rfl rfl)
theorem dL_law_2454 : decode cL_law 2454 = .ok (.ifCond .ne 15, 3) := dk_154 0 15 (dk_at dksL_law_96 0 rfl rfl)
theorem dL_law_2457 : decode cL_law 2457 = .ok (.aload_n 3, 1) := dk_45 (dk_at dksL_law_96 3 rfl rfl)
theorem dL_law_2458 : decode cL_law 2458 = .ok (.iconst 0, 1) := dk_3 (dk_at dksL_law_96 4 rfl rfl)
theorem dL_law_2459 : decode cL_law 2459 = .ok (.laload, 1) := dk_47 (dk_at dksL_law_96 5 rfl rfl)
theorem dL_law_2460 : decode cL_law 2460 = .ok (.iload 7, 2) := dk_21 7 (dk_at dksL_law_96 6 rfl rfl)
theorem dL_law_2462 : decode cL_law 2462 = .ok (.i2l, 1) := dk_133 (dk_at dksL_law_96 8 rfl rfl)
theorem dL_law_2463 : decode cL_law 2463 = .ok (.lcmp, 1) := dk_148 (dk_at dksL_law_96 9 rfl rfl)
theorem dL_law_2464 : decode cL_law 2464 = .ok (.ifCond .eq 5, 3) := dk_153 0 5 (dk_at dksL_law_96 10 rfl rfl)
theorem dL_law_2467 : decode cL_law 2467 = .ok (.iconst 0, 1) := dk_3 (dk_at dksL_law_96 13 rfl rfl)
theorem dL_law_2468 : decode cL_law 2468 = .ok (.ireturn, 1) := dk_172 (dk_at dksL_law_96 14 rfl rfl)
theorem dL_law_2469 : decode cL_law 2469 = .ok (.goto 115, 3) := dk_167 0 115 (dk_at dksL_law_96 15 rfl rfl)
theorem dL_law_2472 : decode cL_law 2472 = .ok (.aload_n 1, 1) := dk_43 (dk_at dksL_law_96 18 rfl rfl)
theorem dL_law_2473 : decode cL_law 2473 = .ok (.aload_n 0, 1) := dk_42 (dk_at dksL_law_96 19 rfl rfl)
theorem dL_law_2474 : decode cL_law 2474 = .ok (.iload 5, 2) := dk_21 5 (dk_at dksL_law_96 20 rfl rfl)
theorem dL_law_2476 : decode cL_law 2476 = .ok (.iconst 1, 1) := dk_4 (dk_at dksL_law_96 22 rfl rfl)
theorem dL_law_2477 : decode cL_law 2477 = .ok (.iadd, 1) := dk_96 (dk_at dksL_law_96 23 rfl rfl)
theorem dL_law_2478 : decode cL_law 2478 = .ok (.iaload, 1) := dk_46 (dk_at dksL_law_97 0 rfl rfl)
theorem dL_law_2479 : decode cL_law 2479 = .ok (.aload_n 3, 1) := dk_45 (dk_at dksL_law_97 1 rfl rfl)
theorem dL_law_2480 : decode cL_law 2480 = .ok (.invokestatic 319, 3) := dk_184 1 63 (dk_at dksL_law_97 2 rfl rfl)
theorem dL_law_2483 : decode cL_law 2483 = .ok (.istore 6, 2) := dk_54 6 (dk_at dksL_law_97 5 rfl rfl)
theorem dL_law_2485 : decode cL_law 2485 = .ok (.aload_n 2, 1) := dk_44 (dk_at dksL_law_97 7 rfl rfl)
theorem dL_law_2486 : decode cL_law 2486 = .ok (.aload_n 0, 1) := dk_42 (dk_at dksL_law_97 8 rfl rfl)
theorem dL_law_2487 : decode cL_law 2487 = .ok (.iload 5, 2) := dk_21 5 (dk_at dksL_law_97 9 rfl rfl)
theorem dL_law_2489 : decode cL_law 2489 = .ok (.iconst 1, 1) := dk_4 (dk_at dksL_law_97 11 rfl rfl)
theorem dL_law_2490 : decode cL_law 2490 = .ok (.iadd, 1) := dk_96 (dk_at dksL_law_97 12 rfl rfl)
theorem dL_law_2491 : decode cL_law 2491 = .ok (.iaload, 1) := dk_46 (dk_at dksL_law_97 13 rfl rfl)
theorem dL_law_2492 : decode cL_law 2492 = .ok (.invokevirtual 321, 3) := dk_182 1 65 (dk_at dksL_law_97 14 rfl rfl)
theorem dL_law_2495 : decode cL_law 2495 = .ok (.istore 7, 2) := dk_54 7 (dk_at dksL_law_97 17 rfl rfl)
theorem dL_law_2497 : decode cL_law 2497 = .ok (.aload_n 2, 1) := dk_44 (dk_at dksL_law_97 19 rfl rfl)
theorem dL_law_2498 : decode cL_law 2498 = .ok (.invokevirtual 129, 3) := dk_182 0 129 (dk_at dksL_law_97 20 rfl rfl)
theorem dL_law_2501 : decode cL_law 2501 = .ok (.iload 6, 2) := dk_21 6 (dk_at dksL_law_98 0 rfl rfl)
theorem dL_law_2503 : decode cL_law 2503 = .ok (.if_icmp .eq 5, 3) := dk_159 0 5 (dk_at dksL_law_98 2 rfl rfl)
theorem dL_law_2506 : decode cL_law 2506 = .ok (.iconst 0, 1) := dk_3 (dk_at dksL_law_98 5 rfl rfl)
theorem dL_law_2507 : decode cL_law 2507 = .ok (.ireturn, 1) := dk_172 (dk_at dksL_law_98 6 rfl rfl)
theorem dL_law_2508 : decode cL_law 2508 = .ok (.iload 6, 2) := dk_21 6 (dk_at dksL_law_98 7 rfl rfl)
theorem dL_law_2510 : decode cL_law 2510 = .ok (.ifCond .ne 15, 3) := dk_154 0 15 (dk_at dksL_law_98 9 rfl rfl)
theorem dL_law_2513 : decode cL_law 2513 = .ok (.aload_n 3, 1) := dk_45 (dk_at dksL_law_98 12 rfl rfl)
theorem dL_law_2514 : decode cL_law 2514 = .ok (.iconst 0, 1) := dk_3 (dk_at dksL_law_98 13 rfl rfl)
theorem dL_law_2515 : decode cL_law 2515 = .ok (.laload, 1) := dk_47 (dk_at dksL_law_98 14 rfl rfl)
theorem dL_law_2516 : decode cL_law 2516 = .ok (.iload 7, 2) := dk_21 7 (dk_at dksL_law_98 15 rfl rfl)
theorem dL_law_2518 : decode cL_law 2518 = .ok (.i2l, 1) := dk_133 (dk_at dksL_law_98 17 rfl rfl)
theorem dL_law_2519 : decode cL_law 2519 = .ok (.lcmp, 1) := dk_148 (dk_at dksL_law_98 18 rfl rfl)
theorem dL_law_2520 : decode cL_law 2520 = .ok (.ifCond .eq 5, 3) := dk_153 0 5 (dk_at dksL_law_98 19 rfl rfl)
theorem dL_law_2523 : decode cL_law 2523 = .ok (.iconst 0, 1) := dk_3 (dk_at dksL_law_98 22 rfl rfl)
theorem dL_law_2524 : decode cL_law 2524 = .ok (.ireturn, 1) := dk_172 (dk_at dksL_law_98 23 rfl rfl)
theorem dL_law_2525 : decode cL_law 2525 = .ok (.goto 59, 3) := dk_167 0 59 (dk_at dksL_law_99 0 rfl rfl)
theorem dL_law_2528 : decode cL_law 2528 = .ok (.aload_n 1, 1) := dk_43 (dk_at dksL_law_99 3 rfl rfl)
theorem dL_law_2529 : decode cL_law 2529 = .ok (.aload_n 0, 1) := dk_42 (dk_at dksL_law_99 4 rfl rfl)
theorem dL_law_2530 : decode cL_law 2530 = .ok (.iload 5, 2) := dk_21 5 (dk_at dksL_law_99 5 rfl rfl)
theorem dL_law_2532 : decode cL_law 2532 = .ok (.iconst 1, 1) := dk_4 (dk_at dksL_law_99 7 rfl rfl)
theorem dL_law_2533 : decode cL_law 2533 = .ok (.iadd, 1) := dk_96 (dk_at dksL_law_99 8 rfl rfl)
theorem dL_law_2534 : decode cL_law 2534 = .ok (.iaload, 1) := dk_46 (dk_at dksL_law_99 9 rfl rfl)
theorem dL_law_2535 : decode cL_law 2535 = .ok (.aload_n 3, 1) := dk_45 (dk_at dksL_law_99 10 rfl rfl)
theorem dL_law_2536 : decode cL_law 2536 = .ok (.invokestatic 322, 3) := dk_184 1 66 (dk_at dksL_law_99 11 rfl rfl)
theorem dL_law_2539 : decode cL_law 2539 = .ok (.istore 6, 2) := dk_54 6 (dk_at dksL_law_99 14 rfl rfl)
theorem dL_law_2541 : decode cL_law 2541 = .ok (.aload_n 2, 1) := dk_44 (dk_at dksL_law_99 16 rfl rfl)
theorem dL_law_2542 : decode cL_law 2542 = .ok (.aload_n 0, 1) := dk_42 (dk_at dksL_law_99 17 rfl rfl)
theorem dL_law_2543 : decode cL_law 2543 = .ok (.iload 5, 2) := dk_21 5 (dk_at dksL_law_99 18 rfl rfl)
theorem dL_law_2545 : decode cL_law 2545 = .ok (.iconst 1, 1) := dk_4 (dk_at dksL_law_99 20 rfl rfl)
theorem dL_law_2546 : decode cL_law 2546 = .ok (.iadd, 1) := dk_96 (dk_at dksL_law_99 21 rfl rfl)
theorem dL_law_2547 : decode cL_law 2547 = .ok (.iaload, 1) := dk_46 (dk_at dksL_law_99 22 rfl rfl)
theorem dL_law_2548 : decode cL_law 2548 = .ok (.invokevirtual 324, 3) := dk_182 1 68 (dk_at dksL_law_100 0 rfl rfl)
theorem dL_law_2551 : decode cL_law 2551 = .ok (.istore 7, 2) := dk_54 7 (dk_at dksL_law_100 3 rfl rfl)
theorem dL_law_2553 : decode cL_law 2553 = .ok (.aload_n 2, 1) := dk_44 (dk_at dksL_law_100 5 rfl rfl)
theorem dL_law_2554 : decode cL_law 2554 = .ok (.invokevirtual 129, 3) := dk_182 0 129 (dk_at dksL_law_100 6 rfl rfl)
theorem dL_law_2557 : decode cL_law 2557 = .ok (.iload 6, 2) := dk_21 6 (dk_at dksL_law_100 9 rfl rfl)
theorem dL_law_2559 : decode cL_law 2559 = .ok (.if_icmp .eq 5, 3) := dk_159 0 5 (dk_at dksL_law_100 11 rfl rfl)
theorem dL_law_2562 : decode cL_law 2562 = .ok (.iconst 0, 1) := dk_3 (dk_at dksL_law_100 14 rfl rfl)
theorem dL_law_2563 : decode cL_law 2563 = .ok (.ireturn, 1) := dk_172 (dk_at dksL_law_100 15 rfl rfl)
theorem dL_law_2564 : decode cL_law 2564 = .ok (.iload 6, 2) := dk_21 6 (dk_at dksL_law_100 16 rfl rfl)
theorem dL_law_2566 : decode cL_law 2566 = .ok (.ifCond .ne 15, 3) := dk_154 0 15 (dk_at dksL_law_100 18 rfl rfl)
theorem dL_law_2569 : decode cL_law 2569 = .ok (.aload_n 3, 1) := dk_45 (dk_at dksL_law_100 21 rfl rfl)
theorem dL_law_2570 : decode cL_law 2570 = .ok (.iconst 0, 1) := dk_3 (dk_at dksL_law_100 22 rfl rfl)
theorem dL_law_2571 : decode cL_law 2571 = .ok (.laload, 1) := dk_47 (dk_at dksL_law_100 23 rfl rfl)
theorem dL_law_2572 : decode cL_law 2572 = .ok (.iload 7, 2) := dk_21 7 (dk_at dksL_law_101 0 rfl rfl)
theorem dL_law_2574 : decode cL_law 2574 = .ok (.i2l, 1) := dk_133 (dk_at dksL_law_101 2 rfl rfl)
theorem dL_law_2575 : decode cL_law 2575 = .ok (.lcmp, 1) := dk_148 (dk_at dksL_law_101 3 rfl rfl)
theorem dL_law_2576 : decode cL_law 2576 = .ok (.ifCond .eq 5, 3) := dk_153 0 5 (dk_at dksL_law_101 4 rfl rfl)
theorem dL_law_2579 : decode cL_law 2579 = .ok (.iconst 0, 1) := dk_3 (dk_at dksL_law_101 7 rfl rfl)
theorem dL_law_2580 : decode cL_law 2580 = .ok (.ireturn, 1) := dk_172 (dk_at dksL_law_101 8 rfl rfl)
theorem dL_law_2581 : decode cL_law 2581 = .ok (.goto 3, 3) := dk_167 0 3 (dk_at dksL_law_101 9 rfl rfl)
theorem dL_law_2584 : decode cL_law 2584 = .ok (.iinc 5 6, 3) := dk_132 5 6 (dk_at dksL_law_101 12 rfl rfl)
theorem dL_law_2587 : decode cL_law 2587 = .ok (.goto (-2559), 3) := dk_167 246 1 (dk_at dksL_law_101 15 rfl rfl)
theorem dL_law_2590 : decode cL_law 2590 = .ok (.iconst 1, 1) := dk_4 (dk_at dksL_law_101 18 rfl rfl)
theorem dL_law_2591 : decode cL_law 2591 = .ok (.ireturn, 1) := dk_172 (dk_at dksL_law_101 19 rfl rfl)

