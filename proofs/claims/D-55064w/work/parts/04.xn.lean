/-! HorsehairTradeLaw -/
set_option maxRecDepth 100000
def RX0 : String := "HorsehairTradeLaw"
abbrev cX0_tail : ByteArray := method_3_code
def yX0_tail : MethodName := ⟨RX0, "tail", "(LHorsehairTrade;III[J)I"⟩
def dkwX0_tail_0 : List UInt8 := [25, 4, 3, 42, 27, 28, 29, 182, 0, 7, 133, 80, 167, 0, 7, 58, 5, 4, 172, 3, 172]
abbrev dktX0_tail_0 : List UInt8 := dkwX0_tail_0 ++ []
theorem dksX0_tail_0 : cX0_tail.data.toList.drop 0 = dktX0_tail_0 := by decide +kernel
theorem dX0_tail_0 : decode cX0_tail 0 = .ok (.aload 4, 2) := dk_25 4 (dk_at dksX0_tail_0 0 rfl rfl)
theorem dX0_tail_2 : decode cX0_tail 2 = .ok (.iconst 0, 1) := dk_3 (dk_at dksX0_tail_0 2 rfl rfl)
theorem dX0_tail_3 : decode cX0_tail 3 = .ok (.aload_n 0, 1) := dk_42 (dk_at dksX0_tail_0 3 rfl rfl)
theorem dX0_tail_4 : decode cX0_tail 4 = .ok (.iload_n 1, 1) := dk_27 (dk_at dksX0_tail_0 4 rfl rfl)
theorem dX0_tail_5 : decode cX0_tail 5 = .ok (.iload_n 2, 1) := dk_28 (dk_at dksX0_tail_0 5 rfl rfl)
theorem dX0_tail_6 : decode cX0_tail 6 = .ok (.iload_n 3, 1) := dk_29 (dk_at dksX0_tail_0 6 rfl rfl)
theorem dX0_tail_7 : decode cX0_tail 7 = .ok (.invokevirtual 7, 3) := dk_182 0 7 (dk_at dksX0_tail_0 7 rfl rfl)
theorem dX0_tail_10 : decode cX0_tail 10 = .ok (.i2l, 1) := dk_133 (dk_at dksX0_tail_0 10 rfl rfl)
theorem dX0_tail_11 : decode cX0_tail 11 = .ok (.lastore, 1) := dk_80 (dk_at dksX0_tail_0 11 rfl rfl)
theorem dX0_tail_12 : decode cX0_tail 12 = .ok (.goto 7, 3) := dk_167 0 7 (dk_at dksX0_tail_0 12 rfl rfl)
theorem dX0_tail_15 : decode cX0_tail 15 = .ok (.astore 5, 2) := dk_58 5 (dk_at dksX0_tail_0 15 rfl rfl)
theorem dX0_tail_17 : decode cX0_tail 17 = .ok (.iconst 1, 1) := dk_4 (dk_at dksX0_tail_0 17 rfl rfl)
theorem dX0_tail_18 : decode cX0_tail 18 = .ok (.ireturn, 1) := dk_172 (dk_at dksX0_tail_0 18 rfl rfl)
theorem dX0_tail_19 : decode cX0_tail 19 = .ok (.iconst 0, 1) := dk_3 (dk_at dksX0_tail_0 19 rfl rfl)
theorem dX0_tail_20 : decode cX0_tail 20 = .ok (.ireturn, 1) := dk_172 (dk_at dksX0_tail_0 20 rfl rfl)
abbrev cX0_comb : ByteArray := method_4_code
def yX0_comb : MethodName := ⟨RX0, "comb", "(LHorsehairTrade;II[J)I"⟩
def dkwX0_comb_0 : List UInt8 := [45, 3, 42, 27, 28, 182, 0, 15, 133, 80, 167, 0, 7, 58, 4, 4, 172, 3, 172]
abbrev dktX0_comb_0 : List UInt8 := dkwX0_comb_0 ++ []
theorem dksX0_comb_0 : cX0_comb.data.toList.drop 0 = dktX0_comb_0 := by decide +kernel
theorem dX0_comb_0 : decode cX0_comb 0 = .ok (.aload_n 3, 1) := dk_45 (dk_at dksX0_comb_0 0 rfl rfl)
theorem dX0_comb_1 : decode cX0_comb 1 = .ok (.iconst 0, 1) := dk_3 (dk_at dksX0_comb_0 1 rfl rfl)
theorem dX0_comb_2 : decode cX0_comb 2 = .ok (.aload_n 0, 1) := dk_42 (dk_at dksX0_comb_0 2 rfl rfl)
theorem dX0_comb_3 : decode cX0_comb 3 = .ok (.iload_n 1, 1) := dk_27 (dk_at dksX0_comb_0 3 rfl rfl)
theorem dX0_comb_4 : decode cX0_comb 4 = .ok (.iload_n 2, 1) := dk_28 (dk_at dksX0_comb_0 4 rfl rfl)
theorem dX0_comb_5 : decode cX0_comb 5 = .ok (.invokevirtual 15, 3) := dk_182 0 15 (dk_at dksX0_comb_0 5 rfl rfl)
theorem dX0_comb_8 : decode cX0_comb 8 = .ok (.i2l, 1) := dk_133 (dk_at dksX0_comb_0 8 rfl rfl)
theorem dX0_comb_9 : decode cX0_comb 9 = .ok (.lastore, 1) := dk_80 (dk_at dksX0_comb_0 9 rfl rfl)
theorem dX0_comb_10 : decode cX0_comb 10 = .ok (.goto 7, 3) := dk_167 0 7 (dk_at dksX0_comb_0 10 rfl rfl)
theorem dX0_comb_13 : decode cX0_comb 13 = .ok (.astore 4, 2) := dk_58 4 (dk_at dksX0_comb_0 13 rfl rfl)
theorem dX0_comb_15 : decode cX0_comb 15 = .ok (.iconst 1, 1) := dk_4 (dk_at dksX0_comb_0 15 rfl rfl)
theorem dX0_comb_16 : decode cX0_comb 16 = .ok (.ireturn, 1) := dk_172 (dk_at dksX0_comb_0 16 rfl rfl)
theorem dX0_comb_17 : decode cX0_comb 17 = .ok (.iconst 0, 1) := dk_3 (dk_at dksX0_comb_0 17 rfl rfl)
theorem dX0_comb_18 : decode cX0_comb 18 = .ok (.ireturn, 1) := dk_172 (dk_at dksX0_comb_0 18 rfl rfl)
abbrev cX0_tie : ByteArray := method_5_code
def yX0_tie : MethodName := ⟨RX0, "tie", "(LHorsehairTrade;II[J)I"⟩
def dkwX0_tie_0 : List UInt8 := [45, 3, 42, 27, 28, 182, 0, 19, 133, 80, 167, 0, 7, 58, 4, 4, 172, 3, 172]
abbrev dktX0_tie_0 : List UInt8 := dkwX0_tie_0 ++ []
theorem dksX0_tie_0 : cX0_tie.data.toList.drop 0 = dktX0_tie_0 := by decide +kernel
theorem dX0_tie_0 : decode cX0_tie 0 = .ok (.aload_n 3, 1) := dk_45 (dk_at dksX0_tie_0 0 rfl rfl)
theorem dX0_tie_1 : decode cX0_tie 1 = .ok (.iconst 0, 1) := dk_3 (dk_at dksX0_tie_0 1 rfl rfl)
theorem dX0_tie_2 : decode cX0_tie 2 = .ok (.aload_n 0, 1) := dk_42 (dk_at dksX0_tie_0 2 rfl rfl)
theorem dX0_tie_3 : decode cX0_tie 3 = .ok (.iload_n 1, 1) := dk_27 (dk_at dksX0_tie_0 3 rfl rfl)
theorem dX0_tie_4 : decode cX0_tie 4 = .ok (.iload_n 2, 1) := dk_28 (dk_at dksX0_tie_0 4 rfl rfl)
theorem dX0_tie_5 : decode cX0_tie 5 = .ok (.invokevirtual 19, 3) := dk_182 0 19 (dk_at dksX0_tie_0 5 rfl rfl)
theorem dX0_tie_8 : decode cX0_tie 8 = .ok (.i2l, 1) := dk_133 (dk_at dksX0_tie_0 8 rfl rfl)
theorem dX0_tie_9 : decode cX0_tie 9 = .ok (.lastore, 1) := dk_80 (dk_at dksX0_tie_0 9 rfl rfl)
theorem dX0_tie_10 : decode cX0_tie 10 = .ok (.goto 7, 3) := dk_167 0 7 (dk_at dksX0_tie_0 10 rfl rfl)
theorem dX0_tie_13 : decode cX0_tie 13 = .ok (.astore 4, 2) := dk_58 4 (dk_at dksX0_tie_0 13 rfl rfl)
theorem dX0_tie_15 : decode cX0_tie 15 = .ok (.iconst 1, 1) := dk_4 (dk_at dksX0_tie_0 15 rfl rfl)
theorem dX0_tie_16 : decode cX0_tie 16 = .ok (.ireturn, 1) := dk_172 (dk_at dksX0_tie_0 16 rfl rfl)
theorem dX0_tie_17 : decode cX0_tie 17 = .ok (.iconst 0, 1) := dk_3 (dk_at dksX0_tie_0 17 rfl rfl)
theorem dX0_tie_18 : decode cX0_tie 18 = .ok (.ireturn, 1) := dk_172 (dk_at dksX0_tie_0 18 rfl rfl)
abbrev cX0_weave : ByteArray := method_6_code
def yX0_weave : MethodName := ⟨RX0, "weave", "(LHorsehairTrade;II[J)I"⟩
def dkwX0_weave_0 : List UInt8 := [45, 3, 42, 27, 28, 182, 0, 22, 133, 80, 167, 0, 7, 58, 4, 4, 172, 3, 172]
abbrev dktX0_weave_0 : List UInt8 := dkwX0_weave_0 ++ []
theorem dksX0_weave_0 : cX0_weave.data.toList.drop 0 = dktX0_weave_0 := by decide +kernel
theorem dX0_weave_0 : decode cX0_weave 0 = .ok (.aload_n 3, 1) := dk_45 (dk_at dksX0_weave_0 0 rfl rfl)
theorem dX0_weave_1 : decode cX0_weave 1 = .ok (.iconst 0, 1) := dk_3 (dk_at dksX0_weave_0 1 rfl rfl)
theorem dX0_weave_2 : decode cX0_weave 2 = .ok (.aload_n 0, 1) := dk_42 (dk_at dksX0_weave_0 2 rfl rfl)
theorem dX0_weave_3 : decode cX0_weave 3 = .ok (.iload_n 1, 1) := dk_27 (dk_at dksX0_weave_0 3 rfl rfl)
theorem dX0_weave_4 : decode cX0_weave 4 = .ok (.iload_n 2, 1) := dk_28 (dk_at dksX0_weave_0 4 rfl rfl)
theorem dX0_weave_5 : decode cX0_weave 5 = .ok (.invokevirtual 22, 3) := dk_182 0 22 (dk_at dksX0_weave_0 5 rfl rfl)
theorem dX0_weave_8 : decode cX0_weave 8 = .ok (.i2l, 1) := dk_133 (dk_at dksX0_weave_0 8 rfl rfl)
theorem dX0_weave_9 : decode cX0_weave 9 = .ok (.lastore, 1) := dk_80 (dk_at dksX0_weave_0 9 rfl rfl)
theorem dX0_weave_10 : decode cX0_weave 10 = .ok (.goto 7, 3) := dk_167 0 7 (dk_at dksX0_weave_0 10 rfl rfl)
theorem dX0_weave_13 : decode cX0_weave 13 = .ok (.astore 4, 2) := dk_58 4 (dk_at dksX0_weave_0 13 rfl rfl)
theorem dX0_weave_15 : decode cX0_weave 15 = .ok (.iconst 1, 1) := dk_4 (dk_at dksX0_weave_0 15 rfl rfl)
theorem dX0_weave_16 : decode cX0_weave 16 = .ok (.ireturn, 1) := dk_172 (dk_at dksX0_weave_0 16 rfl rfl)
theorem dX0_weave_17 : decode cX0_weave 17 = .ok (.iconst 0, 1) := dk_3 (dk_at dksX0_weave_0 17 rfl rfl)
theorem dX0_weave_18 : decode cX0_weave 18 = .ok (.ireturn, 1) := dk_172 (dk_at dksX0_weave_0 18 rfl rfl)
abbrev cX0_bow : ByteArray := method_7_code
def yX0_bow : MethodName := ⟨RX0, "bow", "(LHorsehairTrade;I[J)I"⟩
def dkwX0_bow_0 : List UInt8 := [44, 3, 42, 27, 182, 0, 25, 133, 80, 167, 0, 6, 78, 4, 172, 3, 172]
abbrev dktX0_bow_0 : List UInt8 := dkwX0_bow_0 ++ []
theorem dksX0_bow_0 : cX0_bow.data.toList.drop 0 = dktX0_bow_0 := by decide +kernel
theorem dX0_bow_0 : decode cX0_bow 0 = .ok (.aload_n 2, 1) := dk_44 (dk_at dksX0_bow_0 0 rfl rfl)
theorem dX0_bow_1 : decode cX0_bow 1 = .ok (.iconst 0, 1) := dk_3 (dk_at dksX0_bow_0 1 rfl rfl)
theorem dX0_bow_2 : decode cX0_bow 2 = .ok (.aload_n 0, 1) := dk_42 (dk_at dksX0_bow_0 2 rfl rfl)
theorem dX0_bow_3 : decode cX0_bow 3 = .ok (.iload_n 1, 1) := dk_27 (dk_at dksX0_bow_0 3 rfl rfl)
theorem dX0_bow_4 : decode cX0_bow 4 = .ok (.invokevirtual 25, 3) := dk_182 0 25 (dk_at dksX0_bow_0 4 rfl rfl)
theorem dX0_bow_7 : decode cX0_bow 7 = .ok (.i2l, 1) := dk_133 (dk_at dksX0_bow_0 7 rfl rfl)
theorem dX0_bow_8 : decode cX0_bow 8 = .ok (.lastore, 1) := dk_80 (dk_at dksX0_bow_0 8 rfl rfl)
theorem dX0_bow_9 : decode cX0_bow 9 = .ok (.goto 6, 3) := dk_167 0 6 (dk_at dksX0_bow_0 9 rfl rfl)
theorem dX0_bow_12 : decode cX0_bow 12 = .ok (.astore_n 3, 1) := dk_78 (dk_at dksX0_bow_0 12 rfl rfl)
theorem dX0_bow_13 : decode cX0_bow 13 = .ok (.iconst 1, 1) := dk_4 (dk_at dksX0_bow_0 13 rfl rfl)
theorem dX0_bow_14 : decode cX0_bow 14 = .ok (.ireturn, 1) := dk_172 (dk_at dksX0_bow_0 14 rfl rfl)
theorem dX0_bow_15 : decode cX0_bow 15 = .ok (.iconst 0, 1) := dk_3 (dk_at dksX0_bow_0 15 rfl rfl)
theorem dX0_bow_16 : decode cX0_bow 16 = .ok (.ireturn, 1) := dk_172 (dk_at dksX0_bow_0 16 rfl rfl)
abbrev cX0_hair : ByteArray := method_8_code
def yX0_hair : MethodName := ⟨RX0, "hair", "(LHorsehairTrade;II[J)I"⟩
def dkwX0_hair_0 : List UInt8 := [45, 3, 42, 27, 28, 182, 0, 29, 133, 80, 167, 0, 7, 58, 4, 4, 172, 3, 172]
abbrev dktX0_hair_0 : List UInt8 := dkwX0_hair_0 ++ []
theorem dksX0_hair_0 : cX0_hair.data.toList.drop 0 = dktX0_hair_0 := by decide +kernel
theorem dX0_hair_0 : decode cX0_hair 0 = .ok (.aload_n 3, 1) := dk_45 (dk_at dksX0_hair_0 0 rfl rfl)
theorem dX0_hair_1 : decode cX0_hair 1 = .ok (.iconst 0, 1) := dk_3 (dk_at dksX0_hair_0 1 rfl rfl)
theorem dX0_hair_2 : decode cX0_hair 2 = .ok (.aload_n 0, 1) := dk_42 (dk_at dksX0_hair_0 2 rfl rfl)
theorem dX0_hair_3 : decode cX0_hair 3 = .ok (.iload_n 1, 1) := dk_27 (dk_at dksX0_hair_0 3 rfl rfl)
theorem dX0_hair_4 : decode cX0_hair 4 = .ok (.iload_n 2, 1) := dk_28 (dk_at dksX0_hair_0 4 rfl rfl)
theorem dX0_hair_5 : decode cX0_hair 5 = .ok (.invokevirtual 29, 3) := dk_182 0 29 (dk_at dksX0_hair_0 5 rfl rfl)
theorem dX0_hair_8 : decode cX0_hair 8 = .ok (.i2l, 1) := dk_133 (dk_at dksX0_hair_0 8 rfl rfl)
theorem dX0_hair_9 : decode cX0_hair 9 = .ok (.lastore, 1) := dk_80 (dk_at dksX0_hair_0 9 rfl rfl)
theorem dX0_hair_10 : decode cX0_hair 10 = .ok (.goto 7, 3) := dk_167 0 7 (dk_at dksX0_hair_0 10 rfl rfl)
theorem dX0_hair_13 : decode cX0_hair 13 = .ok (.astore 4, 2) := dk_58 4 (dk_at dksX0_hair_0 13 rfl rfl)
theorem dX0_hair_15 : decode cX0_hair 15 = .ok (.iconst 1, 1) := dk_4 (dk_at dksX0_hair_0 15 rfl rfl)
theorem dX0_hair_16 : decode cX0_hair 16 = .ok (.ireturn, 1) := dk_172 (dk_at dksX0_hair_0 16 rfl rfl)
theorem dX0_hair_17 : decode cX0_hair 17 = .ok (.iconst 0, 1) := dk_3 (dk_at dksX0_hair_0 17 rfl rfl)
theorem dX0_hair_18 : decode cX0_hair 18 = .ok (.ireturn, 1) := dk_172 (dk_at dksX0_hair_0 18 rfl rfl)
abbrev cX0_cake : ByteArray := method_9_code
def yX0_cake : MethodName := ⟨RX0, "cake", "(LHorsehairTrade;I[J)I"⟩
def dkwX0_cake_0 : List UInt8 := [44, 3, 42, 27, 182, 0, 32, 133, 80, 167, 0, 6, 78, 4, 172, 3, 172]
abbrev dktX0_cake_0 : List UInt8 := dkwX0_cake_0 ++ []
theorem dksX0_cake_0 : cX0_cake.data.toList.drop 0 = dktX0_cake_0 := by decide +kernel
theorem dX0_cake_0 : decode cX0_cake 0 = .ok (.aload_n 2, 1) := dk_44 (dk_at dksX0_cake_0 0 rfl rfl)
theorem dX0_cake_1 : decode cX0_cake 1 = .ok (.iconst 0, 1) := dk_3 (dk_at dksX0_cake_0 1 rfl rfl)
theorem dX0_cake_2 : decode cX0_cake 2 = .ok (.aload_n 0, 1) := dk_42 (dk_at dksX0_cake_0 2 rfl rfl)
theorem dX0_cake_3 : decode cX0_cake 3 = .ok (.iload_n 1, 1) := dk_27 (dk_at dksX0_cake_0 3 rfl rfl)
theorem dX0_cake_4 : decode cX0_cake 4 = .ok (.invokevirtual 32, 3) := dk_182 0 32 (dk_at dksX0_cake_0 4 rfl rfl)
theorem dX0_cake_7 : decode cX0_cake 7 = .ok (.i2l, 1) := dk_133 (dk_at dksX0_cake_0 7 rfl rfl)
theorem dX0_cake_8 : decode cX0_cake 8 = .ok (.lastore, 1) := dk_80 (dk_at dksX0_cake_0 8 rfl rfl)
theorem dX0_cake_9 : decode cX0_cake 9 = .ok (.goto 6, 3) := dk_167 0 6 (dk_at dksX0_cake_0 9 rfl rfl)
theorem dX0_cake_12 : decode cX0_cake 12 = .ok (.astore_n 3, 1) := dk_78 (dk_at dksX0_cake_0 12 rfl rfl)
theorem dX0_cake_13 : decode cX0_cake 13 = .ok (.iconst 1, 1) := dk_4 (dk_at dksX0_cake_0 13 rfl rfl)
theorem dX0_cake_14 : decode cX0_cake 14 = .ok (.ireturn, 1) := dk_172 (dk_at dksX0_cake_0 14 rfl rfl)
theorem dX0_cake_15 : decode cX0_cake 15 = .ok (.iconst 0, 1) := dk_3 (dk_at dksX0_cake_0 15 rfl rfl)
theorem dX0_cake_16 : decode cX0_cake 16 = .ok (.ireturn, 1) := dk_172 (dk_at dksX0_cake_0 16 rfl rfl)
abbrev cX0_rosin : ByteArray := method_10_code
def yX0_rosin : MethodName := ⟨RX0, "rosin", "(LHorsehairTrade;II[J)I"⟩
def dkwX0_rosin_0 : List UInt8 := [45, 3, 42, 27, 28, 182, 0, 35, 133, 80, 167, 0, 7, 58, 4, 4, 172, 3, 172]
abbrev dktX0_rosin_0 : List UInt8 := dkwX0_rosin_0 ++ []
theorem dksX0_rosin_0 : cX0_rosin.data.toList.drop 0 = dktX0_rosin_0 := by decide +kernel
theorem dX0_rosin_0 : decode cX0_rosin 0 = .ok (.aload_n 3, 1) := dk_45 (dk_at dksX0_rosin_0 0 rfl rfl)
theorem dX0_rosin_1 : decode cX0_rosin 1 = .ok (.iconst 0, 1) := dk_3 (dk_at dksX0_rosin_0 1 rfl rfl)
theorem dX0_rosin_2 : decode cX0_rosin 2 = .ok (.aload_n 0, 1) := dk_42 (dk_at dksX0_rosin_0 2 rfl rfl)
theorem dX0_rosin_3 : decode cX0_rosin 3 = .ok (.iload_n 1, 1) := dk_27 (dk_at dksX0_rosin_0 3 rfl rfl)
theorem dX0_rosin_4 : decode cX0_rosin 4 = .ok (.iload_n 2, 1) := dk_28 (dk_at dksX0_rosin_0 4 rfl rfl)
theorem dX0_rosin_5 : decode cX0_rosin 5 = .ok (.invokevirtual 35, 3) := dk_182 0 35 (dk_at dksX0_rosin_0 5 rfl rfl)
theorem dX0_rosin_8 : decode cX0_rosin 8 = .ok (.i2l, 1) := dk_133 (dk_at dksX0_rosin_0 8 rfl rfl)
theorem dX0_rosin_9 : decode cX0_rosin 9 = .ok (.lastore, 1) := dk_80 (dk_at dksX0_rosin_0 9 rfl rfl)
theorem dX0_rosin_10 : decode cX0_rosin 10 = .ok (.goto 7, 3) := dk_167 0 7 (dk_at dksX0_rosin_0 10 rfl rfl)
theorem dX0_rosin_13 : decode cX0_rosin 13 = .ok (.astore 4, 2) := dk_58 4 (dk_at dksX0_rosin_0 13 rfl rfl)
theorem dX0_rosin_15 : decode cX0_rosin 15 = .ok (.iconst 1, 1) := dk_4 (dk_at dksX0_rosin_0 15 rfl rfl)
theorem dX0_rosin_16 : decode cX0_rosin 16 = .ok (.ireturn, 1) := dk_172 (dk_at dksX0_rosin_0 16 rfl rfl)
theorem dX0_rosin_17 : decode cX0_rosin 17 = .ok (.iconst 0, 1) := dk_3 (dk_at dksX0_rosin_0 17 rfl rfl)
theorem dX0_rosin_18 : decode cX0_rosin 18 = .ok (.ireturn, 1) := dk_172 (dk_at dksX0_rosin_0 18 rfl rfl)
abbrev cX0_play : ByteArray := method_11_code
def yX0_play : MethodName := ⟨RX0, "play", "(LHorsehairTrade;II[J)I"⟩
def dkwX0_play_0 : List UInt8 := [45, 3, 42, 27, 28, 182, 0, 38, 133, 80, 167, 0, 7, 58, 4, 4, 172, 3, 172]
abbrev dktX0_play_0 : List UInt8 := dkwX0_play_0 ++ []
theorem dksX0_play_0 : cX0_play.data.toList.drop 0 = dktX0_play_0 := by decide +kernel
theorem dX0_play_0 : decode cX0_play 0 = .ok (.aload_n 3, 1) := dk_45 (dk_at dksX0_play_0 0 rfl rfl)
theorem dX0_play_1 : decode cX0_play 1 = .ok (.iconst 0, 1) := dk_3 (dk_at dksX0_play_0 1 rfl rfl)
theorem dX0_play_2 : decode cX0_play 2 = .ok (.aload_n 0, 1) := dk_42 (dk_at dksX0_play_0 2 rfl rfl)
theorem dX0_play_3 : decode cX0_play 3 = .ok (.iload_n 1, 1) := dk_27 (dk_at dksX0_play_0 3 rfl rfl)
theorem dX0_play_4 : decode cX0_play 4 = .ok (.iload_n 2, 1) := dk_28 (dk_at dksX0_play_0 4 rfl rfl)
theorem dX0_play_5 : decode cX0_play 5 = .ok (.invokevirtual 38, 3) := dk_182 0 38 (dk_at dksX0_play_0 5 rfl rfl)
theorem dX0_play_8 : decode cX0_play 8 = .ok (.i2l, 1) := dk_133 (dk_at dksX0_play_0 8 rfl rfl)
theorem dX0_play_9 : decode cX0_play 9 = .ok (.lastore, 1) := dk_80 (dk_at dksX0_play_0 9 rfl rfl)
theorem dX0_play_10 : decode cX0_play 10 = .ok (.goto 7, 3) := dk_167 0 7 (dk_at dksX0_play_0 10 rfl rfl)
theorem dX0_play_13 : decode cX0_play 13 = .ok (.astore 4, 2) := dk_58 4 (dk_at dksX0_play_0 13 rfl rfl)
theorem dX0_play_15 : decode cX0_play 15 = .ok (.iconst 1, 1) := dk_4 (dk_at dksX0_play_0 15 rfl rfl)
theorem dX0_play_16 : decode cX0_play 16 = .ok (.ireturn, 1) := dk_172 (dk_at dksX0_play_0 16 rfl rfl)
theorem dX0_play_17 : decode cX0_play 17 = .ok (.iconst 0, 1) := dk_3 (dk_at dksX0_play_0 17 rfl rfl)
theorem dX0_play_18 : decode cX0_play 18 = .ok (.ireturn, 1) := dk_172 (dk_at dksX0_play_0 18 rfl rfl)
abbrev cX0_road : ByteArray := method_12_code
def yX0_road : MethodName := ⟨RX0, "road", "(LHorsehairTrade;II[J)I"⟩
def dkwX0_road_0 : List UInt8 := [45, 3, 42, 27, 28, 182, 0, 41, 133, 80, 167, 0, 7, 58, 4, 4, 172, 3, 172]
abbrev dktX0_road_0 : List UInt8 := dkwX0_road_0 ++ []
theorem dksX0_road_0 : cX0_road.data.toList.drop 0 = dktX0_road_0 := by decide +kernel
theorem dX0_road_0 : decode cX0_road 0 = .ok (.aload_n 3, 1) := dk_45 (dk_at dksX0_road_0 0 rfl rfl)
theorem dX0_road_1 : decode cX0_road 1 = .ok (.iconst 0, 1) := dk_3 (dk_at dksX0_road_0 1 rfl rfl)
theorem dX0_road_2 : decode cX0_road 2 = .ok (.aload_n 0, 1) := dk_42 (dk_at dksX0_road_0 2 rfl rfl)
theorem dX0_road_3 : decode cX0_road 3 = .ok (.iload_n 1, 1) := dk_27 (dk_at dksX0_road_0 3 rfl rfl)
theorem dX0_road_4 : decode cX0_road 4 = .ok (.iload_n 2, 1) := dk_28 (dk_at dksX0_road_0 4 rfl rfl)
theorem dX0_road_5 : decode cX0_road 5 = .ok (.invokevirtual 41, 3) := dk_182 0 41 (dk_at dksX0_road_0 5 rfl rfl)
theorem dX0_road_8 : decode cX0_road 8 = .ok (.i2l, 1) := dk_133 (dk_at dksX0_road_0 8 rfl rfl)
theorem dX0_road_9 : decode cX0_road 9 = .ok (.lastore, 1) := dk_80 (dk_at dksX0_road_0 9 rfl rfl)
theorem dX0_road_10 : decode cX0_road 10 = .ok (.goto 7, 3) := dk_167 0 7 (dk_at dksX0_road_0 10 rfl rfl)
theorem dX0_road_13 : decode cX0_road 13 = .ok (.astore 4, 2) := dk_58 4 (dk_at dksX0_road_0 13 rfl rfl)
theorem dX0_road_15 : decode cX0_road 15 = .ok (.iconst 1, 1) := dk_4 (dk_at dksX0_road_0 15 rfl rfl)
theorem dX0_road_16 : decode cX0_road 16 = .ok (.ireturn, 1) := dk_172 (dk_at dksX0_road_0 16 rfl rfl)
theorem dX0_road_17 : decode cX0_road 17 = .ok (.iconst 0, 1) := dk_3 (dk_at dksX0_road_0 17 rfl rfl)
theorem dX0_road_18 : decode cX0_road 18 = .ok (.ireturn, 1) := dk_172 (dk_at dksX0_road_0 18 rfl rfl)
abbrev cX0_walk : ByteArray := method_13_code
def yX0_walk : MethodName := ⟨RX0, "walk", "(LHorsehairTrade;I[J)I"⟩
def dkwX0_walk_0 : List UInt8 := [44, 3, 42, 27, 182, 0, 44, 133, 80, 167, 0, 6, 78, 4, 172, 3, 172]
abbrev dktX0_walk_0 : List UInt8 := dkwX0_walk_0 ++ []
theorem dksX0_walk_0 : cX0_walk.data.toList.drop 0 = dktX0_walk_0 := by decide +kernel
theorem dX0_walk_0 : decode cX0_walk 0 = .ok (.aload_n 2, 1) := dk_44 (dk_at dksX0_walk_0 0 rfl rfl)
theorem dX0_walk_1 : decode cX0_walk 1 = .ok (.iconst 0, 1) := dk_3 (dk_at dksX0_walk_0 1 rfl rfl)
theorem dX0_walk_2 : decode cX0_walk 2 = .ok (.aload_n 0, 1) := dk_42 (dk_at dksX0_walk_0 2 rfl rfl)
theorem dX0_walk_3 : decode cX0_walk 3 = .ok (.iload_n 1, 1) := dk_27 (dk_at dksX0_walk_0 3 rfl rfl)
theorem dX0_walk_4 : decode cX0_walk 4 = .ok (.invokevirtual 44, 3) := dk_182 0 44 (dk_at dksX0_walk_0 4 rfl rfl)
theorem dX0_walk_7 : decode cX0_walk 7 = .ok (.i2l, 1) := dk_133 (dk_at dksX0_walk_0 7 rfl rfl)
theorem dX0_walk_8 : decode cX0_walk 8 = .ok (.lastore, 1) := dk_80 (dk_at dksX0_walk_0 8 rfl rfl)
theorem dX0_walk_9 : decode cX0_walk 9 = .ok (.goto 6, 3) := dk_167 0 6 (dk_at dksX0_walk_0 9 rfl rfl)
theorem dX0_walk_12 : decode cX0_walk 12 = .ok (.astore_n 3, 1) := dk_78 (dk_at dksX0_walk_0 12 rfl rfl)
theorem dX0_walk_13 : decode cX0_walk 13 = .ok (.iconst 1, 1) := dk_4 (dk_at dksX0_walk_0 13 rfl rfl)
theorem dX0_walk_14 : decode cX0_walk 14 = .ok (.ireturn, 1) := dk_172 (dk_at dksX0_walk_0 14 rfl rfl)
theorem dX0_walk_15 : decode cX0_walk 15 = .ok (.iconst 0, 1) := dk_3 (dk_at dksX0_walk_0 15 rfl rfl)
theorem dX0_walk_16 : decode cX0_walk 16 = .ok (.ireturn, 1) := dk_172 (dk_at dksX0_walk_0 16 rfl rfl)
abbrev cX0_sell : ByteArray := method_14_code
def yX0_sell : MethodName := ⟨RX0, "sell", "(LHorsehairTrade;I[J)I"⟩
def dkwX0_sell_0 : List UInt8 := [44, 3, 42, 27, 182, 0, 47, 133, 80, 167, 0, 6, 78, 4, 172, 3, 172]
abbrev dktX0_sell_0 : List UInt8 := dkwX0_sell_0 ++ []
theorem dksX0_sell_0 : cX0_sell.data.toList.drop 0 = dktX0_sell_0 := by decide +kernel
theorem dX0_sell_0 : decode cX0_sell 0 = .ok (.aload_n 2, 1) := dk_44 (dk_at dksX0_sell_0 0 rfl rfl)
theorem dX0_sell_1 : decode cX0_sell 1 = .ok (.iconst 0, 1) := dk_3 (dk_at dksX0_sell_0 1 rfl rfl)
theorem dX0_sell_2 : decode cX0_sell 2 = .ok (.aload_n 0, 1) := dk_42 (dk_at dksX0_sell_0 2 rfl rfl)
theorem dX0_sell_3 : decode cX0_sell 3 = .ok (.iload_n 1, 1) := dk_27 (dk_at dksX0_sell_0 3 rfl rfl)
theorem dX0_sell_4 : decode cX0_sell 4 = .ok (.invokevirtual 47, 3) := dk_182 0 47 (dk_at dksX0_sell_0 4 rfl rfl)
theorem dX0_sell_7 : decode cX0_sell 7 = .ok (.i2l, 1) := dk_133 (dk_at dksX0_sell_0 7 rfl rfl)
theorem dX0_sell_8 : decode cX0_sell 8 = .ok (.lastore, 1) := dk_80 (dk_at dksX0_sell_0 8 rfl rfl)
theorem dX0_sell_9 : decode cX0_sell 9 = .ok (.goto 6, 3) := dk_167 0 6 (dk_at dksX0_sell_0 9 rfl rfl)
theorem dX0_sell_12 : decode cX0_sell 12 = .ok (.astore_n 3, 1) := dk_78 (dk_at dksX0_sell_0 12 rfl rfl)
theorem dX0_sell_13 : decode cX0_sell 13 = .ok (.iconst 1, 1) := dk_4 (dk_at dksX0_sell_0 13 rfl rfl)
theorem dX0_sell_14 : decode cX0_sell 14 = .ok (.ireturn, 1) := dk_172 (dk_at dksX0_sell_0 14 rfl rfl)
theorem dX0_sell_15 : decode cX0_sell 15 = .ok (.iconst 0, 1) := dk_3 (dk_at dksX0_sell_0 15 rfl rfl)
theorem dX0_sell_16 : decode cX0_sell 16 = .ok (.ireturn, 1) := dk_172 (dk_at dksX0_sell_0 16 rfl rfl)
abbrev cX0_paid : ByteArray := method_15_code
def yX0_paid : MethodName := ⟨RX0, "paid", "(LHorsehairTrade;I[J)I"⟩
def dkwX0_paid_0 : List UInt8 := [44, 3, 42, 27, 182, 0, 50, 133, 80, 167, 0, 6, 78, 4, 172, 3, 172]
abbrev dktX0_paid_0 : List UInt8 := dkwX0_paid_0 ++ []
theorem dksX0_paid_0 : cX0_paid.data.toList.drop 0 = dktX0_paid_0 := by decide +kernel
theorem dX0_paid_0 : decode cX0_paid 0 = .ok (.aload_n 2, 1) := dk_44 (dk_at dksX0_paid_0 0 rfl rfl)
theorem dX0_paid_1 : decode cX0_paid 1 = .ok (.iconst 0, 1) := dk_3 (dk_at dksX0_paid_0 1 rfl rfl)
theorem dX0_paid_2 : decode cX0_paid 2 = .ok (.aload_n 0, 1) := dk_42 (dk_at dksX0_paid_0 2 rfl rfl)
theorem dX0_paid_3 : decode cX0_paid 3 = .ok (.iload_n 1, 1) := dk_27 (dk_at dksX0_paid_0 3 rfl rfl)
theorem dX0_paid_4 : decode cX0_paid 4 = .ok (.invokevirtual 50, 3) := dk_182 0 50 (dk_at dksX0_paid_0 4 rfl rfl)
theorem dX0_paid_7 : decode cX0_paid 7 = .ok (.i2l, 1) := dk_133 (dk_at dksX0_paid_0 7 rfl rfl)
theorem dX0_paid_8 : decode cX0_paid 8 = .ok (.lastore, 1) := dk_80 (dk_at dksX0_paid_0 8 rfl rfl)
theorem dX0_paid_9 : decode cX0_paid 9 = .ok (.goto 6, 3) := dk_167 0 6 (dk_at dksX0_paid_0 9 rfl rfl)
theorem dX0_paid_12 : decode cX0_paid 12 = .ok (.astore_n 3, 1) := dk_78 (dk_at dksX0_paid_0 12 rfl rfl)
theorem dX0_paid_13 : decode cX0_paid 13 = .ok (.iconst 1, 1) := dk_4 (dk_at dksX0_paid_0 13 rfl rfl)
theorem dX0_paid_14 : decode cX0_paid 14 = .ok (.ireturn, 1) := dk_172 (dk_at dksX0_paid_0 14 rfl rfl)
theorem dX0_paid_15 : decode cX0_paid 15 = .ok (.iconst 0, 1) := dk_3 (dk_at dksX0_paid_0 15 rfl rfl)
theorem dX0_paid_16 : decode cX0_paid 16 = .ok (.ireturn, 1) := dk_172 (dk_at dksX0_paid_0 16 rfl rfl)
abbrev cX0_tailOf : ByteArray := method_16_code
def yX0_tailOf : MethodName := ⟨RX0, "tailOf", "(LHorsehairTrade;II[J)I"⟩
def dkwX0_tailOf_0 : List UInt8 := [45, 3, 42, 27, 28, 182, 0, 53, 133, 80, 167, 0, 11, 58, 4, 4, 172, 58, 4, 5, 172, 3, 172]
abbrev dktX0_tailOf_0 : List UInt8 := dkwX0_tailOf_0 ++ []
theorem dksX0_tailOf_0 : cX0_tailOf.data.toList.drop 0 = dktX0_tailOf_0 := by decide +kernel
theorem dX0_tailOf_0 : decode cX0_tailOf 0 = .ok (.aload_n 3, 1) := dk_45 (dk_at dksX0_tailOf_0 0 rfl rfl)
theorem dX0_tailOf_1 : decode cX0_tailOf 1 = .ok (.iconst 0, 1) := dk_3 (dk_at dksX0_tailOf_0 1 rfl rfl)
theorem dX0_tailOf_2 : decode cX0_tailOf 2 = .ok (.aload_n 0, 1) := dk_42 (dk_at dksX0_tailOf_0 2 rfl rfl)
theorem dX0_tailOf_3 : decode cX0_tailOf 3 = .ok (.iload_n 1, 1) := dk_27 (dk_at dksX0_tailOf_0 3 rfl rfl)
theorem dX0_tailOf_4 : decode cX0_tailOf 4 = .ok (.iload_n 2, 1) := dk_28 (dk_at dksX0_tailOf_0 4 rfl rfl)
theorem dX0_tailOf_5 : decode cX0_tailOf 5 = .ok (.invokevirtual 53, 3) := dk_182 0 53 (dk_at dksX0_tailOf_0 5 rfl rfl)
theorem dX0_tailOf_8 : decode cX0_tailOf 8 = .ok (.i2l, 1) := dk_133 (dk_at dksX0_tailOf_0 8 rfl rfl)
theorem dX0_tailOf_9 : decode cX0_tailOf 9 = .ok (.lastore, 1) := dk_80 (dk_at dksX0_tailOf_0 9 rfl rfl)
theorem dX0_tailOf_10 : decode cX0_tailOf 10 = .ok (.goto 11, 3) := dk_167 0 11 (dk_at dksX0_tailOf_0 10 rfl rfl)
theorem dX0_tailOf_13 : decode cX0_tailOf 13 = .ok (.astore 4, 2) := dk_58 4 (dk_at dksX0_tailOf_0 13 rfl rfl)
theorem dX0_tailOf_15 : decode cX0_tailOf 15 = .ok (.iconst 1, 1) := dk_4 (dk_at dksX0_tailOf_0 15 rfl rfl)
theorem dX0_tailOf_16 : decode cX0_tailOf 16 = .ok (.ireturn, 1) := dk_172 (dk_at dksX0_tailOf_0 16 rfl rfl)
theorem dX0_tailOf_17 : decode cX0_tailOf 17 = .ok (.astore 4, 2) := dk_58 4 (dk_at dksX0_tailOf_0 17 rfl rfl)
theorem dX0_tailOf_19 : decode cX0_tailOf 19 = .ok (.iconst 2, 1) := dk_5 (dk_at dksX0_tailOf_0 19 rfl rfl)
theorem dX0_tailOf_20 : decode cX0_tailOf 20 = .ok (.ireturn, 1) := dk_172 (dk_at dksX0_tailOf_0 20 rfl rfl)
theorem dX0_tailOf_21 : decode cX0_tailOf 21 = .ok (.iconst 0, 1) := dk_3 (dk_at dksX0_tailOf_0 21 rfl rfl)
theorem dX0_tailOf_22 : decode cX0_tailOf 22 = .ok (.ireturn, 1) := dk_172 (dk_at dksX0_tailOf_0 22 rfl rfl)
abbrev cX0_hankOf : ByteArray := method_17_code
def yX0_hankOf : MethodName := ⟨RX0, "hankOf", "(LHorsehairTrade;II[J)I"⟩
def dkwX0_hankOf_0 : List UInt8 := [45, 3, 42, 27, 28, 182, 0, 60, 133, 80, 167, 0, 11, 58, 4, 4, 172, 58, 4, 5, 172, 3, 172]
abbrev dktX0_hankOf_0 : List UInt8 := dkwX0_hankOf_0 ++ []
theorem dksX0_hankOf_0 : cX0_hankOf.data.toList.drop 0 = dktX0_hankOf_0 := by decide +kernel
theorem dX0_hankOf_0 : decode cX0_hankOf 0 = .ok (.aload_n 3, 1) := dk_45 (dk_at dksX0_hankOf_0 0 rfl rfl)
theorem dX0_hankOf_1 : decode cX0_hankOf 1 = .ok (.iconst 0, 1) := dk_3 (dk_at dksX0_hankOf_0 1 rfl rfl)
theorem dX0_hankOf_2 : decode cX0_hankOf 2 = .ok (.aload_n 0, 1) := dk_42 (dk_at dksX0_hankOf_0 2 rfl rfl)
theorem dX0_hankOf_3 : decode cX0_hankOf 3 = .ok (.iload_n 1, 1) := dk_27 (dk_at dksX0_hankOf_0 3 rfl rfl)
theorem dX0_hankOf_4 : decode cX0_hankOf 4 = .ok (.iload_n 2, 1) := dk_28 (dk_at dksX0_hankOf_0 4 rfl rfl)
theorem dX0_hankOf_5 : decode cX0_hankOf 5 = .ok (.invokevirtual 60, 3) := dk_182 0 60 (dk_at dksX0_hankOf_0 5 rfl rfl)
theorem dX0_hankOf_8 : decode cX0_hankOf 8 = .ok (.i2l, 1) := dk_133 (dk_at dksX0_hankOf_0 8 rfl rfl)
theorem dX0_hankOf_9 : decode cX0_hankOf 9 = .ok (.lastore, 1) := dk_80 (dk_at dksX0_hankOf_0 9 rfl rfl)
theorem dX0_hankOf_10 : decode cX0_hankOf 10 = .ok (.goto 11, 3) := dk_167 0 11 (dk_at dksX0_hankOf_0 10 rfl rfl)
theorem dX0_hankOf_13 : decode cX0_hankOf 13 = .ok (.astore 4, 2) := dk_58 4 (dk_at dksX0_hankOf_0 13 rfl rfl)
theorem dX0_hankOf_15 : decode cX0_hankOf 15 = .ok (.iconst 1, 1) := dk_4 (dk_at dksX0_hankOf_0 15 rfl rfl)
theorem dX0_hankOf_16 : decode cX0_hankOf 16 = .ok (.ireturn, 1) := dk_172 (dk_at dksX0_hankOf_0 16 rfl rfl)
theorem dX0_hankOf_17 : decode cX0_hankOf 17 = .ok (.astore 4, 2) := dk_58 4 (dk_at dksX0_hankOf_0 17 rfl rfl)
theorem dX0_hankOf_19 : decode cX0_hankOf 19 = .ok (.iconst 2, 1) := dk_5 (dk_at dksX0_hankOf_0 19 rfl rfl)
theorem dX0_hankOf_20 : decode cX0_hankOf 20 = .ok (.ireturn, 1) := dk_172 (dk_at dksX0_hankOf_0 20 rfl rfl)
theorem dX0_hankOf_21 : decode cX0_hankOf 21 = .ok (.iconst 0, 1) := dk_3 (dk_at dksX0_hankOf_0 21 rfl rfl)
theorem dX0_hankOf_22 : decode cX0_hankOf 22 = .ok (.ireturn, 1) := dk_172 (dk_at dksX0_hankOf_0 22 rfl rfl)
abbrev cX0_bowOf : ByteArray := method_18_code
def yX0_bowOf : MethodName := ⟨RX0, "bowOf", "(LHorsehairTrade;II[J)I"⟩
def dkwX0_bowOf_0 : List UInt8 := [45, 3, 42, 27, 28, 182, 0, 63, 133, 80, 167, 0, 11, 58, 4, 4, 172, 58, 4, 5, 172, 3, 172]
abbrev dktX0_bowOf_0 : List UInt8 := dkwX0_bowOf_0 ++ []
theorem dksX0_bowOf_0 : cX0_bowOf.data.toList.drop 0 = dktX0_bowOf_0 := by decide +kernel
theorem dX0_bowOf_0 : decode cX0_bowOf 0 = .ok (.aload_n 3, 1) := dk_45 (dk_at dksX0_bowOf_0 0 rfl rfl)
theorem dX0_bowOf_1 : decode cX0_bowOf 1 = .ok (.iconst 0, 1) := dk_3 (dk_at dksX0_bowOf_0 1 rfl rfl)
theorem dX0_bowOf_2 : decode cX0_bowOf 2 = .ok (.aload_n 0, 1) := dk_42 (dk_at dksX0_bowOf_0 2 rfl rfl)
theorem dX0_bowOf_3 : decode cX0_bowOf 3 = .ok (.iload_n 1, 1) := dk_27 (dk_at dksX0_bowOf_0 3 rfl rfl)
theorem dX0_bowOf_4 : decode cX0_bowOf 4 = .ok (.iload_n 2, 1) := dk_28 (dk_at dksX0_bowOf_0 4 rfl rfl)
theorem dX0_bowOf_5 : decode cX0_bowOf 5 = .ok (.invokevirtual 63, 3) := dk_182 0 63 (dk_at dksX0_bowOf_0 5 rfl rfl)
theorem dX0_bowOf_8 : decode cX0_bowOf 8 = .ok (.i2l, 1) := dk_133 (dk_at dksX0_bowOf_0 8 rfl rfl)
theorem dX0_bowOf_9 : decode cX0_bowOf 9 = .ok (.lastore, 1) := dk_80 (dk_at dksX0_bowOf_0 9 rfl rfl)
theorem dX0_bowOf_10 : decode cX0_bowOf 10 = .ok (.goto 11, 3) := dk_167 0 11 (dk_at dksX0_bowOf_0 10 rfl rfl)
theorem dX0_bowOf_13 : decode cX0_bowOf 13 = .ok (.astore 4, 2) := dk_58 4 (dk_at dksX0_bowOf_0 13 rfl rfl)
theorem dX0_bowOf_15 : decode cX0_bowOf 15 = .ok (.iconst 1, 1) := dk_4 (dk_at dksX0_bowOf_0 15 rfl rfl)
theorem dX0_bowOf_16 : decode cX0_bowOf 16 = .ok (.ireturn, 1) := dk_172 (dk_at dksX0_bowOf_0 16 rfl rfl)
theorem dX0_bowOf_17 : decode cX0_bowOf 17 = .ok (.astore 4, 2) := dk_58 4 (dk_at dksX0_bowOf_0 17 rfl rfl)
theorem dX0_bowOf_19 : decode cX0_bowOf 19 = .ok (.iconst 2, 1) := dk_5 (dk_at dksX0_bowOf_0 19 rfl rfl)
theorem dX0_bowOf_20 : decode cX0_bowOf 20 = .ok (.ireturn, 1) := dk_172 (dk_at dksX0_bowOf_0 20 rfl rfl)
theorem dX0_bowOf_21 : decode cX0_bowOf 21 = .ok (.iconst 0, 1) := dk_3 (dk_at dksX0_bowOf_0 21 rfl rfl)
theorem dX0_bowOf_22 : decode cX0_bowOf 22 = .ok (.ireturn, 1) := dk_172 (dk_at dksX0_bowOf_0 22 rfl rfl)
abbrev cX0_cakeOf : ByteArray := method_19_code
def yX0_cakeOf : MethodName := ⟨RX0, "cakeOf", "(LHorsehairTrade;I[J)I"⟩
def dkwX0_cakeOf_0 : List UInt8 := [44, 3, 42, 27, 182, 0, 66, 133, 80, 167, 0, 6, 78, 4, 172, 3, 172]
abbrev dktX0_cakeOf_0 : List UInt8 := dkwX0_cakeOf_0 ++ []
theorem dksX0_cakeOf_0 : cX0_cakeOf.data.toList.drop 0 = dktX0_cakeOf_0 := by decide +kernel
theorem dX0_cakeOf_0 : decode cX0_cakeOf 0 = .ok (.aload_n 2, 1) := dk_44 (dk_at dksX0_cakeOf_0 0 rfl rfl)
theorem dX0_cakeOf_1 : decode cX0_cakeOf 1 = .ok (.iconst 0, 1) := dk_3 (dk_at dksX0_cakeOf_0 1 rfl rfl)
theorem dX0_cakeOf_2 : decode cX0_cakeOf 2 = .ok (.aload_n 0, 1) := dk_42 (dk_at dksX0_cakeOf_0 2 rfl rfl)
theorem dX0_cakeOf_3 : decode cX0_cakeOf 3 = .ok (.iload_n 1, 1) := dk_27 (dk_at dksX0_cakeOf_0 3 rfl rfl)
theorem dX0_cakeOf_4 : decode cX0_cakeOf 4 = .ok (.invokevirtual 66, 3) := dk_182 0 66 (dk_at dksX0_cakeOf_0 4 rfl rfl)
theorem dX0_cakeOf_7 : decode cX0_cakeOf 7 = .ok (.i2l, 1) := dk_133 (dk_at dksX0_cakeOf_0 7 rfl rfl)
theorem dX0_cakeOf_8 : decode cX0_cakeOf 8 = .ok (.lastore, 1) := dk_80 (dk_at dksX0_cakeOf_0 8 rfl rfl)
theorem dX0_cakeOf_9 : decode cX0_cakeOf 9 = .ok (.goto 6, 3) := dk_167 0 6 (dk_at dksX0_cakeOf_0 9 rfl rfl)
theorem dX0_cakeOf_12 : decode cX0_cakeOf 12 = .ok (.astore_n 3, 1) := dk_78 (dk_at dksX0_cakeOf_0 12 rfl rfl)
theorem dX0_cakeOf_13 : decode cX0_cakeOf 13 = .ok (.iconst 1, 1) := dk_4 (dk_at dksX0_cakeOf_0 13 rfl rfl)
theorem dX0_cakeOf_14 : decode cX0_cakeOf 14 = .ok (.ireturn, 1) := dk_172 (dk_at dksX0_cakeOf_0 14 rfl rfl)
theorem dX0_cakeOf_15 : decode cX0_cakeOf 15 = .ok (.iconst 0, 1) := dk_3 (dk_at dksX0_cakeOf_0 15 rfl rfl)
theorem dX0_cakeOf_16 : decode cX0_cakeOf 16 = .ok (.ireturn, 1) := dk_172 (dk_at dksX0_cakeOf_0 16 rfl rfl)
abbrev cX0_sieves : ByteArray := method_20_code
def yX0_sieves : MethodName := ⟨RX0, "sieves", "(LHorsehairTrade;I[J)I"⟩
def dkwX0_sieves_0 : List UInt8 := [44, 3, 42, 27, 182, 0, 69, 133, 80, 167, 0, 6, 78, 4, 172, 3, 172]
abbrev dktX0_sieves_0 : List UInt8 := dkwX0_sieves_0 ++ []
theorem dksX0_sieves_0 : cX0_sieves.data.toList.drop 0 = dktX0_sieves_0 := by decide +kernel
theorem dX0_sieves_0 : decode cX0_sieves 0 = .ok (.aload_n 2, 1) := dk_44 (dk_at dksX0_sieves_0 0 rfl rfl)
theorem dX0_sieves_1 : decode cX0_sieves 1 = .ok (.iconst 0, 1) := dk_3 (dk_at dksX0_sieves_0 1 rfl rfl)
theorem dX0_sieves_2 : decode cX0_sieves 2 = .ok (.aload_n 0, 1) := dk_42 (dk_at dksX0_sieves_0 2 rfl rfl)
theorem dX0_sieves_3 : decode cX0_sieves 3 = .ok (.iload_n 1, 1) := dk_27 (dk_at dksX0_sieves_0 3 rfl rfl)
theorem dX0_sieves_4 : decode cX0_sieves 4 = .ok (.invokevirtual 69, 3) := dk_182 0 69 (dk_at dksX0_sieves_0 4 rfl rfl)
theorem dX0_sieves_7 : decode cX0_sieves 7 = .ok (.i2l, 1) := dk_133 (dk_at dksX0_sieves_0 7 rfl rfl)
theorem dX0_sieves_8 : decode cX0_sieves 8 = .ok (.lastore, 1) := dk_80 (dk_at dksX0_sieves_0 8 rfl rfl)
theorem dX0_sieves_9 : decode cX0_sieves 9 = .ok (.goto 6, 3) := dk_167 0 6 (dk_at dksX0_sieves_0 9 rfl rfl)
theorem dX0_sieves_12 : decode cX0_sieves 12 = .ok (.astore_n 3, 1) := dk_78 (dk_at dksX0_sieves_0 12 rfl rfl)
theorem dX0_sieves_13 : decode cX0_sieves 13 = .ok (.iconst 1, 1) := dk_4 (dk_at dksX0_sieves_0 13 rfl rfl)
theorem dX0_sieves_14 : decode cX0_sieves 14 = .ok (.ireturn, 1) := dk_172 (dk_at dksX0_sieves_0 14 rfl rfl)
theorem dX0_sieves_15 : decode cX0_sieves 15 = .ok (.iconst 0, 1) := dk_3 (dk_at dksX0_sieves_0 15 rfl rfl)
theorem dX0_sieves_16 : decode cX0_sieves 16 = .ok (.ireturn, 1) := dk_172 (dk_at dksX0_sieves_0 16 rfl rfl)
abbrev cX0_bestHank : ByteArray := method_21_code
def yX0_bestHank : MethodName := ⟨RX0, "bestHank", "(LHorsehairTrade;I[J)I"⟩
def dkwX0_bestHank_0 : List UInt8 := [44, 3, 42, 27, 182, 0, 72, 133, 80, 167, 0, 9, 78, 4, 172, 78, 5, 172, 3, 172]
abbrev dktX0_bestHank_0 : List UInt8 := dkwX0_bestHank_0 ++ []
theorem dksX0_bestHank_0 : cX0_bestHank.data.toList.drop 0 = dktX0_bestHank_0 := by decide +kernel
theorem dX0_bestHank_0 : decode cX0_bestHank 0 = .ok (.aload_n 2, 1) := dk_44 (dk_at dksX0_bestHank_0 0 rfl rfl)
theorem dX0_bestHank_1 : decode cX0_bestHank 1 = .ok (.iconst 0, 1) := dk_3 (dk_at dksX0_bestHank_0 1 rfl rfl)
theorem dX0_bestHank_2 : decode cX0_bestHank 2 = .ok (.aload_n 0, 1) := dk_42 (dk_at dksX0_bestHank_0 2 rfl rfl)
theorem dX0_bestHank_3 : decode cX0_bestHank 3 = .ok (.iload_n 1, 1) := dk_27 (dk_at dksX0_bestHank_0 3 rfl rfl)
theorem dX0_bestHank_4 : decode cX0_bestHank 4 = .ok (.invokevirtual 72, 3) := dk_182 0 72 (dk_at dksX0_bestHank_0 4 rfl rfl)
theorem dX0_bestHank_7 : decode cX0_bestHank 7 = .ok (.i2l, 1) := dk_133 (dk_at dksX0_bestHank_0 7 rfl rfl)
theorem dX0_bestHank_8 : decode cX0_bestHank 8 = .ok (.lastore, 1) := dk_80 (dk_at dksX0_bestHank_0 8 rfl rfl)
theorem dX0_bestHank_9 : decode cX0_bestHank 9 = .ok (.goto 9, 3) := dk_167 0 9 (dk_at dksX0_bestHank_0 9 rfl rfl)
theorem dX0_bestHank_12 : decode cX0_bestHank 12 = .ok (.astore_n 3, 1) := dk_78 (dk_at dksX0_bestHank_0 12 rfl rfl)
theorem dX0_bestHank_13 : decode cX0_bestHank 13 = .ok (.iconst 1, 1) := dk_4 (dk_at dksX0_bestHank_0 13 rfl rfl)
theorem dX0_bestHank_14 : decode cX0_bestHank 14 = .ok (.ireturn, 1) := dk_172 (dk_at dksX0_bestHank_0 14 rfl rfl)
theorem dX0_bestHank_15 : decode cX0_bestHank 15 = .ok (.astore_n 3, 1) := dk_78 (dk_at dksX0_bestHank_0 15 rfl rfl)
theorem dX0_bestHank_16 : decode cX0_bestHank 16 = .ok (.iconst 2, 1) := dk_5 (dk_at dksX0_bestHank_0 16 rfl rfl)
theorem dX0_bestHank_17 : decode cX0_bestHank 17 = .ok (.ireturn, 1) := dk_172 (dk_at dksX0_bestHank_0 17 rfl rfl)
theorem dX0_bestHank_18 : decode cX0_bestHank 18 = .ok (.iconst 0, 1) := dk_3 (dk_at dksX0_bestHank_0 18 rfl rfl)
theorem dX0_bestHank_19 : decode cX0_bestHank 19 = .ok (.ireturn, 1) := dk_172 (dk_at dksX0_bestHank_0 19 rfl rfl)
abbrev cX0_bestAgain : ByteArray := method_22_code
def yX0_bestAgain : MethodName := ⟨RX0, "bestAgain", "(LHorsehairTrade;I[J)I"⟩
def dkwX0_bestAgain_0 : List UInt8 := [44, 3, 42, 27, 182, 0, 77, 133, 80, 167, 0, 9, 78, 4, 172, 78, 5, 172, 3, 172]
abbrev dktX0_bestAgain_0 : List UInt8 := dkwX0_bestAgain_0 ++ []
theorem dksX0_bestAgain_0 : cX0_bestAgain.data.toList.drop 0 = dktX0_bestAgain_0 := by decide +kernel
theorem dX0_bestAgain_0 : decode cX0_bestAgain 0 = .ok (.aload_n 2, 1) := dk_44 (dk_at dksX0_bestAgain_0 0 rfl rfl)
theorem dX0_bestAgain_1 : decode cX0_bestAgain 1 = .ok (.iconst 0, 1) := dk_3 (dk_at dksX0_bestAgain_0 1 rfl rfl)
theorem dX0_bestAgain_2 : decode cX0_bestAgain 2 = .ok (.aload_n 0, 1) := dk_42 (dk_at dksX0_bestAgain_0 2 rfl rfl)
theorem dX0_bestAgain_3 : decode cX0_bestAgain 3 = .ok (.iload_n 1, 1) := dk_27 (dk_at dksX0_bestAgain_0 3 rfl rfl)
theorem dX0_bestAgain_4 : decode cX0_bestAgain 4 = .ok (.invokevirtual 77, 3) := dk_182 0 77 (dk_at dksX0_bestAgain_0 4 rfl rfl)
theorem dX0_bestAgain_7 : decode cX0_bestAgain 7 = .ok (.i2l, 1) := dk_133 (dk_at dksX0_bestAgain_0 7 rfl rfl)
theorem dX0_bestAgain_8 : decode cX0_bestAgain 8 = .ok (.lastore, 1) := dk_80 (dk_at dksX0_bestAgain_0 8 rfl rfl)
theorem dX0_bestAgain_9 : decode cX0_bestAgain 9 = .ok (.goto 9, 3) := dk_167 0 9 (dk_at dksX0_bestAgain_0 9 rfl rfl)
theorem dX0_bestAgain_12 : decode cX0_bestAgain 12 = .ok (.astore_n 3, 1) := dk_78 (dk_at dksX0_bestAgain_0 12 rfl rfl)
theorem dX0_bestAgain_13 : decode cX0_bestAgain 13 = .ok (.iconst 1, 1) := dk_4 (dk_at dksX0_bestAgain_0 13 rfl rfl)
theorem dX0_bestAgain_14 : decode cX0_bestAgain 14 = .ok (.ireturn, 1) := dk_172 (dk_at dksX0_bestAgain_0 14 rfl rfl)
theorem dX0_bestAgain_15 : decode cX0_bestAgain 15 = .ok (.astore_n 3, 1) := dk_78 (dk_at dksX0_bestAgain_0 15 rfl rfl)
theorem dX0_bestAgain_16 : decode cX0_bestAgain 16 = .ok (.iconst 2, 1) := dk_5 (dk_at dksX0_bestAgain_0 16 rfl rfl)
theorem dX0_bestAgain_17 : decode cX0_bestAgain 17 = .ok (.ireturn, 1) := dk_172 (dk_at dksX0_bestAgain_0 17 rfl rfl)
theorem dX0_bestAgain_18 : decode cX0_bestAgain 18 = .ok (.iconst 0, 1) := dk_3 (dk_at dksX0_bestAgain_0 18 rfl rfl)
theorem dX0_bestAgain_19 : decode cX0_bestAgain 19 = .ok (.ireturn, 1) := dk_172 (dk_at dksX0_bestAgain_0 19 rfl rfl)
abbrev cX0_goodFor : ByteArray := method_23_code
def yX0_goodFor : MethodName := ⟨RX0, "goodFor", "(LHorsehairTrade;I[J)I"⟩
def dkwX0_goodFor_0 : List UInt8 := [44, 3, 42, 27, 182, 0, 80, 133, 80, 167, 0, 6, 78, 4, 172, 3, 172]
abbrev dktX0_goodFor_0 : List UInt8 := dkwX0_goodFor_0 ++ []
theorem dksX0_goodFor_0 : cX0_goodFor.data.toList.drop 0 = dktX0_goodFor_0 := by decide +kernel
theorem dX0_goodFor_0 : decode cX0_goodFor 0 = .ok (.aload_n 2, 1) := dk_44 (dk_at dksX0_goodFor_0 0 rfl rfl)
theorem dX0_goodFor_1 : decode cX0_goodFor 1 = .ok (.iconst 0, 1) := dk_3 (dk_at dksX0_goodFor_0 1 rfl rfl)
theorem dX0_goodFor_2 : decode cX0_goodFor 2 = .ok (.aload_n 0, 1) := dk_42 (dk_at dksX0_goodFor_0 2 rfl rfl)
theorem dX0_goodFor_3 : decode cX0_goodFor 3 = .ok (.iload_n 1, 1) := dk_27 (dk_at dksX0_goodFor_0 3 rfl rfl)
theorem dX0_goodFor_4 : decode cX0_goodFor 4 = .ok (.invokevirtual 80, 3) := dk_182 0 80 (dk_at dksX0_goodFor_0 4 rfl rfl)
theorem dX0_goodFor_7 : decode cX0_goodFor 7 = .ok (.i2l, 1) := dk_133 (dk_at dksX0_goodFor_0 7 rfl rfl)
theorem dX0_goodFor_8 : decode cX0_goodFor 8 = .ok (.lastore, 1) := dk_80 (dk_at dksX0_goodFor_0 8 rfl rfl)
theorem dX0_goodFor_9 : decode cX0_goodFor 9 = .ok (.goto 6, 3) := dk_167 0 6 (dk_at dksX0_goodFor_0 9 rfl rfl)
theorem dX0_goodFor_12 : decode cX0_goodFor 12 = .ok (.astore_n 3, 1) := dk_78 (dk_at dksX0_goodFor_0 12 rfl rfl)
theorem dX0_goodFor_13 : decode cX0_goodFor 13 = .ok (.iconst 1, 1) := dk_4 (dk_at dksX0_goodFor_0 13 rfl rfl)
theorem dX0_goodFor_14 : decode cX0_goodFor 14 = .ok (.ireturn, 1) := dk_172 (dk_at dksX0_goodFor_0 14 rfl rfl)
theorem dX0_goodFor_15 : decode cX0_goodFor 15 = .ok (.iconst 0, 1) := dk_3 (dk_at dksX0_goodFor_0 15 rfl rfl)
theorem dX0_goodFor_16 : decode cX0_goodFor 16 = .ok (.ireturn, 1) := dk_172 (dk_at dksX0_goodFor_0 16 rfl rfl)
abbrev cX0_hoursLeft : ByteArray := method_24_code
def yX0_hoursLeft : MethodName := ⟨RX0, "hoursLeft", "(LHorsehairTrade;I[J)I"⟩
def dkwX0_hoursLeft_0 : List UInt8 := [44, 3, 42, 27, 182, 0, 83, 133, 80, 167, 0, 6, 78, 4, 172, 3, 172]
abbrev dktX0_hoursLeft_0 : List UInt8 := dkwX0_hoursLeft_0 ++ []
theorem dksX0_hoursLeft_0 : cX0_hoursLeft.data.toList.drop 0 = dktX0_hoursLeft_0 := by decide +kernel
theorem dX0_hoursLeft_0 : decode cX0_hoursLeft 0 = .ok (.aload_n 2, 1) := dk_44 (dk_at dksX0_hoursLeft_0 0 rfl rfl)
theorem dX0_hoursLeft_1 : decode cX0_hoursLeft 1 = .ok (.iconst 0, 1) := dk_3 (dk_at dksX0_hoursLeft_0 1 rfl rfl)
theorem dX0_hoursLeft_2 : decode cX0_hoursLeft 2 = .ok (.aload_n 0, 1) := dk_42 (dk_at dksX0_hoursLeft_0 2 rfl rfl)
theorem dX0_hoursLeft_3 : decode cX0_hoursLeft 3 = .ok (.iload_n 1, 1) := dk_27 (dk_at dksX0_hoursLeft_0 3 rfl rfl)
theorem dX0_hoursLeft_4 : decode cX0_hoursLeft 4 = .ok (.invokevirtual 83, 3) := dk_182 0 83 (dk_at dksX0_hoursLeft_0 4 rfl rfl)
theorem dX0_hoursLeft_7 : decode cX0_hoursLeft 7 = .ok (.i2l, 1) := dk_133 (dk_at dksX0_hoursLeft_0 7 rfl rfl)
theorem dX0_hoursLeft_8 : decode cX0_hoursLeft 8 = .ok (.lastore, 1) := dk_80 (dk_at dksX0_hoursLeft_0 8 rfl rfl)
theorem dX0_hoursLeft_9 : decode cX0_hoursLeft 9 = .ok (.goto 6, 3) := dk_167 0 6 (dk_at dksX0_hoursLeft_0 9 rfl rfl)
theorem dX0_hoursLeft_12 : decode cX0_hoursLeft 12 = .ok (.astore_n 3, 1) := dk_78 (dk_at dksX0_hoursLeft_0 12 rfl rfl)
theorem dX0_hoursLeft_13 : decode cX0_hoursLeft 13 = .ok (.iconst 1, 1) := dk_4 (dk_at dksX0_hoursLeft_0 13 rfl rfl)
theorem dX0_hoursLeft_14 : decode cX0_hoursLeft 14 = .ok (.ireturn, 1) := dk_172 (dk_at dksX0_hoursLeft_0 14 rfl rfl)
theorem dX0_hoursLeft_15 : decode cX0_hoursLeft 15 = .ok (.iconst 0, 1) := dk_3 (dk_at dksX0_hoursLeft_0 15 rfl rfl)
theorem dX0_hoursLeft_16 : decode cX0_hoursLeft 16 = .ok (.ireturn, 1) := dk_172 (dk_at dksX0_hoursLeft_0 16 rfl rfl)
abbrev cX0_daysTo : ByteArray := method_25_code
def yX0_daysTo : MethodName := ⟨RX0, "daysTo", "(LHorsehairTrade;I[J)I"⟩
def dkwX0_daysTo_0 : List UInt8 := [44, 3, 42, 27, 182, 0, 86, 133, 80, 167, 0, 6, 78, 4, 172, 3, 172]
abbrev dktX0_daysTo_0 : List UInt8 := dkwX0_daysTo_0 ++ []
theorem dksX0_daysTo_0 : cX0_daysTo.data.toList.drop 0 = dktX0_daysTo_0 := by decide +kernel
theorem dX0_daysTo_0 : decode cX0_daysTo 0 = .ok (.aload_n 2, 1) := dk_44 (dk_at dksX0_daysTo_0 0 rfl rfl)
theorem dX0_daysTo_1 : decode cX0_daysTo 1 = .ok (.iconst 0, 1) := dk_3 (dk_at dksX0_daysTo_0 1 rfl rfl)
theorem dX0_daysTo_2 : decode cX0_daysTo 2 = .ok (.aload_n 0, 1) := dk_42 (dk_at dksX0_daysTo_0 2 rfl rfl)
theorem dX0_daysTo_3 : decode cX0_daysTo 3 = .ok (.iload_n 1, 1) := dk_27 (dk_at dksX0_daysTo_0 3 rfl rfl)
theorem dX0_daysTo_4 : decode cX0_daysTo 4 = .ok (.invokevirtual 86, 3) := dk_182 0 86 (dk_at dksX0_daysTo_0 4 rfl rfl)
theorem dX0_daysTo_7 : decode cX0_daysTo 7 = .ok (.i2l, 1) := dk_133 (dk_at dksX0_daysTo_0 7 rfl rfl)
theorem dX0_daysTo_8 : decode cX0_daysTo 8 = .ok (.lastore, 1) := dk_80 (dk_at dksX0_daysTo_0 8 rfl rfl)
theorem dX0_daysTo_9 : decode cX0_daysTo 9 = .ok (.goto 6, 3) := dk_167 0 6 (dk_at dksX0_daysTo_0 9 rfl rfl)
theorem dX0_daysTo_12 : decode cX0_daysTo 12 = .ok (.astore_n 3, 1) := dk_78 (dk_at dksX0_daysTo_0 12 rfl rfl)
theorem dX0_daysTo_13 : decode cX0_daysTo 13 = .ok (.iconst 1, 1) := dk_4 (dk_at dksX0_daysTo_0 13 rfl rfl)
theorem dX0_daysTo_14 : decode cX0_daysTo 14 = .ok (.ireturn, 1) := dk_172 (dk_at dksX0_daysTo_0 14 rfl rfl)
theorem dX0_daysTo_15 : decode cX0_daysTo 15 = .ok (.iconst 0, 1) := dk_3 (dk_at dksX0_daysTo_0 15 rfl rfl)
theorem dX0_daysTo_16 : decode cX0_daysTo 16 = .ok (.ireturn, 1) := dk_172 (dk_at dksX0_daysTo_0 16 rfl rfl)
abbrev cX0_feed : ByteArray := method_26_code
def yX0_feed : MethodName := ⟨RX0, "feed", "(LHorsehairTrade;C[J)I"⟩
def dkwX0_feed_0 : List UInt8 := [44, 3, 42, 27, 182, 0, 89, 133, 80, 167, 0, 6, 78, 4, 172, 3, 172]
abbrev dktX0_feed_0 : List UInt8 := dkwX0_feed_0 ++ []
theorem dksX0_feed_0 : cX0_feed.data.toList.drop 0 = dktX0_feed_0 := by decide +kernel
theorem dX0_feed_0 : decode cX0_feed 0 = .ok (.aload_n 2, 1) := dk_44 (dk_at dksX0_feed_0 0 rfl rfl)
theorem dX0_feed_1 : decode cX0_feed 1 = .ok (.iconst 0, 1) := dk_3 (dk_at dksX0_feed_0 1 rfl rfl)
theorem dX0_feed_2 : decode cX0_feed 2 = .ok (.aload_n 0, 1) := dk_42 (dk_at dksX0_feed_0 2 rfl rfl)
theorem dX0_feed_3 : decode cX0_feed 3 = .ok (.iload_n 1, 1) := dk_27 (dk_at dksX0_feed_0 3 rfl rfl)
theorem dX0_feed_4 : decode cX0_feed 4 = .ok (.invokevirtual 89, 3) := dk_182 0 89 (dk_at dksX0_feed_0 4 rfl rfl)
theorem dX0_feed_7 : decode cX0_feed 7 = .ok (.i2l, 1) := dk_133 (dk_at dksX0_feed_0 7 rfl rfl)
theorem dX0_feed_8 : decode cX0_feed 8 = .ok (.lastore, 1) := dk_80 (dk_at dksX0_feed_0 8 rfl rfl)
theorem dX0_feed_9 : decode cX0_feed 9 = .ok (.goto 6, 3) := dk_167 0 6 (dk_at dksX0_feed_0 9 rfl rfl)
theorem dX0_feed_12 : decode cX0_feed 12 = .ok (.astore_n 3, 1) := dk_78 (dk_at dksX0_feed_0 12 rfl rfl)
theorem dX0_feed_13 : decode cX0_feed 13 = .ok (.iconst 1, 1) := dk_4 (dk_at dksX0_feed_0 13 rfl rfl)
theorem dX0_feed_14 : decode cX0_feed 14 = .ok (.ireturn, 1) := dk_172 (dk_at dksX0_feed_0 14 rfl rfl)
theorem dX0_feed_15 : decode cX0_feed 15 = .ok (.iconst 0, 1) := dk_3 (dk_at dksX0_feed_0 15 rfl rfl)
theorem dX0_feed_16 : decode cX0_feed 16 = .ok (.ireturn, 1) := dk_172 (dk_at dksX0_feed_0 16 rfl rfl)
abbrev cX0_run : ByteArray := method_27_code
def yX0_run : MethodName := ⟨RX0, "run", "(LHorsehairTrade;[J)I"⟩
def dkwX0_run_0 : List UInt8 := [43, 3, 42, 182, 0, 95, 133, 80, 167, 0, 9, 77, 4, 172, 77, 5, 172, 3, 172]
abbrev dktX0_run_0 : List UInt8 := dkwX0_run_0 ++ []
theorem dksX0_run_0 : cX0_run.data.toList.drop 0 = dktX0_run_0 := by decide +kernel
theorem dX0_run_0 : decode cX0_run 0 = .ok (.aload_n 1, 1) := dk_43 (dk_at dksX0_run_0 0 rfl rfl)
theorem dX0_run_1 : decode cX0_run 1 = .ok (.iconst 0, 1) := dk_3 (dk_at dksX0_run_0 1 rfl rfl)
theorem dX0_run_2 : decode cX0_run 2 = .ok (.aload_n 0, 1) := dk_42 (dk_at dksX0_run_0 2 rfl rfl)
theorem dX0_run_3 : decode cX0_run 3 = .ok (.invokevirtual 95, 3) := dk_182 0 95 (dk_at dksX0_run_0 3 rfl rfl)
theorem dX0_run_6 : decode cX0_run 6 = .ok (.i2l, 1) := dk_133 (dk_at dksX0_run_0 6 rfl rfl)
theorem dX0_run_7 : decode cX0_run 7 = .ok (.lastore, 1) := dk_80 (dk_at dksX0_run_0 7 rfl rfl)
theorem dX0_run_8 : decode cX0_run 8 = .ok (.goto 9, 3) := dk_167 0 9 (dk_at dksX0_run_0 8 rfl rfl)
theorem dX0_run_11 : decode cX0_run 11 = .ok (.astore_n 2, 1) := dk_77 (dk_at dksX0_run_0 11 rfl rfl)
theorem dX0_run_12 : decode cX0_run 12 = .ok (.iconst 1, 1) := dk_4 (dk_at dksX0_run_0 12 rfl rfl)
theorem dX0_run_13 : decode cX0_run 13 = .ok (.ireturn, 1) := dk_172 (dk_at dksX0_run_0 13 rfl rfl)
theorem dX0_run_14 : decode cX0_run 14 = .ok (.astore_n 2, 1) := dk_77 (dk_at dksX0_run_0 14 rfl rfl)
theorem dX0_run_15 : decode cX0_run 15 = .ok (.iconst 2, 1) := dk_5 (dk_at dksX0_run_0 15 rfl rfl)
theorem dX0_run_16 : decode cX0_run 16 = .ok (.ireturn, 1) := dk_172 (dk_at dksX0_run_0 16 rfl rfl)
theorem dX0_run_17 : decode cX0_run 17 = .ok (.iconst 0, 1) := dk_3 (dk_at dksX0_run_0 17 rfl rfl)
theorem dX0_run_18 : decode cX0_run 18 = .ok (.ireturn, 1) := dk_172 (dk_at dksX0_run_0 18 rfl rfl)
abbrev cX0_faultPosition : ByteArray := method_28_code
def yX0_faultPosition : MethodName := ⟨RX0, "faultPosition", "(LHorsehairTrade;[J)I"⟩
def dkwX0_faultPosition_0 : List UInt8 := [43, 3, 42, 182, 0, 99, 133, 80, 167, 0, 6, 77, 4, 172, 3, 172]
abbrev dktX0_faultPosition_0 : List UInt8 := dkwX0_faultPosition_0 ++ []
theorem dksX0_faultPosition_0 : cX0_faultPosition.data.toList.drop 0 = dktX0_faultPosition_0 := by decide +kernel
theorem dX0_faultPosition_0 : decode cX0_faultPosition 0 = .ok (.aload_n 1, 1) := dk_43 (dk_at dksX0_faultPosition_0 0 rfl rfl)
theorem dX0_faultPosition_1 : decode cX0_faultPosition 1 = .ok (.iconst 0, 1) := dk_3 (dk_at dksX0_faultPosition_0 1 rfl rfl)
theorem dX0_faultPosition_2 : decode cX0_faultPosition 2 = .ok (.aload_n 0, 1) := dk_42 (dk_at dksX0_faultPosition_0 2 rfl rfl)
theorem dX0_faultPosition_3 : decode cX0_faultPosition 3 = .ok (.invokevirtual 99, 3) := dk_182 0 99 (dk_at dksX0_faultPosition_0 3 rfl rfl)
theorem dX0_faultPosition_6 : decode cX0_faultPosition 6 = .ok (.i2l, 1) := dk_133 (dk_at dksX0_faultPosition_0 6 rfl rfl)
theorem dX0_faultPosition_7 : decode cX0_faultPosition 7 = .ok (.lastore, 1) := dk_80 (dk_at dksX0_faultPosition_0 7 rfl rfl)
theorem dX0_faultPosition_8 : decode cX0_faultPosition 8 = .ok (.goto 6, 3) := dk_167 0 6 (dk_at dksX0_faultPosition_0 8 rfl rfl)
theorem dX0_faultPosition_11 : decode cX0_faultPosition 11 = .ok (.astore_n 2, 1) := dk_77 (dk_at dksX0_faultPosition_0 11 rfl rfl)
theorem dX0_faultPosition_12 : decode cX0_faultPosition 12 = .ok (.iconst 1, 1) := dk_4 (dk_at dksX0_faultPosition_0 12 rfl rfl)
theorem dX0_faultPosition_13 : decode cX0_faultPosition 13 = .ok (.ireturn, 1) := dk_172 (dk_at dksX0_faultPosition_0 13 rfl rfl)
theorem dX0_faultPosition_14 : decode cX0_faultPosition 14 = .ok (.iconst 0, 1) := dk_3 (dk_at dksX0_faultPosition_0 14 rfl rfl)
theorem dX0_faultPosition_15 : decode cX0_faultPosition 15 = .ok (.ireturn, 1) := dk_172 (dk_at dksX0_faultPosition_0 15 rfl rfl)
abbrev cX0_reason : ByteArray := method_29_code
def yX0_reason : MethodName := ⟨RX0, "reason", "(LHorsehairTrade;I[J)I"⟩
def dkwX0_reason_0 : List UInt8 := [44, 3, 42, 27, 182, 0, 102, 133, 80, 167, 0, 9, 78, 4, 172, 78, 5, 172, 3, 172]
abbrev dktX0_reason_0 : List UInt8 := dkwX0_reason_0 ++ []
theorem dksX0_reason_0 : cX0_reason.data.toList.drop 0 = dktX0_reason_0 := by decide +kernel
theorem dX0_reason_0 : decode cX0_reason 0 = .ok (.aload_n 2, 1) := dk_44 (dk_at dksX0_reason_0 0 rfl rfl)
theorem dX0_reason_1 : decode cX0_reason 1 = .ok (.iconst 0, 1) := dk_3 (dk_at dksX0_reason_0 1 rfl rfl)
theorem dX0_reason_2 : decode cX0_reason 2 = .ok (.aload_n 0, 1) := dk_42 (dk_at dksX0_reason_0 2 rfl rfl)
theorem dX0_reason_3 : decode cX0_reason 3 = .ok (.iload_n 1, 1) := dk_27 (dk_at dksX0_reason_0 3 rfl rfl)
theorem dX0_reason_4 : decode cX0_reason 4 = .ok (.invokevirtual 102, 3) := dk_182 0 102 (dk_at dksX0_reason_0 4 rfl rfl)
theorem dX0_reason_7 : decode cX0_reason 7 = .ok (.i2l, 1) := dk_133 (dk_at dksX0_reason_0 7 rfl rfl)
theorem dX0_reason_8 : decode cX0_reason 8 = .ok (.lastore, 1) := dk_80 (dk_at dksX0_reason_0 8 rfl rfl)
theorem dX0_reason_9 : decode cX0_reason 9 = .ok (.goto 9, 3) := dk_167 0 9 (dk_at dksX0_reason_0 9 rfl rfl)
theorem dX0_reason_12 : decode cX0_reason 12 = .ok (.astore_n 3, 1) := dk_78 (dk_at dksX0_reason_0 12 rfl rfl)
theorem dX0_reason_13 : decode cX0_reason 13 = .ok (.iconst 1, 1) := dk_4 (dk_at dksX0_reason_0 13 rfl rfl)
theorem dX0_reason_14 : decode cX0_reason 14 = .ok (.ireturn, 1) := dk_172 (dk_at dksX0_reason_0 14 rfl rfl)
theorem dX0_reason_15 : decode cX0_reason 15 = .ok (.astore_n 3, 1) := dk_78 (dk_at dksX0_reason_0 15 rfl rfl)
theorem dX0_reason_16 : decode cX0_reason 16 = .ok (.iconst 2, 1) := dk_5 (dk_at dksX0_reason_0 16 rfl rfl)
theorem dX0_reason_17 : decode cX0_reason 17 = .ok (.ireturn, 1) := dk_172 (dk_at dksX0_reason_0 17 rfl rfl)
theorem dX0_reason_18 : decode cX0_reason 18 = .ok (.iconst 0, 1) := dk_3 (dk_at dksX0_reason_0 18 rfl rfl)
theorem dX0_reason_19 : decode cX0_reason 19 = .ok (.ireturn, 1) := dk_172 (dk_at dksX0_reason_0 19 rfl rfl)
abbrev cX0_character : ByteArray := method_30_code
def yX0_character : MethodName := ⟨RX0, "character", "(LHorsehairTrade;I[J)I"⟩
def dkwX0_character_0 : List UInt8 := [44, 3, 42, 27, 182, 0, 105, 133, 80, 167, 0, 6, 78, 4, 172, 3, 172]
abbrev dktX0_character_0 : List UInt8 := dkwX0_character_0 ++ []
theorem dksX0_character_0 : cX0_character.data.toList.drop 0 = dktX0_character_0 := by decide +kernel
theorem dX0_character_0 : decode cX0_character 0 = .ok (.aload_n 2, 1) := dk_44 (dk_at dksX0_character_0 0 rfl rfl)
theorem dX0_character_1 : decode cX0_character 1 = .ok (.iconst 0, 1) := dk_3 (dk_at dksX0_character_0 1 rfl rfl)
theorem dX0_character_2 : decode cX0_character 2 = .ok (.aload_n 0, 1) := dk_42 (dk_at dksX0_character_0 2 rfl rfl)
theorem dX0_character_3 : decode cX0_character 3 = .ok (.iload_n 1, 1) := dk_27 (dk_at dksX0_character_0 3 rfl rfl)
theorem dX0_character_4 : decode cX0_character 4 = .ok (.invokevirtual 105, 3) := dk_182 0 105 (dk_at dksX0_character_0 4 rfl rfl)
theorem dX0_character_7 : decode cX0_character 7 = .ok (.i2l, 1) := dk_133 (dk_at dksX0_character_0 7 rfl rfl)
theorem dX0_character_8 : decode cX0_character 8 = .ok (.lastore, 1) := dk_80 (dk_at dksX0_character_0 8 rfl rfl)
theorem dX0_character_9 : decode cX0_character 9 = .ok (.goto 6, 3) := dk_167 0 6 (dk_at dksX0_character_0 9 rfl rfl)
theorem dX0_character_12 : decode cX0_character 12 = .ok (.astore_n 3, 1) := dk_78 (dk_at dksX0_character_0 12 rfl rfl)
theorem dX0_character_13 : decode cX0_character 13 = .ok (.iconst 1, 1) := dk_4 (dk_at dksX0_character_0 13 rfl rfl)
theorem dX0_character_14 : decode cX0_character 14 = .ok (.ireturn, 1) := dk_172 (dk_at dksX0_character_0 14 rfl rfl)
theorem dX0_character_15 : decode cX0_character 15 = .ok (.iconst 0, 1) := dk_3 (dk_at dksX0_character_0 15 rfl rfl)
theorem dX0_character_16 : decode cX0_character 16 = .ok (.ireturn, 1) := dk_172 (dk_at dksX0_character_0 16 rfl rfl)
abbrev cX0_meanLength : ByteArray := method_31_code
def yX0_meanLength : MethodName := ⟨RX0, "meanLength", "(LHorsehairTrade;[D)I"⟩
def dkwX0_meanLength_0 : List UInt8 := [43, 3, 42, 182, 0, 109, 82, 167, 0, 6, 77, 4, 172, 3, 172]
abbrev dktX0_meanLength_0 : List UInt8 := dkwX0_meanLength_0 ++ []
theorem dksX0_meanLength_0 : cX0_meanLength.data.toList.drop 0 = dktX0_meanLength_0 := by decide +kernel
theorem dX0_meanLength_0 : decode cX0_meanLength 0 = .ok (.aload_n 1, 1) := dk_43 (dk_at dksX0_meanLength_0 0 rfl rfl)
theorem dX0_meanLength_1 : decode cX0_meanLength 1 = .ok (.iconst 0, 1) := dk_3 (dk_at dksX0_meanLength_0 1 rfl rfl)
theorem dX0_meanLength_2 : decode cX0_meanLength 2 = .ok (.aload_n 0, 1) := dk_42 (dk_at dksX0_meanLength_0 2 rfl rfl)
theorem dX0_meanLength_3 : decode cX0_meanLength 3 = .ok (.invokevirtual 109, 3) := dk_182 0 109 (dk_at dksX0_meanLength_0 3 rfl rfl)
theorem dX0_meanLength_6 : decode cX0_meanLength 6 = .ok (.dastore, 1) := dk_82 (dk_at dksX0_meanLength_0 6 rfl rfl)
theorem dX0_meanLength_7 : decode cX0_meanLength 7 = .ok (.goto 6, 3) := dk_167 0 6 (dk_at dksX0_meanLength_0 7 rfl rfl)
theorem dX0_meanLength_10 : decode cX0_meanLength 10 = .ok (.astore_n 2, 1) := dk_77 (dk_at dksX0_meanLength_0 10 rfl rfl)
theorem dX0_meanLength_11 : decode cX0_meanLength 11 = .ok (.iconst 1, 1) := dk_4 (dk_at dksX0_meanLength_0 11 rfl rfl)
theorem dX0_meanLength_12 : decode cX0_meanLength 12 = .ok (.ireturn, 1) := dk_172 (dk_at dksX0_meanLength_0 12 rfl rfl)
theorem dX0_meanLength_13 : decode cX0_meanLength 13 = .ok (.iconst 0, 1) := dk_3 (dk_at dksX0_meanLength_0 13 rfl rfl)
theorem dX0_meanLength_14 : decode cX0_meanLength 14 = .ok (.ireturn, 1) := dk_172 (dk_at dksX0_meanLength_0 14 rfl rfl)
abbrev cX0_lostShare : ByteArray := method_32_code
def yX0_lostShare : MethodName := ⟨RX0, "lostShare", "(LHorsehairTrade;[D)I"⟩
def dkwX0_lostShare_0 : List UInt8 := [43, 3, 42, 182, 0, 115, 141, 82, 167, 0, 6, 77, 4, 172, 3, 172]
abbrev dktX0_lostShare_0 : List UInt8 := dkwX0_lostShare_0 ++ []
theorem dksX0_lostShare_0 : cX0_lostShare.data.toList.drop 0 = dktX0_lostShare_0 := by decide +kernel
theorem dX0_lostShare_0 : decode cX0_lostShare 0 = .ok (.aload_n 1, 1) := dk_43 (dk_at dksX0_lostShare_0 0 rfl rfl)
theorem dX0_lostShare_1 : decode cX0_lostShare 1 = .ok (.iconst 0, 1) := dk_3 (dk_at dksX0_lostShare_0 1 rfl rfl)
theorem dX0_lostShare_2 : decode cX0_lostShare 2 = .ok (.aload_n 0, 1) := dk_42 (dk_at dksX0_lostShare_0 2 rfl rfl)
theorem dX0_lostShare_3 : decode cX0_lostShare 3 = .ok (.invokevirtual 115, 3) := dk_182 0 115 (dk_at dksX0_lostShare_0 3 rfl rfl)
theorem dX0_lostShare_6 : decode cX0_lostShare 6 = .ok (.f2d, 1) := dk_141 (dk_at dksX0_lostShare_0 6 rfl rfl)
theorem dX0_lostShare_7 : decode cX0_lostShare 7 = .ok (.dastore, 1) := dk_82 (dk_at dksX0_lostShare_0 7 rfl rfl)
theorem dX0_lostShare_8 : decode cX0_lostShare 8 = .ok (.goto 6, 3) := dk_167 0 6 (dk_at dksX0_lostShare_0 8 rfl rfl)
theorem dX0_lostShare_11 : decode cX0_lostShare 11 = .ok (.astore_n 2, 1) := dk_77 (dk_at dksX0_lostShare_0 11 rfl rfl)
theorem dX0_lostShare_12 : decode cX0_lostShare 12 = .ok (.iconst 1, 1) := dk_4 (dk_at dksX0_lostShare_0 12 rfl rfl)
theorem dX0_lostShare_13 : decode cX0_lostShare 13 = .ok (.ireturn, 1) := dk_172 (dk_at dksX0_lostShare_0 13 rfl rfl)
theorem dX0_lostShare_14 : decode cX0_lostShare 14 = .ok (.iconst 0, 1) := dk_3 (dk_at dksX0_lostShare_0 14 rfl rfl)
theorem dX0_lostShare_15 : decode cX0_lostShare 15 = .ok (.ireturn, 1) := dk_172 (dk_at dksX0_lostShare_0 15 rfl rfl)
abbrev cX0_account : ByteArray := method_33_code
def yX0_account : MethodName := ⟨RX0, "account", "(LHorsehairTrade;I[J)I"⟩
def dkwX0_account_0 : List UInt8 := [44, 3, 42, 27, 182, 0, 119, 133, 80, 167, 0, 6, 78, 4, 172, 3, 172]
abbrev dktX0_account_0 : List UInt8 := dkwX0_account_0 ++ []
theorem dksX0_account_0 : cX0_account.data.toList.drop 0 = dktX0_account_0 := by decide +kernel
theorem dX0_account_0 : decode cX0_account 0 = .ok (.aload_n 2, 1) := dk_44 (dk_at dksX0_account_0 0 rfl rfl)
theorem dX0_account_1 : decode cX0_account 1 = .ok (.iconst 0, 1) := dk_3 (dk_at dksX0_account_0 1 rfl rfl)
theorem dX0_account_2 : decode cX0_account 2 = .ok (.aload_n 0, 1) := dk_42 (dk_at dksX0_account_0 2 rfl rfl)
theorem dX0_account_3 : decode cX0_account 3 = .ok (.iload_n 1, 1) := dk_27 (dk_at dksX0_account_0 3 rfl rfl)
theorem dX0_account_4 : decode cX0_account 4 = .ok (.invokevirtual 119, 3) := dk_182 0 119 (dk_at dksX0_account_0 4 rfl rfl)
theorem dX0_account_7 : decode cX0_account 7 = .ok (.i2l, 1) := dk_133 (dk_at dksX0_account_0 7 rfl rfl)
theorem dX0_account_8 : decode cX0_account 8 = .ok (.lastore, 1) := dk_80 (dk_at dksX0_account_0 8 rfl rfl)
theorem dX0_account_9 : decode cX0_account 9 = .ok (.goto 6, 3) := dk_167 0 6 (dk_at dksX0_account_0 9 rfl rfl)
theorem dX0_account_12 : decode cX0_account 12 = .ok (.astore_n 3, 1) := dk_78 (dk_at dksX0_account_0 12 rfl rfl)
theorem dX0_account_13 : decode cX0_account 13 = .ok (.iconst 1, 1) := dk_4 (dk_at dksX0_account_0 13 rfl rfl)
theorem dX0_account_14 : decode cX0_account 14 = .ok (.ireturn, 1) := dk_172 (dk_at dksX0_account_0 14 rfl rfl)
theorem dX0_account_15 : decode cX0_account 15 = .ok (.iconst 0, 1) := dk_3 (dk_at dksX0_account_0 15 rfl rfl)
theorem dX0_account_16 : decode cX0_account 16 = .ok (.ireturn, 1) := dk_172 (dk_at dksX0_account_0 16 rfl rfl)
abbrev cX0_undo : ByteArray := method_34_code
def yX0_undo : MethodName := ⟨RX0, "undo", "(LHorsehairTrade;[J)I"⟩
def dkwX0_undo_0 : List UInt8 := [43, 3, 42, 182, 0, 122, 133, 80, 167, 0, 6, 77, 4, 172, 3, 172]
abbrev dktX0_undo_0 : List UInt8 := dkwX0_undo_0 ++ []
theorem dksX0_undo_0 : cX0_undo.data.toList.drop 0 = dktX0_undo_0 := by decide +kernel
theorem dX0_undo_0 : decode cX0_undo 0 = .ok (.aload_n 1, 1) := dk_43 (dk_at dksX0_undo_0 0 rfl rfl)
theorem dX0_undo_1 : decode cX0_undo 1 = .ok (.iconst 0, 1) := dk_3 (dk_at dksX0_undo_0 1 rfl rfl)
theorem dX0_undo_2 : decode cX0_undo 2 = .ok (.aload_n 0, 1) := dk_42 (dk_at dksX0_undo_0 2 rfl rfl)
theorem dX0_undo_3 : decode cX0_undo 3 = .ok (.invokevirtual 122, 3) := dk_182 0 122 (dk_at dksX0_undo_0 3 rfl rfl)
theorem dX0_undo_6 : decode cX0_undo 6 = .ok (.i2l, 1) := dk_133 (dk_at dksX0_undo_0 6 rfl rfl)
theorem dX0_undo_7 : decode cX0_undo 7 = .ok (.lastore, 1) := dk_80 (dk_at dksX0_undo_0 7 rfl rfl)
theorem dX0_undo_8 : decode cX0_undo 8 = .ok (.goto 6, 3) := dk_167 0 6 (dk_at dksX0_undo_0 8 rfl rfl)
theorem dX0_undo_11 : decode cX0_undo 11 = .ok (.astore_n 2, 1) := dk_77 (dk_at dksX0_undo_0 11 rfl rfl)
theorem dX0_undo_12 : decode cX0_undo 12 = .ok (.iconst 1, 1) := dk_4 (dk_at dksX0_undo_0 12 rfl rfl)
theorem dX0_undo_13 : decode cX0_undo 13 = .ok (.ireturn, 1) := dk_172 (dk_at dksX0_undo_0 13 rfl rfl)
theorem dX0_undo_14 : decode cX0_undo 14 = .ok (.iconst 0, 1) := dk_3 (dk_at dksX0_undo_0 14 rfl rfl)
theorem dX0_undo_15 : decode cX0_undo 15 = .ok (.ireturn, 1) := dk_172 (dk_at dksX0_undo_0 15 rfl rfl)
abbrev cX0_restore : ByteArray := method_35_code
def yX0_restore : MethodName := ⟨RX0, "restore", "(LHorsehairTrade;[J)I"⟩
def dkwX0_restore_0 : List UInt8 := [43, 3, 42, 182, 0, 125, 133, 80, 167, 0, 6, 77, 4, 172, 3, 172]
abbrev dktX0_restore_0 : List UInt8 := dkwX0_restore_0 ++ []
theorem dksX0_restore_0 : cX0_restore.data.toList.drop 0 = dktX0_restore_0 := by decide +kernel
theorem dX0_restore_0 : decode cX0_restore 0 = .ok (.aload_n 1, 1) := dk_43 (dk_at dksX0_restore_0 0 rfl rfl)
theorem dX0_restore_1 : decode cX0_restore 1 = .ok (.iconst 0, 1) := dk_3 (dk_at dksX0_restore_0 1 rfl rfl)
theorem dX0_restore_2 : decode cX0_restore 2 = .ok (.aload_n 0, 1) := dk_42 (dk_at dksX0_restore_0 2 rfl rfl)
theorem dX0_restore_3 : decode cX0_restore 3 = .ok (.invokevirtual 125, 3) := dk_182 0 125 (dk_at dksX0_restore_0 3 rfl rfl)
theorem dX0_restore_6 : decode cX0_restore 6 = .ok (.i2l, 1) := dk_133 (dk_at dksX0_restore_0 6 rfl rfl)
theorem dX0_restore_7 : decode cX0_restore 7 = .ok (.lastore, 1) := dk_80 (dk_at dksX0_restore_0 7 rfl rfl)
theorem dX0_restore_8 : decode cX0_restore 8 = .ok (.goto 6, 3) := dk_167 0 6 (dk_at dksX0_restore_0 8 rfl rfl)
theorem dX0_restore_11 : decode cX0_restore 11 = .ok (.astore_n 2, 1) := dk_77 (dk_at dksX0_restore_0 11 rfl rfl)
theorem dX0_restore_12 : decode cX0_restore 12 = .ok (.iconst 1, 1) := dk_4 (dk_at dksX0_restore_0 12 rfl rfl)
theorem dX0_restore_13 : decode cX0_restore 13 = .ok (.ireturn, 1) := dk_172 (dk_at dksX0_restore_0 13 rfl rfl)
theorem dX0_restore_14 : decode cX0_restore 14 = .ok (.iconst 0, 1) := dk_3 (dk_at dksX0_restore_0 14 rfl rfl)
theorem dX0_restore_15 : decode cX0_restore 15 = .ok (.ireturn, 1) := dk_172 (dk_at dksX0_restore_0 15 rfl rfl)
theorem q66 : (Jvm.Cond.initialized "HorsehairTradeLaw") ∈ lw_all := lw_g (lw_at lw_m1 0 rfl) rfl
theorem q115 : (Jvm.Cond.classLink "HorsehairTradeLaw" (8 : Nat) "HorsehairTrade") ∈ lw_all := lw_g (lw_at lw_m1 49 rfl) rfl
theorem q117 : (Jvm.Cond.methodLink "HorsehairTradeLaw" (128 : Nat) ({ cls := "HorsehairTrade", name := "<init>", desc := "()V" } : Jvm.MethodName)) ∈ lw_all := lw_g (lw_at lw_m1 51 rfl) rfl
theorem q310 : (Jvm.Cond.methodLink "HorsehairTradeLaw" (209 : Nat) ({ cls := "HorsehairTrade", name := "fairs", desc := "()I" } : Jvm.MethodName)) ∈ lw_all := lw_g (lw_at lw_m2 4 rfl) rfl
theorem q317 : (Jvm.Cond.methodLink "HorsehairTradeLaw" (213 : Nat) ({ cls := "HorsehairTrade", name := "worth", desc := "(Z)I" } : Jvm.MethodName)) ∈ lw_all := lw_g (lw_at lw_m2 11 rfl) rfl
theorem q321 : (Jvm.Cond.methodLink "HorsehairTradeLaw" (232 : Nat) ({ cls := "HorsehairTrade", name := "line", desc := "()I" } : Jvm.MethodName)) ∈ lw_all := lw_g (lw_at lw_m2 15 rfl) rfl
theorem q699 : (Jvm.Cond.methodLink "HorsehairTradeLaw" (249 : Nat) ({ cls := "HorsehairTrade", name := "hairsAgain", desc := "()I" } : Jvm.MethodName)) ∈ lw_all := lw_g (lw_at lw_m3 153 rfl) rfl
theorem q737 : (Jvm.Cond.methodLink "HorsehairTradeLaw" (256 : Nat) ({ cls := "HorsehairTrade", name := "save", desc := "()I" } : Jvm.MethodName)) ∈ lw_all := lw_g (lw_at lw_m3 191 rfl) rfl
theorem q741 : (Jvm.Cond.methodLink "HorsehairTradeLaw" (132 : Nat) ({ cls := "HorsehairTradeLaw", name := "tail", desc := "(LHorsehairTrade;III[J)I" } : Jvm.MethodName)) ∈ lw_all := lw_g (lw_at lw_m3 195 rfl) rfl
theorem q742 : (Jvm.Cond.static ({ cls := "HorsehairTradeLaw", name := "tail", desc := "(LHorsehairTrade;III[J)I" } : Jvm.MethodName)) ∈ lw_all := lw_g (lw_at lw_m3 196 rfl) rfl
theorem q743 : (Jvm.Cond.codeWith ({ cls := "HorsehairTradeLaw", name := "tail", desc := "(LHorsehairTrade;III[J)I" } : Jvm.MethodName) method_3_code (6 : Nat) (Option.some Jvm.ClassFile.FieldType.int) [((0 : Nat), (12 : Nat), (15 : Nat), (13 : Nat))]) ∈ lw_all := lw_g (lw_at lw_m3 197 rfl) rfl
theorem q744 : (Jvm.Cond.classLink "HorsehairTradeLaw" (13 : Nat) "java/lang/UnsupportedOperationException") ∈ lw_all := lw_g (lw_at lw_m3 198 rfl) rfl
theorem q745 : (Jvm.Cond.methodLink "HorsehairTradeLaw" (7 : Nat) ({ cls := "HorsehairTrade", name := "tail", desc := "(III)I" } : Jvm.MethodName)) ∈ lw_all := lw_g (lw_at lw_m3 199 rfl) rfl
theorem q1372 : (Jvm.Cond.methodLink "HorsehairTradeLaw" (141 : Nat) ({ cls := "HorsehairTradeLaw", name := "comb", desc := "(LHorsehairTrade;II[J)I" } : Jvm.MethodName)) ∈ lw_all := lw_g (lw_at lw_m6 106 rfl) rfl
theorem q1373 : (Jvm.Cond.static ({ cls := "HorsehairTradeLaw", name := "comb", desc := "(LHorsehairTrade;II[J)I" } : Jvm.MethodName)) ∈ lw_all := lw_g (lw_at lw_m6 107 rfl) rfl
theorem q1374 : (Jvm.Cond.codeWith ({ cls := "HorsehairTradeLaw", name := "comb", desc := "(LHorsehairTrade;II[J)I" } : Jvm.MethodName) method_4_code (5 : Nat) (Option.some Jvm.ClassFile.FieldType.int) [((0 : Nat), (10 : Nat), (13 : Nat), (13 : Nat))]) ∈ lw_all := lw_g (lw_at lw_m6 108 rfl) rfl
theorem q1375 : (Jvm.Cond.methodLink "HorsehairTradeLaw" (15 : Nat) ({ cls := "HorsehairTrade", name := "comb", desc := "(II)I" } : Jvm.MethodName)) ∈ lw_all := lw_g (lw_at lw_m6 109 rfl) rfl
theorem q1380 : (Jvm.Cond.methodLink "HorsehairTradeLaw" (145 : Nat) ({ cls := "HorsehairTradeLaw", name := "tie", desc := "(LHorsehairTrade;II[J)I" } : Jvm.MethodName)) ∈ lw_all := lw_g (lw_at lw_m6 114 rfl) rfl
theorem q1381 : (Jvm.Cond.static ({ cls := "HorsehairTradeLaw", name := "tie", desc := "(LHorsehairTrade;II[J)I" } : Jvm.MethodName)) ∈ lw_all := lw_g (lw_at lw_m6 115 rfl) rfl
theorem q1382 : (Jvm.Cond.codeWith ({ cls := "HorsehairTradeLaw", name := "tie", desc := "(LHorsehairTrade;II[J)I" } : Jvm.MethodName) method_5_code (5 : Nat) (Option.some Jvm.ClassFile.FieldType.int) [((0 : Nat), (10 : Nat), (13 : Nat), (13 : Nat))]) ∈ lw_all := lw_g (lw_at lw_m6 116 rfl) rfl
theorem q1383 : (Jvm.Cond.methodLink "HorsehairTradeLaw" (19 : Nat) ({ cls := "HorsehairTrade", name := "tie", desc := "(II)I" } : Jvm.MethodName)) ∈ lw_all := lw_g (lw_at lw_m6 117 rfl) rfl
theorem q1388 : (Jvm.Cond.methodLink "HorsehairTradeLaw" (148 : Nat) ({ cls := "HorsehairTradeLaw", name := "weave", desc := "(LHorsehairTrade;II[J)I" } : Jvm.MethodName)) ∈ lw_all := lw_g (lw_at lw_m6 122 rfl) rfl
theorem q1389 : (Jvm.Cond.static ({ cls := "HorsehairTradeLaw", name := "weave", desc := "(LHorsehairTrade;II[J)I" } : Jvm.MethodName)) ∈ lw_all := lw_g (lw_at lw_m6 123 rfl) rfl
theorem q1390 : (Jvm.Cond.codeWith ({ cls := "HorsehairTradeLaw", name := "weave", desc := "(LHorsehairTrade;II[J)I" } : Jvm.MethodName) method_6_code (5 : Nat) (Option.some Jvm.ClassFile.FieldType.int) [((0 : Nat), (10 : Nat), (13 : Nat), (13 : Nat))]) ∈ lw_all := lw_g (lw_at lw_m6 124 rfl) rfl
theorem q1391 : (Jvm.Cond.methodLink "HorsehairTradeLaw" (22 : Nat) ({ cls := "HorsehairTrade", name := "weave", desc := "(II)I" } : Jvm.MethodName)) ∈ lw_all := lw_g (lw_at lw_m6 125 rfl) rfl
theorem q1396 : (Jvm.Cond.methodLink "HorsehairTradeLaw" (151 : Nat) ({ cls := "HorsehairTradeLaw", name := "bow", desc := "(LHorsehairTrade;I[J)I" } : Jvm.MethodName)) ∈ lw_all := lw_g (lw_at lw_m6 130 rfl) rfl
theorem q1397 : (Jvm.Cond.static ({ cls := "HorsehairTradeLaw", name := "bow", desc := "(LHorsehairTrade;I[J)I" } : Jvm.MethodName)) ∈ lw_all := lw_g (lw_at lw_m6 131 rfl) rfl
theorem q1398 : (Jvm.Cond.codeWith ({ cls := "HorsehairTradeLaw", name := "bow", desc := "(LHorsehairTrade;I[J)I" } : Jvm.MethodName) method_7_code (4 : Nat) (Option.some Jvm.ClassFile.FieldType.int) [((0 : Nat), (9 : Nat), (12 : Nat), (13 : Nat))]) ∈ lw_all := lw_g (lw_at lw_m6 132 rfl) rfl
theorem q1399 : (Jvm.Cond.methodLink "HorsehairTradeLaw" (25 : Nat) ({ cls := "HorsehairTrade", name := "bow", desc := "(I)I" } : Jvm.MethodName)) ∈ lw_all := lw_g (lw_at lw_m6 133 rfl) rfl
theorem q1404 : (Jvm.Cond.methodLink "HorsehairTradeLaw" (155 : Nat) ({ cls := "HorsehairTradeLaw", name := "hair", desc := "(LHorsehairTrade;II[J)I" } : Jvm.MethodName)) ∈ lw_all := lw_g (lw_at lw_m6 138 rfl) rfl
theorem q1405 : (Jvm.Cond.static ({ cls := "HorsehairTradeLaw", name := "hair", desc := "(LHorsehairTrade;II[J)I" } : Jvm.MethodName)) ∈ lw_all := lw_g (lw_at lw_m6 139 rfl) rfl
theorem q1406 : (Jvm.Cond.codeWith ({ cls := "HorsehairTradeLaw", name := "hair", desc := "(LHorsehairTrade;II[J)I" } : Jvm.MethodName) method_8_code (5 : Nat) (Option.some Jvm.ClassFile.FieldType.int) [((0 : Nat), (10 : Nat), (13 : Nat), (13 : Nat))]) ∈ lw_all := lw_g (lw_at lw_m6 140 rfl) rfl
theorem q1407 : (Jvm.Cond.methodLink "HorsehairTradeLaw" (29 : Nat) ({ cls := "HorsehairTrade", name := "hair", desc := "(II)I" } : Jvm.MethodName)) ∈ lw_all := lw_g (lw_at lw_m6 141 rfl) rfl
theorem q1412 : (Jvm.Cond.methodLink "HorsehairTradeLaw" (158 : Nat) ({ cls := "HorsehairTradeLaw", name := "cake", desc := "(LHorsehairTrade;I[J)I" } : Jvm.MethodName)) ∈ lw_all := lw_g (lw_at lw_m6 146 rfl) rfl
theorem q1413 : (Jvm.Cond.static ({ cls := "HorsehairTradeLaw", name := "cake", desc := "(LHorsehairTrade;I[J)I" } : Jvm.MethodName)) ∈ lw_all := lw_g (lw_at lw_m6 147 rfl) rfl
theorem q1414 : (Jvm.Cond.codeWith ({ cls := "HorsehairTradeLaw", name := "cake", desc := "(LHorsehairTrade;I[J)I" } : Jvm.MethodName) method_9_code (4 : Nat) (Option.some Jvm.ClassFile.FieldType.int) [((0 : Nat), (9 : Nat), (12 : Nat), (13 : Nat))]) ∈ lw_all := lw_g (lw_at lw_m6 148 rfl) rfl
theorem q1415 : (Jvm.Cond.methodLink "HorsehairTradeLaw" (32 : Nat) ({ cls := "HorsehairTrade", name := "cake", desc := "(I)I" } : Jvm.MethodName)) ∈ lw_all := lw_g (lw_at lw_m6 149 rfl) rfl
theorem q1420 : (Jvm.Cond.methodLink "HorsehairTradeLaw" (161 : Nat) ({ cls := "HorsehairTradeLaw", name := "rosin", desc := "(LHorsehairTrade;II[J)I" } : Jvm.MethodName)) ∈ lw_all := lw_g (lw_at lw_m6 154 rfl) rfl
theorem q1421 : (Jvm.Cond.static ({ cls := "HorsehairTradeLaw", name := "rosin", desc := "(LHorsehairTrade;II[J)I" } : Jvm.MethodName)) ∈ lw_all := lw_g (lw_at lw_m6 155 rfl) rfl
theorem q1422 : (Jvm.Cond.codeWith ({ cls := "HorsehairTradeLaw", name := "rosin", desc := "(LHorsehairTrade;II[J)I" } : Jvm.MethodName) method_10_code (5 : Nat) (Option.some Jvm.ClassFile.FieldType.int) [((0 : Nat), (10 : Nat), (13 : Nat), (13 : Nat))]) ∈ lw_all := lw_g (lw_at lw_m6 156 rfl) rfl
theorem q1423 : (Jvm.Cond.methodLink "HorsehairTradeLaw" (35 : Nat) ({ cls := "HorsehairTrade", name := "rosin", desc := "(II)I" } : Jvm.MethodName)) ∈ lw_all := lw_g (lw_at lw_m6 157 rfl) rfl
theorem q1428 : (Jvm.Cond.methodLink "HorsehairTradeLaw" (164 : Nat) ({ cls := "HorsehairTradeLaw", name := "play", desc := "(LHorsehairTrade;II[J)I" } : Jvm.MethodName)) ∈ lw_all := lw_g (lw_at lw_m6 162 rfl) rfl
theorem q1429 : (Jvm.Cond.static ({ cls := "HorsehairTradeLaw", name := "play", desc := "(LHorsehairTrade;II[J)I" } : Jvm.MethodName)) ∈ lw_all := lw_g (lw_at lw_m6 163 rfl) rfl
theorem q1430 : (Jvm.Cond.codeWith ({ cls := "HorsehairTradeLaw", name := "play", desc := "(LHorsehairTrade;II[J)I" } : Jvm.MethodName) method_11_code (5 : Nat) (Option.some Jvm.ClassFile.FieldType.int) [((0 : Nat), (10 : Nat), (13 : Nat), (13 : Nat))]) ∈ lw_all := lw_g (lw_at lw_m6 164 rfl) rfl
theorem q1431 : (Jvm.Cond.methodLink "HorsehairTradeLaw" (38 : Nat) ({ cls := "HorsehairTrade", name := "play", desc := "(II)I" } : Jvm.MethodName)) ∈ lw_all := lw_g (lw_at lw_m6 165 rfl) rfl
theorem q1436 : (Jvm.Cond.methodLink "HorsehairTradeLaw" (167 : Nat) ({ cls := "HorsehairTradeLaw", name := "road", desc := "(LHorsehairTrade;II[J)I" } : Jvm.MethodName)) ∈ lw_all := lw_g (lw_at lw_m6 170 rfl) rfl
theorem q1437 : (Jvm.Cond.static ({ cls := "HorsehairTradeLaw", name := "road", desc := "(LHorsehairTrade;II[J)I" } : Jvm.MethodName)) ∈ lw_all := lw_g (lw_at lw_m6 171 rfl) rfl
theorem q1438 : (Jvm.Cond.codeWith ({ cls := "HorsehairTradeLaw", name := "road", desc := "(LHorsehairTrade;II[J)I" } : Jvm.MethodName) method_12_code (5 : Nat) (Option.some Jvm.ClassFile.FieldType.int) [((0 : Nat), (10 : Nat), (13 : Nat), (13 : Nat))]) ∈ lw_all := lw_g (lw_at lw_m6 172 rfl) rfl
theorem q1439 : (Jvm.Cond.methodLink "HorsehairTradeLaw" (41 : Nat) ({ cls := "HorsehairTrade", name := "road", desc := "(II)I" } : Jvm.MethodName)) ∈ lw_all := lw_g (lw_at lw_m6 173 rfl) rfl
theorem q1444 : (Jvm.Cond.methodLink "HorsehairTradeLaw" (170 : Nat) ({ cls := "HorsehairTradeLaw", name := "walk", desc := "(LHorsehairTrade;I[J)I" } : Jvm.MethodName)) ∈ lw_all := lw_g (lw_at lw_m6 178 rfl) rfl
theorem q1445 : (Jvm.Cond.static ({ cls := "HorsehairTradeLaw", name := "walk", desc := "(LHorsehairTrade;I[J)I" } : Jvm.MethodName)) ∈ lw_all := lw_g (lw_at lw_m6 179 rfl) rfl
theorem q1446 : (Jvm.Cond.codeWith ({ cls := "HorsehairTradeLaw", name := "walk", desc := "(LHorsehairTrade;I[J)I" } : Jvm.MethodName) method_13_code (4 : Nat) (Option.some Jvm.ClassFile.FieldType.int) [((0 : Nat), (9 : Nat), (12 : Nat), (13 : Nat))]) ∈ lw_all := lw_g (lw_at lw_m6 180 rfl) rfl
theorem q1447 : (Jvm.Cond.methodLink "HorsehairTradeLaw" (44 : Nat) ({ cls := "HorsehairTrade", name := "walk", desc := "(I)I" } : Jvm.MethodName)) ∈ lw_all := lw_g (lw_at lw_m6 181 rfl) rfl
theorem q1452 : (Jvm.Cond.methodLink "HorsehairTradeLaw" (173 : Nat) ({ cls := "HorsehairTradeLaw", name := "sell", desc := "(LHorsehairTrade;I[J)I" } : Jvm.MethodName)) ∈ lw_all := lw_g (lw_at lw_m6 186 rfl) rfl
theorem q1453 : (Jvm.Cond.static ({ cls := "HorsehairTradeLaw", name := "sell", desc := "(LHorsehairTrade;I[J)I" } : Jvm.MethodName)) ∈ lw_all := lw_g (lw_at lw_m6 187 rfl) rfl
theorem q1454 : (Jvm.Cond.codeWith ({ cls := "HorsehairTradeLaw", name := "sell", desc := "(LHorsehairTrade;I[J)I" } : Jvm.MethodName) method_14_code (4 : Nat) (Option.some Jvm.ClassFile.FieldType.int) [((0 : Nat), (9 : Nat), (12 : Nat), (13 : Nat))]) ∈ lw_all := lw_g (lw_at lw_m6 188 rfl) rfl
theorem q1455 : (Jvm.Cond.methodLink "HorsehairTradeLaw" (47 : Nat) ({ cls := "HorsehairTrade", name := "sell", desc := "(I)I" } : Jvm.MethodName)) ∈ lw_all := lw_g (lw_at lw_m6 189 rfl) rfl
theorem q1460 : (Jvm.Cond.methodLink "HorsehairTradeLaw" (176 : Nat) ({ cls := "HorsehairTradeLaw", name := "paid", desc := "(LHorsehairTrade;I[J)I" } : Jvm.MethodName)) ∈ lw_all := lw_g (lw_at lw_m6 194 rfl) rfl
theorem q1461 : (Jvm.Cond.static ({ cls := "HorsehairTradeLaw", name := "paid", desc := "(LHorsehairTrade;I[J)I" } : Jvm.MethodName)) ∈ lw_all := lw_g (lw_at lw_m6 195 rfl) rfl
theorem q1462 : (Jvm.Cond.codeWith ({ cls := "HorsehairTradeLaw", name := "paid", desc := "(LHorsehairTrade;I[J)I" } : Jvm.MethodName) method_15_code (4 : Nat) (Option.some Jvm.ClassFile.FieldType.int) [((0 : Nat), (9 : Nat), (12 : Nat), (13 : Nat))]) ∈ lw_all := lw_g (lw_at lw_m6 196 rfl) rfl
theorem q1463 : (Jvm.Cond.methodLink "HorsehairTradeLaw" (50 : Nat) ({ cls := "HorsehairTrade", name := "paid", desc := "(I)I" } : Jvm.MethodName)) ∈ lw_all := lw_g (lw_at lw_m6 197 rfl) rfl
theorem q1468 : (Jvm.Cond.methodLink "HorsehairTradeLaw" (179 : Nat) ({ cls := "HorsehairTradeLaw", name := "tailOf", desc := "(LHorsehairTrade;II[J)I" } : Jvm.MethodName)) ∈ lw_all := lw_g (lw_at lw_m6 202 rfl) rfl
theorem q1469 : (Jvm.Cond.static ({ cls := "HorsehairTradeLaw", name := "tailOf", desc := "(LHorsehairTrade;II[J)I" } : Jvm.MethodName)) ∈ lw_all := lw_g (lw_at lw_m6 203 rfl) rfl
theorem q1470 : (Jvm.Cond.codeWith ({ cls := "HorsehairTradeLaw", name := "tailOf", desc := "(LHorsehairTrade;II[J)I" } : Jvm.MethodName) method_16_code (5 : Nat) (Option.some Jvm.ClassFile.FieldType.int) [((0 : Nat), (10 : Nat), (13 : Nat), (56 : Nat)), ((0 : Nat), (10 : Nat), (17 : Nat), (58 : Nat))]) ∈ lw_all := lw_g (lw_at lw_m6 204 rfl) rfl
theorem q1471 : (Jvm.Cond.classLink "HorsehairTradeLaw" (56 : Nat) "java/lang/IndexOutOfBoundsException") ∈ lw_all := lw_g (lw_at lw_m6 205 rfl) rfl
theorem q1490 : (Jvm.Cond.classLink "HorsehairTradeLaw" (58 : Nat) "java/lang/IllegalArgumentException") ∈ lw_all := lw_g (lw_at lw_m6 224 rfl) rfl
theorem q1491 : (Jvm.Cond.methodLink "HorsehairTradeLaw" (53 : Nat) ({ cls := "HorsehairTrade", name := "tailOf", desc := "(II)I" } : Jvm.MethodName)) ∈ lw_all := lw_g (lw_at lw_m6 225 rfl) rfl
theorem q1524 : (Jvm.Cond.methodLink "HorsehairTradeLaw" (182 : Nat) ({ cls := "HorsehairTradeLaw", name := "hankOf", desc := "(LHorsehairTrade;II[J)I" } : Jvm.MethodName)) ∈ lw_all := lw_g (lw_at lw_m7 18 rfl) rfl
theorem q1525 : (Jvm.Cond.static ({ cls := "HorsehairTradeLaw", name := "hankOf", desc := "(LHorsehairTrade;II[J)I" } : Jvm.MethodName)) ∈ lw_all := lw_g (lw_at lw_m7 19 rfl) rfl
theorem q1526 : (Jvm.Cond.codeWith ({ cls := "HorsehairTradeLaw", name := "hankOf", desc := "(LHorsehairTrade;II[J)I" } : Jvm.MethodName) method_17_code (5 : Nat) (Option.some Jvm.ClassFile.FieldType.int) [((0 : Nat), (10 : Nat), (13 : Nat), (56 : Nat)), ((0 : Nat), (10 : Nat), (17 : Nat), (58 : Nat))]) ∈ lw_all := lw_g (lw_at lw_m7 20 rfl) rfl
theorem q1527 : (Jvm.Cond.methodLink "HorsehairTradeLaw" (60 : Nat) ({ cls := "HorsehairTrade", name := "hankOf", desc := "(II)I" } : Jvm.MethodName)) ∈ lw_all := lw_g (lw_at lw_m7 21 rfl) rfl
theorem q1531 : (Jvm.Cond.methodLink "HorsehairTradeLaw" (185 : Nat) ({ cls := "HorsehairTradeLaw", name := "bowOf", desc := "(LHorsehairTrade;II[J)I" } : Jvm.MethodName)) ∈ lw_all := lw_g (lw_at lw_m7 25 rfl) rfl
theorem q1532 : (Jvm.Cond.static ({ cls := "HorsehairTradeLaw", name := "bowOf", desc := "(LHorsehairTrade;II[J)I" } : Jvm.MethodName)) ∈ lw_all := lw_g (lw_at lw_m7 26 rfl) rfl
theorem q1533 : (Jvm.Cond.codeWith ({ cls := "HorsehairTradeLaw", name := "bowOf", desc := "(LHorsehairTrade;II[J)I" } : Jvm.MethodName) method_18_code (5 : Nat) (Option.some Jvm.ClassFile.FieldType.int) [((0 : Nat), (10 : Nat), (13 : Nat), (56 : Nat)), ((0 : Nat), (10 : Nat), (17 : Nat), (58 : Nat))]) ∈ lw_all := lw_g (lw_at lw_m7 27 rfl) rfl
theorem q1534 : (Jvm.Cond.methodLink "HorsehairTradeLaw" (63 : Nat) ({ cls := "HorsehairTrade", name := "bowOf", desc := "(II)I" } : Jvm.MethodName)) ∈ lw_all := lw_g (lw_at lw_m7 28 rfl) rfl
theorem q1539 : (Jvm.Cond.methodLink "HorsehairTradeLaw" (188 : Nat) ({ cls := "HorsehairTradeLaw", name := "cakeOf", desc := "(LHorsehairTrade;I[J)I" } : Jvm.MethodName)) ∈ lw_all := lw_g (lw_at lw_m7 33 rfl) rfl
theorem q1540 : (Jvm.Cond.static ({ cls := "HorsehairTradeLaw", name := "cakeOf", desc := "(LHorsehairTrade;I[J)I" } : Jvm.MethodName)) ∈ lw_all := lw_g (lw_at lw_m7 34 rfl) rfl
theorem q1541 : (Jvm.Cond.codeWith ({ cls := "HorsehairTradeLaw", name := "cakeOf", desc := "(LHorsehairTrade;I[J)I" } : Jvm.MethodName) method_19_code (4 : Nat) (Option.some Jvm.ClassFile.FieldType.int) [((0 : Nat), (9 : Nat), (12 : Nat), (56 : Nat))]) ∈ lw_all := lw_g (lw_at lw_m7 35 rfl) rfl
theorem q1542 : (Jvm.Cond.methodLink "HorsehairTradeLaw" (66 : Nat) ({ cls := "HorsehairTrade", name := "cakeOf", desc := "(I)I" } : Jvm.MethodName)) ∈ lw_all := lw_g (lw_at lw_m7 36 rfl) rfl
theorem q1547 : (Jvm.Cond.methodLink "HorsehairTradeLaw" (191 : Nat) ({ cls := "HorsehairTradeLaw", name := "sieves", desc := "(LHorsehairTrade;I[J)I" } : Jvm.MethodName)) ∈ lw_all := lw_g (lw_at lw_m7 41 rfl) rfl
theorem q1548 : (Jvm.Cond.static ({ cls := "HorsehairTradeLaw", name := "sieves", desc := "(LHorsehairTrade;I[J)I" } : Jvm.MethodName)) ∈ lw_all := lw_g (lw_at lw_m7 42 rfl) rfl
theorem q1549 : (Jvm.Cond.codeWith ({ cls := "HorsehairTradeLaw", name := "sieves", desc := "(LHorsehairTrade;I[J)I" } : Jvm.MethodName) method_20_code (4 : Nat) (Option.some Jvm.ClassFile.FieldType.int) [((0 : Nat), (9 : Nat), (12 : Nat), (58 : Nat))]) ∈ lw_all := lw_g (lw_at lw_m7 43 rfl) rfl
theorem q1550 : (Jvm.Cond.methodLink "HorsehairTradeLaw" (69 : Nat) ({ cls := "HorsehairTrade", name := "sieves", desc := "(I)I" } : Jvm.MethodName)) ∈ lw_all := lw_g (lw_at lw_m7 44 rfl) rfl
theorem q1557 : (Jvm.Cond.methodLink "HorsehairTradeLaw" (194 : Nat) ({ cls := "HorsehairTradeLaw", name := "bestHank", desc := "(LHorsehairTrade;I[J)I" } : Jvm.MethodName)) ∈ lw_all := lw_g (lw_at lw_m7 51 rfl) rfl
theorem q1558 : (Jvm.Cond.static ({ cls := "HorsehairTradeLaw", name := "bestHank", desc := "(LHorsehairTrade;I[J)I" } : Jvm.MethodName)) ∈ lw_all := lw_g (lw_at lw_m7 52 rfl) rfl
theorem q1559 : (Jvm.Cond.codeWith ({ cls := "HorsehairTradeLaw", name := "bestHank", desc := "(LHorsehairTrade;I[J)I" } : Jvm.MethodName) method_21_code (4 : Nat) (Option.some Jvm.ClassFile.FieldType.int) [((0 : Nat), (9 : Nat), (12 : Nat), (56 : Nat)), ((0 : Nat), (9 : Nat), (15 : Nat), (75 : Nat))]) ∈ lw_all := lw_g (lw_at lw_m7 53 rfl) rfl
theorem q1560 : (Jvm.Cond.classLink "HorsehairTradeLaw" (75 : Nat) "java/util/NoSuchElementException") ∈ lw_all := lw_g (lw_at lw_m7 54 rfl) rfl
theorem q1561 : (Jvm.Cond.methodLink "HorsehairTradeLaw" (72 : Nat) ({ cls := "HorsehairTrade", name := "bestHank", desc := "(I)I" } : Jvm.MethodName)) ∈ lw_all := lw_g (lw_at lw_m7 55 rfl) rfl
theorem q1585 : (Jvm.Cond.methodLink "HorsehairTradeLaw" (197 : Nat) ({ cls := "HorsehairTradeLaw", name := "bestAgain", desc := "(LHorsehairTrade;I[J)I" } : Jvm.MethodName)) ∈ lw_all := lw_g (lw_at lw_m7 79 rfl) rfl
theorem q1586 : (Jvm.Cond.static ({ cls := "HorsehairTradeLaw", name := "bestAgain", desc := "(LHorsehairTrade;I[J)I" } : Jvm.MethodName)) ∈ lw_all := lw_g (lw_at lw_m7 80 rfl) rfl
theorem q1587 : (Jvm.Cond.codeWith ({ cls := "HorsehairTradeLaw", name := "bestAgain", desc := "(LHorsehairTrade;I[J)I" } : Jvm.MethodName) method_22_code (4 : Nat) (Option.some Jvm.ClassFile.FieldType.int) [((0 : Nat), (9 : Nat), (12 : Nat), (56 : Nat)), ((0 : Nat), (9 : Nat), (15 : Nat), (75 : Nat))]) ∈ lw_all := lw_g (lw_at lw_m7 81 rfl) rfl
theorem q1588 : (Jvm.Cond.methodLink "HorsehairTradeLaw" (77 : Nat) ({ cls := "HorsehairTrade", name := "bestAgain", desc := "(I)I" } : Jvm.MethodName)) ∈ lw_all := lw_g (lw_at lw_m7 82 rfl) rfl
theorem q1973 : (Jvm.Cond.methodLink "HorsehairTradeLaw" (200 : Nat) ({ cls := "HorsehairTradeLaw", name := "goodFor", desc := "(LHorsehairTrade;I[J)I" } : Jvm.MethodName)) ∈ lw_all := lw_g (lw_at lw_m8 227 rfl) rfl
theorem q1974 : (Jvm.Cond.static ({ cls := "HorsehairTradeLaw", name := "goodFor", desc := "(LHorsehairTrade;I[J)I" } : Jvm.MethodName)) ∈ lw_all := lw_g (lw_at lw_m8 228 rfl) rfl
theorem q1975 : (Jvm.Cond.codeWith ({ cls := "HorsehairTradeLaw", name := "goodFor", desc := "(LHorsehairTrade;I[J)I" } : Jvm.MethodName) method_23_code (4 : Nat) (Option.some Jvm.ClassFile.FieldType.int) [((0 : Nat), (9 : Nat), (12 : Nat), (56 : Nat))]) ∈ lw_all := lw_g (lw_at lw_m8 229 rfl) rfl
theorem q1976 : (Jvm.Cond.methodLink "HorsehairTradeLaw" (80 : Nat) ({ cls := "HorsehairTrade", name := "goodFor", desc := "(I)I" } : Jvm.MethodName)) ∈ lw_all := lw_g (lw_at lw_m8 230 rfl) rfl
theorem q1981 : (Jvm.Cond.methodLink "HorsehairTradeLaw" (203 : Nat) ({ cls := "HorsehairTradeLaw", name := "hoursLeft", desc := "(LHorsehairTrade;I[J)I" } : Jvm.MethodName)) ∈ lw_all := lw_g (lw_at lw_m8 235 rfl) rfl
theorem q1982 : (Jvm.Cond.static ({ cls := "HorsehairTradeLaw", name := "hoursLeft", desc := "(LHorsehairTrade;I[J)I" } : Jvm.MethodName)) ∈ lw_all := lw_g (lw_at lw_m8 236 rfl) rfl
theorem q1983 : (Jvm.Cond.codeWith ({ cls := "HorsehairTradeLaw", name := "hoursLeft", desc := "(LHorsehairTrade;I[J)I" } : Jvm.MethodName) method_24_code (4 : Nat) (Option.some Jvm.ClassFile.FieldType.int) [((0 : Nat), (9 : Nat), (12 : Nat), (56 : Nat))]) ∈ lw_all := lw_g (lw_at lw_m8 237 rfl) rfl
theorem q1984 : (Jvm.Cond.methodLink "HorsehairTradeLaw" (83 : Nat) ({ cls := "HorsehairTrade", name := "hoursLeft", desc := "(I)I" } : Jvm.MethodName)) ∈ lw_all := lw_g (lw_at lw_m8 238 rfl) rfl
theorem q1991 : (Jvm.Cond.methodLink "HorsehairTradeLaw" (206 : Nat) ({ cls := "HorsehairTradeLaw", name := "daysTo", desc := "(LHorsehairTrade;I[J)I" } : Jvm.MethodName)) ∈ lw_all := lw_g (lw_at lw_m9 5 rfl) rfl
theorem q1992 : (Jvm.Cond.static ({ cls := "HorsehairTradeLaw", name := "daysTo", desc := "(LHorsehairTrade;I[J)I" } : Jvm.MethodName)) ∈ lw_all := lw_g (lw_at lw_m9 6 rfl) rfl
theorem q1993 : (Jvm.Cond.codeWith ({ cls := "HorsehairTradeLaw", name := "daysTo", desc := "(LHorsehairTrade;I[J)I" } : Jvm.MethodName) method_25_code (4 : Nat) (Option.some Jvm.ClassFile.FieldType.int) [((0 : Nat), (9 : Nat), (12 : Nat), (56 : Nat))]) ∈ lw_all := lw_g (lw_at lw_m9 7 rfl) rfl
theorem q1994 : (Jvm.Cond.methodLink "HorsehairTradeLaw" (86 : Nat) ({ cls := "HorsehairTrade", name := "daysTo", desc := "(I)I" } : Jvm.MethodName)) ∈ lw_all := lw_g (lw_at lw_m9 8 rfl) rfl
theorem q1998 : (Jvm.Cond.methodLink "HorsehairTradeLaw" (218 : Nat) ({ cls := "HorsehairTradeLaw", name := "feed", desc := "(LHorsehairTrade;C[J)I" } : Jvm.MethodName)) ∈ lw_all := lw_g (lw_at lw_m9 12 rfl) rfl
theorem q1999 : (Jvm.Cond.static ({ cls := "HorsehairTradeLaw", name := "feed", desc := "(LHorsehairTrade;C[J)I" } : Jvm.MethodName)) ∈ lw_all := lw_g (lw_at lw_m9 13 rfl) rfl
theorem q2000 : (Jvm.Cond.codeWith ({ cls := "HorsehairTradeLaw", name := "feed", desc := "(LHorsehairTrade;C[J)I" } : Jvm.MethodName) method_26_code (4 : Nat) (Option.some Jvm.ClassFile.FieldType.int) [((0 : Nat), (9 : Nat), (12 : Nat), (93 : Nat))]) ∈ lw_all := lw_g (lw_at lw_m9 14 rfl) rfl
theorem q2001 : (Jvm.Cond.classLink "HorsehairTradeLaw" (93 : Nat) "java/lang/IllegalStateException") ∈ lw_all := lw_g (lw_at lw_m9 15 rfl) rfl
theorem q2002 : (Jvm.Cond.methodLink "HorsehairTradeLaw" (89 : Nat) ({ cls := "HorsehairTrade", name := "feed", desc := "(C)I" } : Jvm.MethodName)) ∈ lw_all := lw_g (lw_at lw_m9 16 rfl) rfl
theorem q2016 : (Jvm.Cond.methodLink "HorsehairTradeLaw" (222 : Nat) ({ cls := "HorsehairTradeLaw", name := "run", desc := "(LHorsehairTrade;[J)I" } : Jvm.MethodName)) ∈ lw_all := lw_g (lw_at lw_m9 30 rfl) rfl
theorem q2017 : (Jvm.Cond.static ({ cls := "HorsehairTradeLaw", name := "run", desc := "(LHorsehairTrade;[J)I" } : Jvm.MethodName)) ∈ lw_all := lw_g (lw_at lw_m9 31 rfl) rfl
theorem q2018 : (Jvm.Cond.codeWith ({ cls := "HorsehairTradeLaw", name := "run", desc := "(LHorsehairTrade;[J)I" } : Jvm.MethodName) method_27_code (3 : Nat) (Option.some Jvm.ClassFile.FieldType.int) [((0 : Nat), (8 : Nat), (11 : Nat), (58 : Nat)), ((0 : Nat), (8 : Nat), (14 : Nat), (13 : Nat))]) ∈ lw_all := lw_g (lw_at lw_m9 32 rfl) rfl
theorem q2019 : (Jvm.Cond.methodLink "HorsehairTradeLaw" (95 : Nat) ({ cls := "HorsehairTrade", name := "run", desc := "()I" } : Jvm.MethodName)) ∈ lw_all := lw_g (lw_at lw_m9 33 rfl) rfl
theorem q2183 : (Jvm.Cond.methodLink "HorsehairTradeLaw" (226 : Nat) ({ cls := "HorsehairTradeLaw", name := "faultPosition", desc := "(LHorsehairTrade;[J)I" } : Jvm.MethodName)) ∈ lw_all := lw_g (lw_at lw_m9 197 rfl) rfl
theorem q2184 : (Jvm.Cond.static ({ cls := "HorsehairTradeLaw", name := "faultPosition", desc := "(LHorsehairTrade;[J)I" } : Jvm.MethodName)) ∈ lw_all := lw_g (lw_at lw_m9 198 rfl) rfl
theorem q2185 : (Jvm.Cond.codeWith ({ cls := "HorsehairTradeLaw", name := "faultPosition", desc := "(LHorsehairTrade;[J)I" } : Jvm.MethodName) method_28_code (3 : Nat) (Option.some Jvm.ClassFile.FieldType.int) [((0 : Nat), (8 : Nat), (11 : Nat), (75 : Nat))]) ∈ lw_all := lw_g (lw_at lw_m9 199 rfl) rfl
theorem q2186 : (Jvm.Cond.methodLink "HorsehairTradeLaw" (99 : Nat) ({ cls := "HorsehairTrade", name := "faultPosition", desc := "()I" } : Jvm.MethodName)) ∈ lw_all := lw_g (lw_at lw_m9 200 rfl) rfl
theorem q2190 : (Jvm.Cond.methodLink "HorsehairTradeLaw" (229 : Nat) ({ cls := "HorsehairTradeLaw", name := "reason", desc := "(LHorsehairTrade;I[J)I" } : Jvm.MethodName)) ∈ lw_all := lw_g (lw_at lw_m9 204 rfl) rfl
theorem q2191 : (Jvm.Cond.static ({ cls := "HorsehairTradeLaw", name := "reason", desc := "(LHorsehairTrade;I[J)I" } : Jvm.MethodName)) ∈ lw_all := lw_g (lw_at lw_m9 205 rfl) rfl
theorem q2192 : (Jvm.Cond.codeWith ({ cls := "HorsehairTradeLaw", name := "reason", desc := "(LHorsehairTrade;I[J)I" } : Jvm.MethodName) method_29_code (4 : Nat) (Option.some Jvm.ClassFile.FieldType.int) [((0 : Nat), (9 : Nat), (12 : Nat), (58 : Nat)), ((0 : Nat), (9 : Nat), (15 : Nat), (75 : Nat))]) ∈ lw_all := lw_g (lw_at lw_m9 206 rfl) rfl
theorem q2193 : (Jvm.Cond.methodLink "HorsehairTradeLaw" (102 : Nat) ({ cls := "HorsehairTrade", name := "reason", desc := "(I)I" } : Jvm.MethodName)) ∈ lw_all := lw_g (lw_at lw_m9 207 rfl) rfl
theorem q2197 : (Jvm.Cond.methodLink "HorsehairTradeLaw" (236 : Nat) ({ cls := "HorsehairTradeLaw", name := "character", desc := "(LHorsehairTrade;I[J)I" } : Jvm.MethodName)) ∈ lw_all := lw_g (lw_at lw_m9 211 rfl) rfl
theorem q2198 : (Jvm.Cond.static ({ cls := "HorsehairTradeLaw", name := "character", desc := "(LHorsehairTrade;I[J)I" } : Jvm.MethodName)) ∈ lw_all := lw_g (lw_at lw_m9 212 rfl) rfl
theorem q2199 : (Jvm.Cond.codeWith ({ cls := "HorsehairTradeLaw", name := "character", desc := "(LHorsehairTrade;I[J)I" } : Jvm.MethodName) method_30_code (4 : Nat) (Option.some Jvm.ClassFile.FieldType.int) [((0 : Nat), (9 : Nat), (12 : Nat), (56 : Nat))]) ∈ lw_all := lw_g (lw_at lw_m9 213 rfl) rfl
theorem q2200 : (Jvm.Cond.methodLink "HorsehairTradeLaw" (105 : Nat) ({ cls := "HorsehairTrade", name := "character", desc := "(I)C" } : Jvm.MethodName)) ∈ lw_all := lw_g (lw_at lw_m9 214 rfl) rfl
theorem q2205 : (Jvm.Cond.methodLink "HorsehairTradeLaw" (239 : Nat) ({ cls := "HorsehairTradeLaw", name := "meanLength", desc := "(LHorsehairTrade;[D)I" } : Jvm.MethodName)) ∈ lw_all := lw_g (lw_at lw_m9 219 rfl) rfl
theorem q2206 : (Jvm.Cond.static ({ cls := "HorsehairTradeLaw", name := "meanLength", desc := "(LHorsehairTrade;[D)I" } : Jvm.MethodName)) ∈ lw_all := lw_g (lw_at lw_m9 220 rfl) rfl
theorem q2207 : (Jvm.Cond.codeWith ({ cls := "HorsehairTradeLaw", name := "meanLength", desc := "(LHorsehairTrade;[D)I" } : Jvm.MethodName) method_31_code (3 : Nat) (Option.some Jvm.ClassFile.FieldType.int) [((0 : Nat), (7 : Nat), (10 : Nat), (113 : Nat))]) ∈ lw_all := lw_g (lw_at lw_m9 221 rfl) rfl
theorem q2208 : (Jvm.Cond.classLink "HorsehairTradeLaw" (113 : Nat) "java/lang/ArithmeticException") ∈ lw_all := lw_g (lw_at lw_m9 222 rfl) rfl
theorem q2222 : (Jvm.Cond.methodLink "HorsehairTradeLaw" (109 : Nat) ({ cls := "HorsehairTrade", name := "meanLength", desc := "()D" } : Jvm.MethodName)) ∈ lw_all := lw_g (lw_at lw_m9 236 rfl) rfl
theorem q2231 : (Jvm.Cond.methodLink "HorsehairTradeLaw" (243 : Nat) ({ cls := "HorsehairTradeLaw", name := "lostShare", desc := "(LHorsehairTrade;[D)I" } : Jvm.MethodName)) ∈ lw_all := lw_g (lw_at lw_m10 5 rfl) rfl
theorem q2232 : (Jvm.Cond.static ({ cls := "HorsehairTradeLaw", name := "lostShare", desc := "(LHorsehairTrade;[D)I" } : Jvm.MethodName)) ∈ lw_all := lw_g (lw_at lw_m10 6 rfl) rfl
theorem q2233 : (Jvm.Cond.codeWith ({ cls := "HorsehairTradeLaw", name := "lostShare", desc := "(LHorsehairTrade;[D)I" } : Jvm.MethodName) method_32_code (3 : Nat) (Option.some Jvm.ClassFile.FieldType.int) [((0 : Nat), (8 : Nat), (11 : Nat), (113 : Nat))]) ∈ lw_all := lw_g (lw_at lw_m10 7 rfl) rfl
theorem q2234 : (Jvm.Cond.methodLink "HorsehairTradeLaw" (115 : Nat) ({ cls := "HorsehairTrade", name := "lostShare", desc := "()F" } : Jvm.MethodName)) ∈ lw_all := lw_g (lw_at lw_m10 8 rfl) rfl
theorem q2238 : (Jvm.Cond.methodLink "HorsehairTradeLaw" (246 : Nat) ({ cls := "HorsehairTradeLaw", name := "account", desc := "(LHorsehairTrade;I[J)I" } : Jvm.MethodName)) ∈ lw_all := lw_g (lw_at lw_m10 12 rfl) rfl
theorem q2239 : (Jvm.Cond.static ({ cls := "HorsehairTradeLaw", name := "account", desc := "(LHorsehairTrade;I[J)I" } : Jvm.MethodName)) ∈ lw_all := lw_g (lw_at lw_m10 13 rfl) rfl
theorem q2240 : (Jvm.Cond.codeWith ({ cls := "HorsehairTradeLaw", name := "account", desc := "(LHorsehairTrade;I[J)I" } : Jvm.MethodName) method_33_code (4 : Nat) (Option.some Jvm.ClassFile.FieldType.int) [((0 : Nat), (9 : Nat), (12 : Nat), (58 : Nat))]) ∈ lw_all := lw_g (lw_at lw_m10 14 rfl) rfl
theorem q2241 : (Jvm.Cond.methodLink "HorsehairTradeLaw" (119 : Nat) ({ cls := "HorsehairTrade", name := "account", desc := "(I)I" } : Jvm.MethodName)) ∈ lw_all := lw_g (lw_at lw_m10 15 rfl) rfl
theorem q2255 : (Jvm.Cond.methodLink "HorsehairTradeLaw" (253 : Nat) ({ cls := "HorsehairTradeLaw", name := "undo", desc := "(LHorsehairTrade;[J)I" } : Jvm.MethodName)) ∈ lw_all := lw_g (lw_at lw_m10 29 rfl) rfl
theorem q2256 : (Jvm.Cond.static ({ cls := "HorsehairTradeLaw", name := "undo", desc := "(LHorsehairTrade;[J)I" } : Jvm.MethodName)) ∈ lw_all := lw_g (lw_at lw_m10 30 rfl) rfl
theorem q2257 : (Jvm.Cond.codeWith ({ cls := "HorsehairTradeLaw", name := "undo", desc := "(LHorsehairTrade;[J)I" } : Jvm.MethodName) method_34_code (3 : Nat) (Option.some Jvm.ClassFile.FieldType.int) [((0 : Nat), (8 : Nat), (11 : Nat), (93 : Nat))]) ∈ lw_all := lw_g (lw_at lw_m10 31 rfl) rfl
theorem q2258 : (Jvm.Cond.methodLink "HorsehairTradeLaw" (122 : Nat) ({ cls := "HorsehairTrade", name := "undo", desc := "()I" } : Jvm.MethodName)) ∈ lw_all := lw_g (lw_at lw_m10 32 rfl) rfl
theorem q2280 : (Jvm.Cond.methodLink "HorsehairTradeLaw" (260 : Nat) ({ cls := "HorsehairTradeLaw", name := "restore", desc := "(LHorsehairTrade;[J)I" } : Jvm.MethodName)) ∈ lw_all := lw_g (lw_at lw_m10 54 rfl) rfl
theorem q2281 : (Jvm.Cond.static ({ cls := "HorsehairTradeLaw", name := "restore", desc := "(LHorsehairTrade;[J)I" } : Jvm.MethodName)) ∈ lw_all := lw_g (lw_at lw_m10 55 rfl) rfl
theorem q2282 : (Jvm.Cond.codeWith ({ cls := "HorsehairTradeLaw", name := "restore", desc := "(LHorsehairTrade;[J)I" } : Jvm.MethodName) method_35_code (3 : Nat) (Option.some Jvm.ClassFile.FieldType.int) [((0 : Nat), (8 : Nat), (11 : Nat), (93 : Nat))]) ∈ lw_all := lw_g (lw_at lw_m10 56 rfl) rfl
theorem q2283 : (Jvm.Cond.methodLink "HorsehairTradeLaw" (125 : Nat) ({ cls := "HorsehairTrade", name := "restore", desc := "()I" } : Jvm.MethodName)) ∈ lw_all := lw_g (lw_at lw_m10 57 rfl) rfl
theorem q2298 : (Jvm.Cond.classLink "HorsehairTradeLaw" (129 : Nat) "HorsehairTradeModel") ∈ lw_all := lw_g (lw_at lw_m10 72 rfl) rfl
theorem q2300 : (Jvm.Cond.methodLink "HorsehairTradeLaw" (131 : Nat) ({ cls := "HorsehairTradeModel", name := "<init>", desc := "()V" } : Jvm.MethodName)) ∈ lw_all := lw_g (lw_at lw_m10 74 rfl) rfl
theorem q2378 : (Jvm.Cond.methodLink "HorsehairTradeLaw" (138 : Nat) ({ cls := "HorsehairTradeModel", name := "thrown", desc := "()I" } : Jvm.MethodName)) ∈ lw_all := lw_g (lw_at lw_m10 152 rfl) rfl
theorem q2382 : (Jvm.Cond.methodLink "HorsehairTradeLaw" (137 : Nat) ({ cls := "HorsehairTradeModel", name := "tail", desc := "(III)I" } : Jvm.MethodName)) ∈ lw_all := lw_g (lw_at lw_m10 156 rfl) rfl
theorem q2419 : (Jvm.Cond.methodLink "HorsehairTradeLaw" (144 : Nat) ({ cls := "HorsehairTradeModel", name := "comb", desc := "(II)I" } : Jvm.MethodName)) ∈ lw_all := lw_g (lw_at lw_m10 193 rfl) rfl
theorem q2441 : (Jvm.Cond.methodLink "HorsehairTradeLaw" (147 : Nat) ({ cls := "HorsehairTradeModel", name := "tie", desc := "(II)I" } : Jvm.MethodName)) ∈ lw_all := lw_g (lw_at lw_m10 215 rfl) rfl
theorem q2464 : (Jvm.Cond.methodLink "HorsehairTradeLaw" (150 : Nat) ({ cls := "HorsehairTradeModel", name := "weave", desc := "(II)I" } : Jvm.MethodName)) ∈ lw_all := lw_g (lw_at lw_m10 238 rfl) rfl
theorem q2479 : (Jvm.Cond.methodLink "HorsehairTradeLaw" (154 : Nat) ({ cls := "HorsehairTradeModel", name := "bow", desc := "(I)I" } : Jvm.MethodName)) ∈ lw_all := lw_g (lw_at lw_m11 13 rfl) rfl
theorem q2486 : (Jvm.Cond.methodLink "HorsehairTradeLaw" (157 : Nat) ({ cls := "HorsehairTradeModel", name := "hair", desc := "(II)I" } : Jvm.MethodName)) ∈ lw_all := lw_g (lw_at lw_m11 20 rfl) rfl
theorem q2512 : (Jvm.Cond.methodLink "HorsehairTradeLaw" (160 : Nat) ({ cls := "HorsehairTradeModel", name := "cake", desc := "(I)I" } : Jvm.MethodName)) ∈ lw_all := lw_g (lw_at lw_m11 46 rfl) rfl
theorem q2516 : (Jvm.Cond.methodLink "HorsehairTradeLaw" (163 : Nat) ({ cls := "HorsehairTradeModel", name := "rosin", desc := "(II)I" } : Jvm.MethodName)) ∈ lw_all := lw_g (lw_at lw_m11 50 rfl) rfl
theorem q2528 : (Jvm.Cond.methodLink "HorsehairTradeLaw" (166 : Nat) ({ cls := "HorsehairTradeModel", name := "play", desc := "(II)I" } : Jvm.MethodName)) ∈ lw_all := lw_g (lw_at lw_m11 62 rfl) rfl
theorem q2539 : (Jvm.Cond.methodLink "HorsehairTradeLaw" (169 : Nat) ({ cls := "HorsehairTradeModel", name := "road", desc := "(II)I" } : Jvm.MethodName)) ∈ lw_all := lw_g (lw_at lw_m11 73 rfl) rfl
theorem q2546 : (Jvm.Cond.methodLink "HorsehairTradeLaw" (172 : Nat) ({ cls := "HorsehairTradeModel", name := "walk", desc := "(I)I" } : Jvm.MethodName)) ∈ lw_all := lw_g (lw_at lw_m11 80 rfl) rfl
theorem q2554 : (Jvm.Cond.methodLink "HorsehairTradeLaw" (175 : Nat) ({ cls := "HorsehairTradeModel", name := "sell", desc := "(I)I" } : Jvm.MethodName)) ∈ lw_all := lw_g (lw_at lw_m11 88 rfl) rfl
theorem q2566 : (Jvm.Cond.methodLink "HorsehairTradeLaw" (178 : Nat) ({ cls := "HorsehairTradeModel", name := "paid", desc := "(I)I" } : Jvm.MethodName)) ∈ lw_all := lw_g (lw_at lw_m11 100 rfl) rfl
theorem q2570 : (Jvm.Cond.methodLink "HorsehairTradeLaw" (181 : Nat) ({ cls := "HorsehairTradeModel", name := "tailOf", desc := "(II)I" } : Jvm.MethodName)) ∈ lw_all := lw_g (lw_at lw_m11 104 rfl) rfl
theorem q2578 : (Jvm.Cond.methodLink "HorsehairTradeLaw" (184 : Nat) ({ cls := "HorsehairTradeModel", name := "hankOf", desc := "(II)I" } : Jvm.MethodName)) ∈ lw_all := lw_g (lw_at lw_m11 112 rfl) rfl
theorem q2582 : (Jvm.Cond.methodLink "HorsehairTradeLaw" (187 : Nat) ({ cls := "HorsehairTradeModel", name := "bowOf", desc := "(II)I" } : Jvm.MethodName)) ∈ lw_all := lw_g (lw_at lw_m11 116 rfl) rfl
theorem q2586 : (Jvm.Cond.methodLink "HorsehairTradeLaw" (190 : Nat) ({ cls := "HorsehairTradeModel", name := "cakeOf", desc := "(I)I" } : Jvm.MethodName)) ∈ lw_all := lw_g (lw_at lw_m11 120 rfl) rfl
theorem q2590 : (Jvm.Cond.methodLink "HorsehairTradeLaw" (193 : Nat) ({ cls := "HorsehairTradeModel", name := "sieves", desc := "(I)I" } : Jvm.MethodName)) ∈ lw_all := lw_g (lw_at lw_m11 124 rfl) rfl
theorem q2594 : (Jvm.Cond.methodLink "HorsehairTradeLaw" (196 : Nat) ({ cls := "HorsehairTradeModel", name := "bestHank", desc := "(I)I" } : Jvm.MethodName)) ∈ lw_all := lw_g (lw_at lw_m11 128 rfl) rfl
theorem q2602 : (Jvm.Cond.methodLink "HorsehairTradeLaw" (199 : Nat) ({ cls := "HorsehairTradeModel", name := "bestAgain", desc := "(I)I" } : Jvm.MethodName)) ∈ lw_all := lw_g (lw_at lw_m11 136 rfl) rfl
theorem q2610 : (Jvm.Cond.methodLink "HorsehairTradeLaw" (202 : Nat) ({ cls := "HorsehairTradeModel", name := "goodFor", desc := "(I)I" } : Jvm.MethodName)) ∈ lw_all := lw_g (lw_at lw_m11 144 rfl) rfl
theorem q2614 : (Jvm.Cond.methodLink "HorsehairTradeLaw" (205 : Nat) ({ cls := "HorsehairTradeModel", name := "hoursLeft", desc := "(I)I" } : Jvm.MethodName)) ∈ lw_all := lw_g (lw_at lw_m11 148 rfl) rfl
theorem q2618 : (Jvm.Cond.methodLink "HorsehairTradeLaw" (208 : Nat) ({ cls := "HorsehairTradeModel", name := "daysTo", desc := "(I)I" } : Jvm.MethodName)) ∈ lw_all := lw_g (lw_at lw_m11 152 rfl) rfl
theorem q2622 : (Jvm.Cond.methodLink "HorsehairTradeLaw" (212 : Nat) ({ cls := "HorsehairTradeModel", name := "fairs", desc := "()I" } : Jvm.MethodName)) ∈ lw_all := lw_g (lw_at lw_m11 156 rfl) rfl
theorem q2626 : (Jvm.Cond.methodLink "HorsehairTradeLaw" (217 : Nat) ({ cls := "HorsehairTradeModel", name := "worth", desc := "(Z)I" } : Jvm.MethodName)) ∈ lw_all := lw_g (lw_at lw_m11 160 rfl) rfl
theorem q2630 : (Jvm.Cond.methodLink "HorsehairTradeLaw" (221 : Nat) ({ cls := "HorsehairTradeModel", name := "feed", desc := "(C)I" } : Jvm.MethodName)) ∈ lw_all := lw_g (lw_at lw_m11 164 rfl) rfl
theorem q2634 : (Jvm.Cond.methodLink "HorsehairTradeLaw" (225 : Nat) ({ cls := "HorsehairTradeModel", name := "run", desc := "()I" } : Jvm.MethodName)) ∈ lw_all := lw_g (lw_at lw_m11 168 rfl) rfl
theorem q2675 : (Jvm.Cond.methodLink "HorsehairTradeLaw" (228 : Nat) ({ cls := "HorsehairTradeModel", name := "faultPosition", desc := "()I" } : Jvm.MethodName)) ∈ lw_all := lw_g (lw_at lw_m11 209 rfl) rfl
theorem q2679 : (Jvm.Cond.methodLink "HorsehairTradeLaw" (231 : Nat) ({ cls := "HorsehairTradeModel", name := "reason", desc := "(I)I" } : Jvm.MethodName)) ∈ lw_all := lw_g (lw_at lw_m11 213 rfl) rfl
theorem q2683 : (Jvm.Cond.methodLink "HorsehairTradeLaw" (235 : Nat) ({ cls := "HorsehairTradeModel", name := "line", desc := "()I" } : Jvm.MethodName)) ∈ lw_all := lw_g (lw_at lw_m11 217 rfl) rfl
theorem q2695 : (Jvm.Cond.methodLink "HorsehairTradeLaw" (238 : Nat) ({ cls := "HorsehairTradeModel", name := "character", desc := "(I)C" } : Jvm.MethodName)) ∈ lw_all := lw_g (lw_at lw_m11 229 rfl) rfl
theorem q2699 : (Jvm.Cond.methodLink "HorsehairTradeLaw" (242 : Nat) ({ cls := "HorsehairTradeModel", name := "meanLength", desc := "()D" } : Jvm.MethodName)) ∈ lw_all := lw_g (lw_at lw_m11 233 rfl) rfl
theorem q2707 : (Jvm.Cond.methodLink "HorsehairTradeLaw" (245 : Nat) ({ cls := "HorsehairTradeModel", name := "lostShare", desc := "()F" } : Jvm.MethodName)) ∈ lw_all := lw_g (lw_at lw_m12 1 rfl) rfl
theorem q2711 : (Jvm.Cond.methodLink "HorsehairTradeLaw" (248 : Nat) ({ cls := "HorsehairTradeModel", name := "account", desc := "(I)I" } : Jvm.MethodName)) ∈ lw_all := lw_g (lw_at lw_m12 5 rfl) rfl
theorem q2731 : (Jvm.Cond.methodLink "HorsehairTradeLaw" (252 : Nat) ({ cls := "HorsehairTradeModel", name := "hairsAgain", desc := "()I" } : Jvm.MethodName)) ∈ lw_all := lw_g (lw_at lw_m12 25 rfl) rfl
theorem q2735 : (Jvm.Cond.methodLink "HorsehairTradeLaw" (255 : Nat) ({ cls := "HorsehairTradeModel", name := "undo", desc := "()I" } : Jvm.MethodName)) ∈ lw_all := lw_g (lw_at lw_m12 29 rfl) rfl
theorem q2739 : (Jvm.Cond.methodLink "HorsehairTradeLaw" (259 : Nat) ({ cls := "HorsehairTradeModel", name := "save", desc := "()I" } : Jvm.MethodName)) ∈ lw_all := lw_g (lw_at lw_m12 33 rfl) rfl
theorem q2743 : (Jvm.Cond.methodLink "HorsehairTradeLaw" (262 : Nat) ({ cls := "HorsehairTradeModel", name := "restore", desc := "()I" } : Jvm.MethodName)) ∈ lw_all := lw_g (lw_at lw_m12 37 rfl) rfl
/-! HorsehairTrade -/
set_option maxRecDepth 100000
def RX1 : String := "HorsehairTrade"
def TX1 : u_T := fun k => match k with
  | 0 => ("HorsehairTrade", "now", "LHorsehairTrade$Trade;", false)
  | 1 => ("HorsehairTrade", "saved", "LHorsehairTrade$Trade;", false)
  | 2 => ("HorsehairTrade", "earlier", "Ljava/util/Deque;", true)
  | 3 => ("HorsehairTrade", "tape", "Ljava/lang/StringBuilder;", true)
  | 4 => ("HorsehairTrade", "line", "Ljava/lang/String;", false)
  | 5 => ("HorsehairTrade", "faultPosition", "I", false)
  | 6 => ("HorsehairTrade", "latest", "LHorsehairTrade$Refused;", false)
  | _ => ("HorsehairTrade", "latestPlace", "I", false)
def tyX1 : Nat → FieldType := fun k => match k with
  | 0 => .object "HorsehairTrade$Trade"
  | 1 => .object "HorsehairTrade$Trade"
  | 2 => .object "java/util/Deque"
  | 3 => .object "java/lang/StringBuilder"
  | 4 => .object "java/lang/String"
  | 5 => .int
  | 6 => .object "HorsehairTrade$Refused"
  | _ => .int
abbrev wsX10 : List Cond := u_ws RX1 TX1 8
theorem nmX1 : ∀ a, a < 8 → ∀ b, b < 8 → a ≠ b → (TX1 a).2.1 ≠ (TX1 b).2.1 := by decide +kernel
theorem tyX1_ok : ∀ k, k < 8 → parseFieldDescriptor (TX1 k).2.2.1 = some (tyX1 k) := by decide +kernel
abbrev cX1_init : ByteArray := prog_1_method_10_code
def yX1_init : MethodName := ⟨RX1, "<init>", "()V"⟩
def dkwX1_init_2 : List UInt8 := [181, 0, 88, 177]
abbrev dktX1_init_2 : List UInt8 := dkwX1_init_2 ++ []
def dkwX1_init_1 : List UInt8 := [181, 0, 71, 42, 187, 0, 75, 89, 183, 0, 77, 181, 0, 78, 42, 18, 82, 181, 0, 84, 42, 2]
abbrev dktX1_init_1 : List UInt8 := dkwX1_init_1 ++ dktX1_init_2
def dkwX1_init_0 : List UInt8 := [42, 183, 0, 58, 42, 187, 0, 61, 89, 183, 0, 63, 181, 0, 64, 42, 187, 0, 68, 89, 183, 0, 70]
abbrev dktX1_init_0 : List UInt8 := dkwX1_init_0 ++ dktX1_init_1
theorem dksX1_init_0 : cX1_init.data.toList.drop 0 = dktX1_init_0 := by decide +kernel
theorem dksX1_init_1 : cX1_init.data.toList.drop 23 = dktX1_init_1 := dk_seg dksX1_init_0 23 rfl rfl
theorem dksX1_init_2 : cX1_init.data.toList.drop 45 = dktX1_init_2 := dk_seg dksX1_init_1 22 rfl rfl
theorem dX1_init_0 : decode cX1_init 0 = .ok (.aload_n 0, 1) := dk_42 (dk_at dksX1_init_0 0 rfl rfl)
theorem dX1_init_1 : decode cX1_init 1 = .ok (.invokespecial 58, 3) := dk_183 0 58 (dk_at dksX1_init_0 1 rfl rfl)
theorem dX1_init_4 : decode cX1_init 4 = .ok (.aload_n 0, 1) := dk_42 (dk_at dksX1_init_0 4 rfl rfl)
theorem dX1_init_5 : decode cX1_init 5 = .ok (.new 61, 3) := dk_187 0 61 (dk_at dksX1_init_0 5 rfl rfl)
theorem dX1_init_8 : decode cX1_init 8 = .ok (.dup, 1) := dk_89 (dk_at dksX1_init_0 8 rfl rfl)
theorem dX1_init_9 : decode cX1_init 9 = .ok (.invokespecial 63, 3) := dk_183 0 63 (dk_at dksX1_init_0 9 rfl rfl)
theorem dX1_init_12 : decode cX1_init 12 = .ok (.putfield 64, 3) := dk_181 0 64 (dk_at dksX1_init_0 12 rfl rfl)
theorem dX1_init_15 : decode cX1_init 15 = .ok (.aload_n 0, 1) := dk_42 (dk_at dksX1_init_0 15 rfl rfl)
theorem dX1_init_16 : decode cX1_init 16 = .ok (.new 68, 3) := dk_187 0 68 (dk_at dksX1_init_0 16 rfl rfl)
theorem dX1_init_19 : decode cX1_init 19 = .ok (.dup, 1) := dk_89 (dk_at dksX1_init_0 19 rfl rfl)
theorem dX1_init_20 : decode cX1_init 20 = .ok (.invokespecial 70, 3) := dk_183 0 70 (dk_at dksX1_init_0 20 rfl rfl)
theorem dX1_init_23 : decode cX1_init 23 = .ok (.putfield 71, 3) := dk_181 0 71 (dk_at dksX1_init_1 0 rfl rfl)
theorem dX1_init_26 : decode cX1_init 26 = .ok (.aload_n 0, 1) := dk_42 (dk_at dksX1_init_1 3 rfl rfl)
theorem dX1_init_27 : decode cX1_init 27 = .ok (.new 75, 3) := dk_187 0 75 (dk_at dksX1_init_1 4 rfl rfl)
theorem dX1_init_30 : decode cX1_init 30 = .ok (.dup, 1) := dk_89 (dk_at dksX1_init_1 7 rfl rfl)
theorem dX1_init_31 : decode cX1_init 31 = .ok (.invokespecial 77, 3) := dk_183 0 77 (dk_at dksX1_init_1 8 rfl rfl)
theorem dX1_init_34 : decode cX1_init 34 = .ok (.putfield 78, 3) := dk_181 0 78 (dk_at dksX1_init_1 11 rfl rfl)
theorem dX1_init_37 : decode cX1_init 37 = .ok (.aload_n 0, 1) := dk_42 (dk_at dksX1_init_1 14 rfl rfl)
theorem dX1_init_38 : decode cX1_init 38 = .ok (.ldc 82, 2) := dk_18 82 (dk_at dksX1_init_1 15 rfl rfl)
theorem dX1_init_40 : decode cX1_init 40 = .ok (.putfield 84, 3) := dk_181 0 84 (dk_at dksX1_init_1 17 rfl rfl)
theorem dX1_init_43 : decode cX1_init 43 = .ok (.aload_n 0, 1) := dk_42 (dk_at dksX1_init_1 20 rfl rfl)
theorem dX1_init_44 : decode cX1_init 44 = .ok (.iconst (-1), 1) := dk_2 (dk_at dksX1_init_1 21 rfl rfl)
theorem dX1_init_45 : decode cX1_init 45 = .ok (.putfield 88, 3) := dk_181 0 88 (dk_at dksX1_init_2 0 rfl rfl)
theorem dX1_init_48 : decode cX1_init 48 = .ok (.return_, 1) := dk_177 (dk_at dksX1_init_2 3 rfl rfl)
abbrev cX1_fairs : ByteArray := prog_1_method_38_code
def yX1_fairs : MethodName := ⟨RX1, "fairs", "()I"⟩
def dkwX1_fairs_3 : List UInt8 := [27, 172]
abbrev dktX1_fairs_3 : List UInt8 := dkwX1_fairs_3 ++ []
def dkwX1_fairs_2 : List UInt8 := [27, 29, 28, 184, 1, 22, 153, 0, 9, 4, 28, 120, 167, 0, 4, 3, 128, 60, 132, 4, 1, 167, 255, 209]
abbrev dktX1_fairs_2 : List UInt8 := dkwX1_fairs_2 ++ dktX1_fairs_3
def dkwX1_fairs_1 : List UInt8 := [16, 6, 162, 0, 46, 29, 42, 180, 0, 64, 180, 1, 16, 28, 46, 96, 62, 28, 4, 96, 16, 6, 112, 61]
abbrev dktX1_fairs_1 : List UInt8 := dkwX1_fairs_1 ++ dktX1_fairs_2
def dkwX1_fairs_0 : List UInt8 := [3, 60, 42, 180, 0, 64, 180, 1, 13, 61, 42, 180, 0, 64, 180, 1, 19, 62, 3, 54, 4, 21, 4]
abbrev dktX1_fairs_0 : List UInt8 := dkwX1_fairs_0 ++ dktX1_fairs_1
theorem dksX1_fairs_0 : cX1_fairs.data.toList.drop 0 = dktX1_fairs_0 := by decide +kernel
theorem dksX1_fairs_1 : cX1_fairs.data.toList.drop 23 = dktX1_fairs_1 := dk_seg dksX1_fairs_0 23 rfl rfl
theorem dksX1_fairs_2 : cX1_fairs.data.toList.drop 47 = dktX1_fairs_2 := dk_seg dksX1_fairs_1 24 rfl rfl
theorem dksX1_fairs_3 : cX1_fairs.data.toList.drop 71 = dktX1_fairs_3 := dk_seg dksX1_fairs_2 24 rfl rfl
theorem dX1_fairs_0 : decode cX1_fairs 0 = .ok (.iconst 0, 1) := dk_3 (dk_at dksX1_fairs_0 0 rfl rfl)
theorem dX1_fairs_1 : decode cX1_fairs 1 = .ok (.istore_n 1, 1) := dk_60 (dk_at dksX1_fairs_0 1 rfl rfl)
theorem dX1_fairs_2 : decode cX1_fairs 2 = .ok (.aload_n 0, 1) := dk_42 (dk_at dksX1_fairs_0 2 rfl rfl)
theorem dX1_fairs_3 : decode cX1_fairs 3 = .ok (.getfield 64, 3) := dk_180 0 64 (dk_at dksX1_fairs_0 3 rfl rfl)
theorem dX1_fairs_6 : decode cX1_fairs 6 = .ok (.getfield 269, 3) := dk_180 1 13 (dk_at dksX1_fairs_0 6 rfl rfl)
theorem dX1_fairs_9 : decode cX1_fairs 9 = .ok (.istore_n 2, 1) := dk_61 (dk_at dksX1_fairs_0 9 rfl rfl)
theorem dX1_fairs_10 : decode cX1_fairs 10 = .ok (.aload_n 0, 1) := dk_42 (dk_at dksX1_fairs_0 10 rfl rfl)
theorem dX1_fairs_11 : decode cX1_fairs 11 = .ok (.getfield 64, 3) := dk_180 0 64 (dk_at dksX1_fairs_0 11 rfl rfl)
theorem dX1_fairs_14 : decode cX1_fairs 14 = .ok (.getfield 275, 3) := dk_180 1 19 (dk_at dksX1_fairs_0 14 rfl rfl)
theorem dX1_fairs_17 : decode cX1_fairs 17 = .ok (.istore_n 3, 1) := dk_62 (dk_at dksX1_fairs_0 17 rfl rfl)
theorem dX1_fairs_18 : decode cX1_fairs 18 = .ok (.iconst 0, 1) := dk_3 (dk_at dksX1_fairs_0 18 rfl rfl)
theorem dX1_fairs_19 : decode cX1_fairs 19 = .ok (.istore 4, 2) := dk_54 4 (dk_at dksX1_fairs_0 19 rfl rfl)
theorem dX1_fairs_21 : decode cX1_fairs 21 = .ok (.iload 4, 2) := dk_21 4 (dk_at dksX1_fairs_0 21 rfl rfl)
theorem dX1_fairs_23 : decode cX1_fairs 23 = .ok (.bipush 6, 2) := dk_16 6 (dk_at dksX1_fairs_1 0 rfl rfl)
theorem dX1_fairs_25 : decode cX1_fairs 25 = .ok (.if_icmp .ge 46, 3) := dk_162 0 46 (dk_at dksX1_fairs_1 2 rfl rfl)
theorem dX1_fairs_28 : decode cX1_fairs 28 = .ok (.iload_n 3, 1) := dk_29 (dk_at dksX1_fairs_1 5 rfl rfl)
theorem dX1_fairs_29 : decode cX1_fairs 29 = .ok (.aload_n 0, 1) := dk_42 (dk_at dksX1_fairs_1 6 rfl rfl)
theorem dX1_fairs_30 : decode cX1_fairs 30 = .ok (.getfield 64, 3) := dk_180 0 64 (dk_at dksX1_fairs_1 7 rfl rfl)
theorem dX1_fairs_33 : decode cX1_fairs 33 = .ok (.getfield 272, 3) := dk_180 1 16 (dk_at dksX1_fairs_1 10 rfl rfl)
theorem dX1_fairs_36 : decode cX1_fairs 36 = .ok (.iload_n 2, 1) := dk_28 (dk_at dksX1_fairs_1 13 rfl rfl)
theorem dX1_fairs_37 : decode cX1_fairs 37 = .ok (.iaload, 1) := dk_46 (dk_at dksX1_fairs_1 14 rfl rfl)
theorem dX1_fairs_38 : decode cX1_fairs 38 = .ok (.iadd, 1) := dk_96 (dk_at dksX1_fairs_1 15 rfl rfl)
theorem dX1_fairs_39 : decode cX1_fairs 39 = .ok (.istore_n 3, 1) := dk_62 (dk_at dksX1_fairs_1 16 rfl rfl)
theorem dX1_fairs_40 : decode cX1_fairs 40 = .ok (.iload_n 2, 1) := dk_28 (dk_at dksX1_fairs_1 17 rfl rfl)
theorem dX1_fairs_41 : decode cX1_fairs 41 = .ok (.iconst 1, 1) := dk_4 (dk_at dksX1_fairs_1 18 rfl rfl)
theorem dX1_fairs_42 : decode cX1_fairs 42 = .ok (.iadd, 1) := dk_96 (dk_at dksX1_fairs_1 19 rfl rfl)
theorem dX1_fairs_43 : decode cX1_fairs 43 = .ok (.bipush 6, 2) := dk_16 6 (dk_at dksX1_fairs_1 20 rfl rfl)
theorem dX1_fairs_45 : decode cX1_fairs 45 = .ok (.irem, 1) := dk_112 (dk_at dksX1_fairs_1 22 rfl rfl)
theorem dX1_fairs_46 : decode cX1_fairs 46 = .ok (.istore_n 2, 1) := dk_61 (dk_at dksX1_fairs_1 23 rfl rfl)
theorem dX1_fairs_47 : decode cX1_fairs 47 = .ok (.iload_n 1, 1) := dk_27 (dk_at dksX1_fairs_2 0 rfl rfl)
theorem dX1_fairs_48 : decode cX1_fairs 48 = .ok (.iload_n 3, 1) := dk_29 (dk_at dksX1_fairs_2 1 rfl rfl)
theorem dX1_fairs_49 : decode cX1_fairs 49 = .ok (.iload_n 2, 1) := dk_28 (dk_at dksX1_fairs_2 2 rfl rfl)
theorem dX1_fairs_50 : decode cX1_fairs 50 = .ok (.invokestatic 278, 3) := dk_184 1 22 (dk_at dksX1_fairs_2 3 rfl rfl)
theorem dX1_fairs_53 : decode cX1_fairs 53 = .ok (.ifCond .eq 9, 3) := dk_153 0 9 (dk_at dksX1_fairs_2 6 rfl rfl)
theorem dX1_fairs_56 : decode cX1_fairs 56 = .ok (.iconst 1, 1) := dk_4 (dk_at dksX1_fairs_2 9 rfl rfl)
theorem dX1_fairs_57 : decode cX1_fairs 57 = .ok (.iload_n 2, 1) := dk_28 (dk_at dksX1_fairs_2 10 rfl rfl)
theorem dX1_fairs_58 : decode cX1_fairs 58 = .ok (.ishl, 1) := dk_120 (dk_at dksX1_fairs_2 11 rfl rfl)
theorem dX1_fairs_59 : decode cX1_fairs 59 = .ok (.goto 4, 3) := dk_167 0 4 (dk_at dksX1_fairs_2 12 rfl rfl)
theorem dX1_fairs_62 : decode cX1_fairs 62 = .ok (.iconst 0, 1) := dk_3 (dk_at dksX1_fairs_2 15 rfl rfl)
theorem dX1_fairs_63 : decode cX1_fairs 63 = .ok (.ior, 1) := dk_128 (dk_at dksX1_fairs_2 16 rfl rfl)
theorem dX1_fairs_64 : decode cX1_fairs 64 = .ok (.istore_n 1, 1) := dk_60 (dk_at dksX1_fairs_2 17 rfl rfl)
theorem dX1_fairs_65 : decode cX1_fairs 65 = .ok (.iinc 4 1, 3) := dk_132 4 1 (dk_at dksX1_fairs_2 18 rfl rfl)
theorem dX1_fairs_68 : decode cX1_fairs 68 = .ok (.goto (-47), 3) := dk_167 255 209 (dk_at dksX1_fairs_2 21 rfl rfl)
theorem dX1_fairs_71 : decode cX1_fairs 71 = .ok (.iload_n 1, 1) := dk_27 (dk_at dksX1_fairs_3 0 rfl rfl)
theorem dX1_fairs_72 : decode cX1_fairs 72 = .ok (.ireturn, 1) := dk_172 (dk_at dksX1_fairs_3 1 rfl rfl)
abbrev cX1_worth : ByteArray := prog_1_method_39_code
def yX1_worth : MethodName := ⟨RX1, "worth", "(Z)I"⟩
def dkwX1_worth_1 : List UInt8 := [96, 61, 132, 3, 1, 167, 255, 231, 27, 153, 0, 9, 5, 28, 104, 167, 0, 4, 28, 172]
abbrev dktX1_worth_1 : List UInt8 := dkwX1_worth_1 ++ []
def dkwX1_worth_0 : List UInt8 := [3, 61, 4, 62, 29, 16, 9, 163, 0, 25, 28, 42, 180, 0, 64, 180, 0, 242, 29, 46, 6, 29, 96, 104]
abbrev dktX1_worth_0 : List UInt8 := dkwX1_worth_0 ++ dktX1_worth_1
theorem dksX1_worth_0 : cX1_worth.data.toList.drop 0 = dktX1_worth_0 := by decide +kernel
theorem dksX1_worth_1 : cX1_worth.data.toList.drop 24 = dktX1_worth_1 := dk_seg dksX1_worth_0 24 rfl rfl
theorem dX1_worth_0 : decode cX1_worth 0 = .ok (.iconst 0, 1) := dk_3 (dk_at dksX1_worth_0 0 rfl rfl)
theorem dX1_worth_1 : decode cX1_worth 1 = .ok (.istore_n 2, 1) := dk_61 (dk_at dksX1_worth_0 1 rfl rfl)
theorem dX1_worth_2 : decode cX1_worth 2 = .ok (.iconst 1, 1) := dk_4 (dk_at dksX1_worth_0 2 rfl rfl)
theorem dX1_worth_3 : decode cX1_worth 3 = .ok (.istore_n 3, 1) := dk_62 (dk_at dksX1_worth_0 3 rfl rfl)
theorem dX1_worth_4 : decode cX1_worth 4 = .ok (.iload_n 3, 1) := dk_29 (dk_at dksX1_worth_0 4 rfl rfl)
theorem dX1_worth_5 : decode cX1_worth 5 = .ok (.bipush 9, 2) := dk_16 9 (dk_at dksX1_worth_0 5 rfl rfl)
theorem dX1_worth_7 : decode cX1_worth 7 = .ok (.if_icmp .gt 25, 3) := dk_163 0 25 (dk_at dksX1_worth_0 7 rfl rfl)
theorem dX1_worth_10 : decode cX1_worth 10 = .ok (.iload_n 2, 1) := dk_28 (dk_at dksX1_worth_0 10 rfl rfl)
theorem dX1_worth_11 : decode cX1_worth 11 = .ok (.aload_n 0, 1) := dk_42 (dk_at dksX1_worth_0 11 rfl rfl)
theorem dX1_worth_12 : decode cX1_worth 12 = .ok (.getfield 64, 3) := dk_180 0 64 (dk_at dksX1_worth_0 12 rfl rfl)
theorem dX1_worth_15 : decode cX1_worth 15 = .ok (.getfield 242, 3) := dk_180 0 242 (dk_at dksX1_worth_0 15 rfl rfl)
theorem dX1_worth_18 : decode cX1_worth 18 = .ok (.iload_n 3, 1) := dk_29 (dk_at dksX1_worth_0 18 rfl rfl)
theorem dX1_worth_19 : decode cX1_worth 19 = .ok (.iaload, 1) := dk_46 (dk_at dksX1_worth_0 19 rfl rfl)
theorem dX1_worth_20 : decode cX1_worth 20 = .ok (.iconst 3, 1) := dk_6 (dk_at dksX1_worth_0 20 rfl rfl)
theorem dX1_worth_21 : decode cX1_worth 21 = .ok (.iload_n 3, 1) := dk_29 (dk_at dksX1_worth_0 21 rfl rfl)
theorem dX1_worth_22 : decode cX1_worth 22 = .ok (.iadd, 1) := dk_96 (dk_at dksX1_worth_0 22 rfl rfl)
theorem dX1_worth_23 : decode cX1_worth 23 = .ok (.imul, 1) := dk_104 (dk_at dksX1_worth_0 23 rfl rfl)
theorem dX1_worth_24 : decode cX1_worth 24 = .ok (.iadd, 1) := dk_96 (dk_at dksX1_worth_1 0 rfl rfl)
theorem dX1_worth_25 : decode cX1_worth 25 = .ok (.istore_n 2, 1) := dk_61 (dk_at dksX1_worth_1 1 rfl rfl)
theorem dX1_worth_26 : decode cX1_worth 26 = .ok (.iinc 3 1, 3) := dk_132 3 1 (dk_at dksX1_worth_1 2 rfl rfl)
theorem dX1_worth_29 : decode cX1_worth 29 = .ok (.goto (-25), 3) := dk_167 255 231 (dk_at dksX1_worth_1 5 rfl rfl)
theorem dX1_worth_32 : decode cX1_worth 32 = .ok (.iload_n 1, 1) := dk_27 (dk_at dksX1_worth_1 8 rfl rfl)
theorem dX1_worth_33 : decode cX1_worth 33 = .ok (.ifCond .eq 9, 3) := dk_153 0 9 (dk_at dksX1_worth_1 9 rfl rfl)
theorem dX1_worth_36 : decode cX1_worth 36 = .ok (.iconst 2, 1) := dk_5 (dk_at dksX1_worth_1 12 rfl rfl)
theorem dX1_worth_37 : decode cX1_worth 37 = .ok (.iload_n 2, 1) := dk_28 (dk_at dksX1_worth_1 13 rfl rfl)
theorem dX1_worth_38 : decode cX1_worth 38 = .ok (.imul, 1) := dk_104 (dk_at dksX1_worth_1 14 rfl rfl)
theorem dX1_worth_39 : decode cX1_worth 39 = .ok (.goto 4, 3) := dk_167 0 4 (dk_at dksX1_worth_1 15 rfl rfl)
theorem dX1_worth_42 : decode cX1_worth 42 = .ok (.iload_n 2, 1) := dk_28 (dk_at dksX1_worth_1 18 rfl rfl)
theorem dX1_worth_43 : decode cX1_worth 43 = .ok (.ireturn, 1) := dk_172 (dk_at dksX1_worth_1 19 rfl rfl)
abbrev cX1_line : ByteArray := prog_1_method_45_code
def yX1_line : MethodName := ⟨RX1, "line", "()I"⟩
def dkwX1_line_3 : List UInt8 := [181, 0, 84, 42, 180, 0, 84, 182, 1, 78, 172]
abbrev dktX1_line_3 : List UInt8 := dkwX1_line_3 ++ []
def dkwX1_line_2 : List UInt8 := [182, 0, 174, 192, 0, 203, 182, 1, 75, 182, 1, 72, 87, 132, 2, 1, 167, 255, 202, 42, 43, 182, 1, 37]
abbrev dktX1_line_2 : List UInt8 := dkwX1_line_2 ++ dktX1_line_3
def dkwX1_line_1 : List UInt8 := [43, 28, 154, 0, 8, 18, 82, 167, 0, 6, 19, 1, 70, 182, 1, 72, 42, 180, 0, 64, 180, 0, 201, 28]
abbrev dktX1_line_1 : List UInt8 := dkwX1_line_1 ++ dktX1_line_2
def dkwX1_line_0 : List UInt8 := [187, 0, 75, 89, 183, 0, 77, 76, 3, 61, 28, 42, 180, 0, 64, 180, 0, 201, 182, 1, 69, 162, 0, 46]
abbrev dktX1_line_0 : List UInt8 := dkwX1_line_0 ++ dktX1_line_1
theorem dksX1_line_0 : cX1_line.data.toList.drop 0 = dktX1_line_0 := by decide +kernel
theorem dksX1_line_1 : cX1_line.data.toList.drop 24 = dktX1_line_1 := dk_seg dksX1_line_0 24 rfl rfl
theorem dksX1_line_2 : cX1_line.data.toList.drop 48 = dktX1_line_2 := dk_seg dksX1_line_1 24 rfl rfl
theorem dksX1_line_3 : cX1_line.data.toList.drop 72 = dktX1_line_3 := dk_seg dksX1_line_2 24 rfl rfl
theorem dX1_line_0 : decode cX1_line 0 = .ok (.new 75, 3) := dk_187 0 75 (dk_at dksX1_line_0 0 rfl rfl)
theorem dX1_line_3 : decode cX1_line 3 = .ok (.dup, 1) := dk_89 (dk_at dksX1_line_0 3 rfl rfl)
theorem dX1_line_4 : decode cX1_line 4 = .ok (.invokespecial 77, 3) := dk_183 0 77 (dk_at dksX1_line_0 4 rfl rfl)
theorem dX1_line_7 : decode cX1_line 7 = .ok (.astore_n 1, 1) := dk_76 (dk_at dksX1_line_0 7 rfl rfl)
theorem dX1_line_8 : decode cX1_line 8 = .ok (.iconst 0, 1) := dk_3 (dk_at dksX1_line_0 8 rfl rfl)
theorem dX1_line_9 : decode cX1_line 9 = .ok (.istore_n 2, 1) := dk_61 (dk_at dksX1_line_0 9 rfl rfl)
theorem dX1_line_10 : decode cX1_line 10 = .ok (.iload_n 2, 1) := dk_28 (dk_at dksX1_line_0 10 rfl rfl)
theorem dX1_line_11 : decode cX1_line 11 = .ok (.aload_n 0, 1) := dk_42 (dk_at dksX1_line_0 11 rfl rfl)
theorem dX1_line_12 : decode cX1_line 12 = .ok (.getfield 64, 3) := dk_180 0 64 (dk_at dksX1_line_0 12 rfl rfl)
theorem dX1_line_15 : decode cX1_line 15 = .ok (.getfield 201, 3) := dk_180 0 201 (dk_at dksX1_line_0 15 rfl rfl)
theorem dX1_line_18 : decode cX1_line 18 = .ok (.invokevirtual 325, 3) := dk_182 1 69 (dk_at dksX1_line_0 18 rfl rfl)
theorem dX1_line_21 : decode cX1_line 21 = .ok (.if_icmp .ge 46, 3) := dk_162 0 46 (dk_at dksX1_line_0 21 rfl rfl)
theorem dX1_line_24 : decode cX1_line 24 = .ok (.aload_n 1, 1) := dk_43 (dk_at dksX1_line_1 0 rfl rfl)
theorem dX1_line_25 : decode cX1_line 25 = .ok (.iload_n 2, 1) := dk_28 (dk_at dksX1_line_1 1 rfl rfl)
theorem dX1_line_26 : decode cX1_line 26 = .ok (.ifCond .ne 8, 3) := dk_154 0 8 (dk_at dksX1_line_1 2 rfl rfl)
theorem dX1_line_29 : decode cX1_line 29 = .ok (.ldc 82, 2) := dk_18 82 (dk_at dksX1_line_1 5 rfl rfl)
theorem dX1_line_31 : decode cX1_line 31 = .ok (.goto 6, 3) := dk_167 0 6 (dk_at dksX1_line_1 7 rfl rfl)
theorem dX1_line_34 : decode cX1_line 34 = .ok (.ldc_w 326, 3) := dk_19 1 70 (dk_at dksX1_line_1 10 rfl rfl)
theorem dX1_line_37 : decode cX1_line 37 = .ok (.invokevirtual 328, 3) := dk_182 1 72 (dk_at dksX1_line_1 13 rfl rfl)
theorem dX1_line_40 : decode cX1_line 40 = .ok (.aload_n 0, 1) := dk_42 (dk_at dksX1_line_1 16 rfl rfl)
theorem dX1_line_41 : decode cX1_line 41 = .ok (.getfield 64, 3) := dk_180 0 64 (dk_at dksX1_line_1 17 rfl rfl)
theorem dX1_line_44 : decode cX1_line 44 = .ok (.getfield 201, 3) := dk_180 0 201 (dk_at dksX1_line_1 20 rfl rfl)
theorem dX1_line_47 : decode cX1_line 47 = .ok (.iload_n 2, 1) := dk_28 (dk_at dksX1_line_1 23 rfl rfl)
theorem dX1_line_48 : decode cX1_line 48 = .ok (.invokevirtual 174, 3) := dk_182 0 174 (dk_at dksX1_line_2 0 rfl rfl)
theorem dX1_line_51 : decode cX1_line 51 = .ok (.checkcast 203, 3) := dk_192 0 203 (dk_at dksX1_line_2 3 rfl rfl)
theorem dX1_line_54 : decode cX1_line 54 = .ok (.invokevirtual 331, 3) := dk_182 1 75 (dk_at dksX1_line_2 6 rfl rfl)
theorem dX1_line_57 : decode cX1_line 57 = .ok (.invokevirtual 328, 3) := dk_182 1 72 (dk_at dksX1_line_2 9 rfl rfl)
theorem dX1_line_60 : decode cX1_line 60 = .ok (.pop, 1) := dk_87 (dk_at dksX1_line_2 12 rfl rfl)
theorem dX1_line_61 : decode cX1_line 61 = .ok (.iinc 2 1, 3) := dk_132 2 1 (dk_at dksX1_line_2 13 rfl rfl)
theorem dX1_line_64 : decode cX1_line 64 = .ok (.goto (-54), 3) := dk_167 255 202 (dk_at dksX1_line_2 16 rfl rfl)
theorem dX1_line_67 : decode cX1_line 67 = .ok (.aload_n 0, 1) := dk_42 (dk_at dksX1_line_2 19 rfl rfl)
theorem dX1_line_68 : decode cX1_line 68 = .ok (.aload_n 1, 1) := dk_43 (dk_at dksX1_line_2 20 rfl rfl)
theorem dX1_line_69 : decode cX1_line 69 = .ok (.invokevirtual 293, 3) := dk_182 1 37 (dk_at dksX1_line_2 21 rfl rfl)
theorem dX1_line_72 : decode cX1_line 72 = .ok (.putfield 84, 3) := dk_181 0 84 (dk_at dksX1_line_3 0 rfl rfl)
theorem dX1_line_75 : decode cX1_line 75 = .ok (.aload_n 0, 1) := dk_42 (dk_at dksX1_line_3 3 rfl rfl)
theorem dX1_line_76 : decode cX1_line 76 = .ok (.getfield 84, 3) := dk_180 0 84 (dk_at dksX1_line_3 4 rfl rfl)
theorem dX1_line_79 : decode cX1_line 79 = .ok (.invokevirtual 334, 3) := dk_182 1 78 (dk_at dksX1_line_3 7 rfl rfl)
theorem dX1_line_82 : decode cX1_line 82 = .ok (.ireturn, 1) := dk_172 (dk_at dksX1_line_3 10 rfl rfl)
abbrev cX1_hairsAgain : ByteArray := prog_1_method_50_code
def yX1_hairsAgain : MethodName := ⟨RX1, "hairsAgain", "()I"⟩
def dkwX1_hairsAgain_0 : List UInt8 := [42, 180, 0, 64, 182, 1, 123, 172]
abbrev dktX1_hairsAgain_0 : List UInt8 := dkwX1_hairsAgain_0 ++ []
theorem dksX1_hairsAgain_0 : cX1_hairsAgain.data.toList.drop 0 = dktX1_hairsAgain_0 := by decide +kernel
theorem dX1_hairsAgain_0 : decode cX1_hairsAgain 0 = .ok (.aload_n 0, 1) := dk_42 (dk_at dksX1_hairsAgain_0 0 rfl rfl)
theorem dX1_hairsAgain_1 : decode cX1_hairsAgain 1 = .ok (.getfield 64, 3) := dk_180 0 64 (dk_at dksX1_hairsAgain_0 1 rfl rfl)
theorem dX1_hairsAgain_4 : decode cX1_hairsAgain 4 = .ok (.invokevirtual 379, 3) := dk_182 1 123 (dk_at dksX1_hairsAgain_0 4 rfl rfl)
theorem dX1_hairsAgain_7 : decode cX1_hairsAgain 7 = .ok (.ireturn, 1) := dk_172 (dk_at dksX1_hairsAgain_0 7 rfl rfl)
abbrev cX1_hairsOf : ByteArray := prog_1_method_8_code
def yX1_hairsOf : MethodName := ⟨RX1, "hairsOf", "(Ljava/util/List;)I"⟩
def dkwX1_hairsOf_1 : List UInt8 := [192, 0, 41, 185, 0, 43, 1, 0, 96, 60, 132, 2, 1, 167, 255, 225, 27, 172]
abbrev dktX1_hairsOf_1 : List UInt8 := dkwX1_hairsOf_1 ++ []
def dkwX1_hairsOf_0 : List UInt8 := [3, 60, 3, 61, 28, 42, 185, 0, 31, 1, 0, 162, 0, 27, 27, 42, 28, 185, 0, 37, 2, 0]
abbrev dktX1_hairsOf_0 : List UInt8 := dkwX1_hairsOf_0 ++ dktX1_hairsOf_1
theorem dksX1_hairsOf_0 : cX1_hairsOf.data.toList.drop 0 = dktX1_hairsOf_0 := by decide +kernel
theorem dksX1_hairsOf_1 : cX1_hairsOf.data.toList.drop 22 = dktX1_hairsOf_1 := dk_seg dksX1_hairsOf_0 22 rfl rfl
theorem dX1_hairsOf_0 : decode cX1_hairsOf 0 = .ok (.iconst 0, 1) := dk_3 (dk_at dksX1_hairsOf_0 0 rfl rfl)
theorem dX1_hairsOf_1 : decode cX1_hairsOf 1 = .ok (.istore_n 1, 1) := dk_60 (dk_at dksX1_hairsOf_0 1 rfl rfl)
theorem dX1_hairsOf_2 : decode cX1_hairsOf 2 = .ok (.iconst 0, 1) := dk_3 (dk_at dksX1_hairsOf_0 2 rfl rfl)
theorem dX1_hairsOf_3 : decode cX1_hairsOf 3 = .ok (.istore_n 2, 1) := dk_61 (dk_at dksX1_hairsOf_0 3 rfl rfl)
theorem dX1_hairsOf_4 : decode cX1_hairsOf 4 = .ok (.iload_n 2, 1) := dk_28 (dk_at dksX1_hairsOf_0 4 rfl rfl)
theorem dX1_hairsOf_5 : decode cX1_hairsOf 5 = .ok (.aload_n 0, 1) := dk_42 (dk_at dksX1_hairsOf_0 5 rfl rfl)
theorem dX1_hairsOf_6 : decode cX1_hairsOf 6 = .ok (.invokeinterface 31 1, 5) := by decide +kernel
theorem dX1_hairsOf_11 : decode cX1_hairsOf 11 = .ok (.if_icmp .ge 27, 3) := dk_162 0 27 (dk_at dksX1_hairsOf_0 11 rfl rfl)
theorem dX1_hairsOf_14 : decode cX1_hairsOf 14 = .ok (.iload_n 1, 1) := dk_27 (dk_at dksX1_hairsOf_0 14 rfl rfl)
theorem dX1_hairsOf_15 : decode cX1_hairsOf 15 = .ok (.aload_n 0, 1) := dk_42 (dk_at dksX1_hairsOf_0 15 rfl rfl)
theorem dX1_hairsOf_16 : decode cX1_hairsOf 16 = .ok (.iload_n 2, 1) := dk_28 (dk_at dksX1_hairsOf_0 16 rfl rfl)
theorem dX1_hairsOf_17 : decode cX1_hairsOf 17 = .ok (.invokeinterface 37 2, 5) := by decide +kernel
theorem dX1_hairsOf_22 : decode cX1_hairsOf 22 = .ok (.checkcast 41, 3) := dk_192 0 41 (dk_at dksX1_hairsOf_1 0 rfl rfl)
theorem dX1_hairsOf_25 : decode cX1_hairsOf 25 = .ok (.invokeinterface 43 1, 5) := by decide +kernel
theorem dX1_hairsOf_30 : decode cX1_hairsOf 30 = .ok (.iadd, 1) := dk_96 (dk_at dksX1_hairsOf_1 8 rfl rfl)
theorem dX1_hairsOf_31 : decode cX1_hairsOf 31 = .ok (.istore_n 1, 1) := dk_60 (dk_at dksX1_hairsOf_1 9 rfl rfl)
theorem dX1_hairsOf_32 : decode cX1_hairsOf 32 = .ok (.iinc 2 1, 3) := dk_132 2 1 (dk_at dksX1_hairsOf_1 10 rfl rfl)
theorem dX1_hairsOf_35 : decode cX1_hairsOf 35 = .ok (.goto (-31), 3) := dk_167 255 225 (dk_at dksX1_hairsOf_1 13 rfl rfl)
theorem dX1_hairsOf_38 : decode cX1_hairsOf 38 = .ok (.iload_n 1, 1) := dk_27 (dk_at dksX1_hairsOf_1 16 rfl rfl)
theorem dX1_hairsOf_39 : decode cX1_hairsOf 39 = .ok (.ireturn, 1) := dk_172 (dk_at dksX1_hairsOf_1 17 rfl rfl)
abbrev cX1_save : ByteArray := prog_1_method_52_code
def yX1_save : MethodName := ⟨RX1, "save", "()I"⟩
def dkwX1_save_0 : List UInt8 := [42, 42, 180, 0, 64, 181, 1, 130, 42, 180, 0, 64, 180, 1, 19, 172]
abbrev dktX1_save_0 : List UInt8 := dkwX1_save_0 ++ []
theorem dksX1_save_0 : cX1_save.data.toList.drop 0 = dktX1_save_0 := by decide +kernel
theorem dX1_save_0 : decode cX1_save 0 = .ok (.aload_n 0, 1) := dk_42 (dk_at dksX1_save_0 0 rfl rfl)
theorem dX1_save_1 : decode cX1_save 1 = .ok (.aload_n 0, 1) := dk_42 (dk_at dksX1_save_0 1 rfl rfl)
theorem dX1_save_2 : decode cX1_save 2 = .ok (.getfield 64, 3) := dk_180 0 64 (dk_at dksX1_save_0 2 rfl rfl)
theorem dX1_save_5 : decode cX1_save 5 = .ok (.putfield 386, 3) := dk_181 1 130 (dk_at dksX1_save_0 5 rfl rfl)
theorem dX1_save_8 : decode cX1_save 8 = .ok (.aload_n 0, 1) := dk_42 (dk_at dksX1_save_0 8 rfl rfl)
theorem dX1_save_9 : decode cX1_save 9 = .ok (.getfield 64, 3) := dk_180 0 64 (dk_at dksX1_save_0 9 rfl rfl)
theorem dX1_save_12 : decode cX1_save 12 = .ok (.getfield 275, 3) := dk_180 1 19 (dk_at dksX1_save_0 12 rfl rfl)
theorem dX1_save_15 : decode cX1_save 15 = .ok (.ireturn, 1) := dk_172 (dk_at dksX1_save_0 15 rfl rfl)
abbrev cX1_tail : ByteArray := prog_1_method_14_code
def yX1_tail : MethodName := ⟨RX1, "tail", "(III)I"⟩
def dkwX1_tail_1 : List UInt8 := [183, 0, 133, 182, 0, 136, 172]
abbrev dktX1_tail_1 : List UInt8 := dkwX1_tail_1 ++ []
def dkwX1_tail_0 : List UInt8 := [42, 187, 0, 129, 89, 18, 131, 6, 188, 10, 89, 3, 27, 79, 89, 4, 28, 79, 89, 5, 29, 79]
abbrev dktX1_tail_0 : List UInt8 := dkwX1_tail_0 ++ dktX1_tail_1
theorem dksX1_tail_0 : cX1_tail.data.toList.drop 0 = dktX1_tail_0 := by decide +kernel
theorem dksX1_tail_1 : cX1_tail.data.toList.drop 22 = dktX1_tail_1 := dk_seg dksX1_tail_0 22 rfl rfl
theorem dX1_tail_0 : decode cX1_tail 0 = .ok (.aload_n 0, 1) := dk_42 (dk_at dksX1_tail_0 0 rfl rfl)
theorem dX1_tail_1 : decode cX1_tail 1 = .ok (.new 129, 3) := dk_187 0 129 (dk_at dksX1_tail_0 1 rfl rfl)
theorem dX1_tail_4 : decode cX1_tail 4 = .ok (.dup, 1) := dk_89 (dk_at dksX1_tail_0 4 rfl rfl)
theorem dX1_tail_5 : decode cX1_tail 5 = .ok (.ldc 131, 2) := dk_18 131 (dk_at dksX1_tail_0 5 rfl rfl)
theorem dX1_tail_7 : decode cX1_tail 7 = .ok (.iconst 3, 1) := dk_6 (dk_at dksX1_tail_0 7 rfl rfl)
theorem dX1_tail_8 : decode cX1_tail 8 = .ok (.newarray .int, 2) := dk_188_10 (dk_at dksX1_tail_0 8 rfl rfl)
theorem dX1_tail_10 : decode cX1_tail 10 = .ok (.dup, 1) := dk_89 (dk_at dksX1_tail_0 10 rfl rfl)
theorem dX1_tail_11 : decode cX1_tail 11 = .ok (.iconst 0, 1) := dk_3 (dk_at dksX1_tail_0 11 rfl rfl)
theorem dX1_tail_12 : decode cX1_tail 12 = .ok (.iload_n 1, 1) := dk_27 (dk_at dksX1_tail_0 12 rfl rfl)
theorem dX1_tail_13 : decode cX1_tail 13 = .ok (.iastore, 1) := dk_79 (dk_at dksX1_tail_0 13 rfl rfl)
theorem dX1_tail_14 : decode cX1_tail 14 = .ok (.dup, 1) := dk_89 (dk_at dksX1_tail_0 14 rfl rfl)
theorem dX1_tail_15 : decode cX1_tail 15 = .ok (.iconst 1, 1) := dk_4 (dk_at dksX1_tail_0 15 rfl rfl)
theorem dX1_tail_16 : decode cX1_tail 16 = .ok (.iload_n 2, 1) := dk_28 (dk_at dksX1_tail_0 16 rfl rfl)
theorem dX1_tail_17 : decode cX1_tail 17 = .ok (.iastore, 1) := dk_79 (dk_at dksX1_tail_0 17 rfl rfl)
theorem dX1_tail_18 : decode cX1_tail 18 = .ok (.dup, 1) := dk_89 (dk_at dksX1_tail_0 18 rfl rfl)
theorem dX1_tail_19 : decode cX1_tail 19 = .ok (.iconst 2, 1) := dk_5 (dk_at dksX1_tail_0 19 rfl rfl)
theorem dX1_tail_20 : decode cX1_tail 20 = .ok (.iload_n 3, 1) := dk_29 (dk_at dksX1_tail_0 20 rfl rfl)
theorem dX1_tail_21 : decode cX1_tail 21 = .ok (.iastore, 1) := dk_79 (dk_at dksX1_tail_0 21 rfl rfl)
theorem dX1_tail_22 : decode cX1_tail 22 = .ok (.invokespecial 133, 3) := dk_183 0 133 (dk_at dksX1_tail_1 0 rfl rfl)
theorem dX1_tail_25 : decode cX1_tail 25 = .ok (.invokevirtual 136, 3) := dk_182 0 136 (dk_at dksX1_tail_1 3 rfl rfl)
theorem dX1_tail_28 : decode cX1_tail 28 = .ok (.ireturn, 1) := dk_172 (dk_at dksX1_tail_1 6 rfl rfl)
abbrev cX1_done : ByteArray := prog_1_method_13_code
def yX1_done : MethodName := ⟨RX1, "done", "(LHorsehairTrade$Deed;)I"⟩
def dkwX1_done_1 : List UInt8 := [182, 0, 122, 29, 172, 78, 42, 45, 3, 182, 0, 125, 191]
abbrev dktX1_done_1 : List UInt8 := dkwX1_done_1 ++ []
def dkwX1_done_0 : List UInt8 := [187, 0, 61, 89, 42, 180, 0, 64, 183, 0, 113, 77, 43, 44, 185, 0, 116, 2, 0, 62, 42, 44]
abbrev dktX1_done_0 : List UInt8 := dkwX1_done_0 ++ dktX1_done_1
theorem dksX1_done_0 : cX1_done.data.toList.drop 0 = dktX1_done_0 := by decide +kernel
theorem dksX1_done_1 : cX1_done.data.toList.drop 22 = dktX1_done_1 := dk_seg dksX1_done_0 22 rfl rfl
theorem dX1_done_0 : decode cX1_done 0 = .ok (.new 61, 3) := dk_187 0 61 (dk_at dksX1_done_0 0 rfl rfl)
theorem dX1_done_3 : decode cX1_done 3 = .ok (.dup, 1) := dk_89 (dk_at dksX1_done_0 3 rfl rfl)
theorem dX1_done_4 : decode cX1_done 4 = .ok (.aload_n 0, 1) := dk_42 (dk_at dksX1_done_0 4 rfl rfl)
theorem dX1_done_5 : decode cX1_done 5 = .ok (.getfield 64, 3) := dk_180 0 64 (dk_at dksX1_done_0 5 rfl rfl)
theorem dX1_done_8 : decode cX1_done 8 = .ok (.invokespecial 113, 3) := dk_183 0 113 (dk_at dksX1_done_0 8 rfl rfl)
theorem dX1_done_11 : decode cX1_done 11 = .ok (.astore_n 2, 1) := dk_77 (dk_at dksX1_done_0 11 rfl rfl)
theorem dX1_done_12 : decode cX1_done 12 = .ok (.aload_n 1, 1) := dk_43 (dk_at dksX1_done_0 12 rfl rfl)
theorem dX1_done_13 : decode cX1_done 13 = .ok (.aload_n 2, 1) := dk_44 (dk_at dksX1_done_0 13 rfl rfl)
theorem dX1_done_14 : decode cX1_done 14 = .ok (.invokeinterface 116 2, 5) := by decide +kernel
theorem dX1_done_19 : decode cX1_done 19 = .ok (.istore_n 3, 1) := dk_62 (dk_at dksX1_done_0 19 rfl rfl)
theorem dX1_done_20 : decode cX1_done 20 = .ok (.aload_n 0, 1) := dk_42 (dk_at dksX1_done_0 20 rfl rfl)
theorem dX1_done_21 : decode cX1_done 21 = .ok (.aload_n 2, 1) := dk_44 (dk_at dksX1_done_0 21 rfl rfl)
theorem dX1_done_22 : decode cX1_done 22 = .ok (.invokevirtual 122, 3) := dk_182 0 122 (dk_at dksX1_done_1 0 rfl rfl)
theorem dX1_done_25 : decode cX1_done 25 = .ok (.iload_n 3, 1) := dk_29 (dk_at dksX1_done_1 3 rfl rfl)
theorem dX1_done_26 : decode cX1_done 26 = .ok (.ireturn, 1) := dk_172 (dk_at dksX1_done_1 4 rfl rfl)
theorem dX1_done_27 : decode cX1_done 27 = .ok (.astore_n 3, 1) := dk_78 (dk_at dksX1_done_1 5 rfl rfl)
theorem dX1_done_28 : decode cX1_done 28 = .ok (.aload_n 0, 1) := dk_42 (dk_at dksX1_done_1 6 rfl rfl)
theorem dX1_done_29 : decode cX1_done 29 = .ok (.aload_n 3, 1) := dk_45 (dk_at dksX1_done_1 7 rfl rfl)
theorem dX1_done_30 : decode cX1_done 30 = .ok (.iconst 0, 1) := dk_3 (dk_at dksX1_done_1 8 rfl rfl)
theorem dX1_done_31 : decode cX1_done 31 = .ok (.invokevirtual 125, 3) := dk_182 0 125 (dk_at dksX1_done_1 9 rfl rfl)
theorem dX1_done_34 : decode cX1_done 34 = .ok (.athrow, 1) := dk_191 (dk_at dksX1_done_1 12 rfl rfl)
abbrev cX1_checkRange : ByteArray := prog_1_method_7_code
def yX1_checkRange : MethodName := ⟨RX1, "checkRange", "(III)V"⟩
def dkwX1_checkRange_0 : List UInt8 := [26, 27, 28, 184, 0, 21, 6, 26, 184, 0, 27, 177]
abbrev dktX1_checkRange_0 : List UInt8 := dkwX1_checkRange_0 ++ []
theorem dksX1_checkRange_0 : cX1_checkRange.data.toList.drop 0 = dktX1_checkRange_0 := by decide +kernel
theorem dX1_checkRange_0 : decode cX1_checkRange 0 = .ok (.iload_n 0, 1) := dk_26 (dk_at dksX1_checkRange_0 0 rfl rfl)
theorem dX1_checkRange_1 : decode cX1_checkRange 1 = .ok (.iload_n 1, 1) := dk_27 (dk_at dksX1_checkRange_0 1 rfl rfl)
theorem dX1_checkRange_2 : decode cX1_checkRange 2 = .ok (.iload_n 2, 1) := dk_28 (dk_at dksX1_checkRange_0 2 rfl rfl)
theorem dX1_checkRange_3 : decode cX1_checkRange 3 = .ok (.invokestatic 21, 3) := dk_184 0 21 (dk_at dksX1_checkRange_0 3 rfl rfl)
theorem dX1_checkRange_6 : decode cX1_checkRange 6 = .ok (.iconst 3, 1) := dk_6 (dk_at dksX1_checkRange_0 6 rfl rfl)
theorem dX1_checkRange_7 : decode cX1_checkRange 7 = .ok (.iload_n 0, 1) := dk_26 (dk_at dksX1_checkRange_0 7 rfl rfl)
theorem dX1_checkRange_8 : decode cX1_checkRange 8 = .ok (.invokestatic 27, 3) := dk_184 0 27 (dk_at dksX1_checkRange_0 8 rfl rfl)
theorem dX1_checkRange_11 : decode cX1_checkRange 11 = .ok (.return_, 1) := dk_177 (dk_at dksX1_checkRange_0 11 rfl rfl)
abbrev cX1_isBetween : ByteArray := prog_1_method_1_code
def yX1_isBetween : MethodName := ⟨RX1, "isBetween", "(III)Z"⟩
def dkwX1_isBetween_0 : List UInt8 := [27, 26, 163, 0, 12, 26, 28, 163, 0, 7, 4, 167, 0, 4, 3, 172]
abbrev dktX1_isBetween_0 : List UInt8 := dkwX1_isBetween_0 ++ []
theorem dksX1_isBetween_0 : cX1_isBetween.data.toList.drop 0 = dktX1_isBetween_0 := by decide +kernel
theorem dX1_isBetween_0 : decode cX1_isBetween 0 = .ok (.iload_n 1, 1) := dk_27 (dk_at dksX1_isBetween_0 0 rfl rfl)
theorem dX1_isBetween_1 : decode cX1_isBetween 1 = .ok (.iload_n 0, 1) := dk_26 (dk_at dksX1_isBetween_0 1 rfl rfl)
theorem dX1_isBetween_2 : decode cX1_isBetween 2 = .ok (.if_icmp .gt 12, 3) := dk_163 0 12 (dk_at dksX1_isBetween_0 2 rfl rfl)
theorem dX1_isBetween_5 : decode cX1_isBetween 5 = .ok (.iload_n 0, 1) := dk_26 (dk_at dksX1_isBetween_0 5 rfl rfl)
theorem dX1_isBetween_6 : decode cX1_isBetween 6 = .ok (.iload_n 2, 1) := dk_28 (dk_at dksX1_isBetween_0 6 rfl rfl)
theorem dX1_isBetween_7 : decode cX1_isBetween 7 = .ok (.if_icmp .gt 7, 3) := dk_163 0 7 (dk_at dksX1_isBetween_0 7 rfl rfl)
theorem dX1_isBetween_10 : decode cX1_isBetween 10 = .ok (.iconst 1, 1) := dk_4 (dk_at dksX1_isBetween_0 10 rfl rfl)
theorem dX1_isBetween_11 : decode cX1_isBetween 11 = .ok (.goto 4, 3) := dk_167 0 4 (dk_at dksX1_isBetween_0 11 rfl rfl)
theorem dX1_isBetween_14 : decode cX1_isBetween 14 = .ok (.iconst 0, 1) := dk_3 (dk_at dksX1_isBetween_0 14 rfl rfl)
theorem dX1_isBetween_15 : decode cX1_isBetween 15 = .ok (.ireturn, 1) := dk_172 (dk_at dksX1_isBetween_0 15 rfl rfl)
abbrev cX1_check : ByteArray := prog_1_method_6_code
def yX1_check : MethodName := ⟨RX1, "check", "(ZII)V"⟩
def dkwX1_check_0 : List UInt8 := [26, 154, 0, 13, 187, 0, 16, 89, 27, 28, 183, 0, 18, 191, 177]
abbrev dktX1_check_0 : List UInt8 := dkwX1_check_0 ++ []
theorem dksX1_check_0 : cX1_check.data.toList.drop 0 = dktX1_check_0 := by decide +kernel
theorem dX1_check_0 : decode cX1_check 0 = .ok (.iload_n 0, 1) := dk_26 (dk_at dksX1_check_0 0 rfl rfl)
theorem dX1_check_1 : decode cX1_check 1 = .ok (.ifCond .ne 13, 3) := dk_154 0 13 (dk_at dksX1_check_0 1 rfl rfl)
theorem dX1_check_4 : decode cX1_check 4 = .ok (.new 16, 3) := dk_187 0 16 (dk_at dksX1_check_0 4 rfl rfl)
theorem dX1_check_7 : decode cX1_check 7 = .ok (.dup, 1) := dk_89 (dk_at dksX1_check_0 7 rfl rfl)
theorem dX1_check_8 : decode cX1_check 8 = .ok (.iload_n 1, 1) := dk_27 (dk_at dksX1_check_0 8 rfl rfl)
theorem dX1_check_9 : decode cX1_check 9 = .ok (.iload_n 2, 1) := dk_28 (dk_at dksX1_check_0 9 rfl rfl)
theorem dX1_check_10 : decode cX1_check 10 = .ok (.invokespecial 18, 3) := dk_183 0 18 (dk_at dksX1_check_0 10 rfl rfl)
theorem dX1_check_13 : decode cX1_check 13 = .ok (.athrow, 1) := dk_191 (dk_at dksX1_check_0 13 rfl rfl)
theorem dX1_check_14 : decode cX1_check 14 = .ok (.return_, 1) := dk_177 (dk_at dksX1_check_0 14 rfl rfl)
abbrev cX1_remember : ByteArray := prog_1_method_11_code
def yX1_remember : MethodName := ⟨RX1, "remember", "(LHorsehairTrade$Trade;)V"⟩
def dkwX1_remember_1 : List UInt8 := [42, 180, 0, 71, 42, 180, 0, 64, 185, 0, 99, 2, 0, 42, 43, 181, 0, 64, 177]
abbrev dktX1_remember_1 : List UInt8 := dkwX1_remember_1 ++ []
def dkwX1_remember_0 : List UInt8 := [42, 180, 0, 71, 185, 0, 92, 1, 0, 16, 8, 160, 0, 13, 42, 180, 0, 71, 185, 0, 95, 1, 0, 87]
abbrev dktX1_remember_0 : List UInt8 := dkwX1_remember_0 ++ dktX1_remember_1
theorem dksX1_remember_0 : cX1_remember.data.toList.drop 0 = dktX1_remember_0 := by decide +kernel
theorem dksX1_remember_1 : cX1_remember.data.toList.drop 24 = dktX1_remember_1 := dk_seg dksX1_remember_0 24 rfl rfl
theorem dX1_remember_0 : decode cX1_remember 0 = .ok (.aload_n 0, 1) := dk_42 (dk_at dksX1_remember_0 0 rfl rfl)
theorem dX1_remember_1 : decode cX1_remember 1 = .ok (.getfield 71, 3) := dk_180 0 71 (dk_at dksX1_remember_0 1 rfl rfl)
theorem dX1_remember_4 : decode cX1_remember 4 = .ok (.invokeinterface 92 1, 5) := by decide +kernel
theorem dX1_remember_9 : decode cX1_remember 9 = .ok (.bipush 8, 2) := dk_16 8 (dk_at dksX1_remember_0 9 rfl rfl)
theorem dX1_remember_11 : decode cX1_remember 11 = .ok (.if_icmp .ne 13, 3) := dk_160 0 13 (dk_at dksX1_remember_0 11 rfl rfl)
theorem dX1_remember_14 : decode cX1_remember 14 = .ok (.aload_n 0, 1) := dk_42 (dk_at dksX1_remember_0 14 rfl rfl)
theorem dX1_remember_15 : decode cX1_remember 15 = .ok (.getfield 71, 3) := dk_180 0 71 (dk_at dksX1_remember_0 15 rfl rfl)
theorem dX1_remember_18 : decode cX1_remember 18 = .ok (.invokeinterface 95 1, 5) := by decide +kernel
theorem dX1_remember_23 : decode cX1_remember 23 = .ok (.pop, 1) := dk_87 (dk_at dksX1_remember_0 23 rfl rfl)
theorem dX1_remember_24 : decode cX1_remember 24 = .ok (.aload_n 0, 1) := dk_42 (dk_at dksX1_remember_1 0 rfl rfl)
theorem dX1_remember_25 : decode cX1_remember 25 = .ok (.getfield 71, 3) := dk_180 0 71 (dk_at dksX1_remember_1 1 rfl rfl)
theorem dX1_remember_28 : decode cX1_remember 28 = .ok (.aload_n 0, 1) := dk_42 (dk_at dksX1_remember_1 4 rfl rfl)
theorem dX1_remember_29 : decode cX1_remember 29 = .ok (.getfield 64, 3) := dk_180 0 64 (dk_at dksX1_remember_1 5 rfl rfl)
theorem dX1_remember_32 : decode cX1_remember 32 = .ok (.invokeinterface 99 2, 5) := by decide +kernel
theorem dX1_remember_37 : decode cX1_remember 37 = .ok (.aload_n 0, 1) := dk_42 (dk_at dksX1_remember_1 13 rfl rfl)
theorem dX1_remember_38 : decode cX1_remember 38 = .ok (.aload_n 1, 1) := dk_43 (dk_at dksX1_remember_1 14 rfl rfl)
theorem dX1_remember_39 : decode cX1_remember 39 = .ok (.putfield 64, 3) := dk_181 0 64 (dk_at dksX1_remember_1 15 rfl rfl)
theorem dX1_remember_42 : decode cX1_remember 42 = .ok (.return_, 1) := dk_177 (dk_at dksX1_remember_1 18 rfl rfl)
abbrev cX1_kept : ByteArray := prog_1_method_12_code
def yX1_kept : MethodName := ⟨RX1, "kept", "(LHorsehairTrade$Refused;I)Ljava/lang/UnsupportedOperationException;"⟩
def dkwX1_kept_0 : List UInt8 := [42, 43, 181, 0, 103, 42, 28, 181, 0, 107, 187, 0, 110, 89, 183, 0, 112, 176]
abbrev dktX1_kept_0 : List UInt8 := dkwX1_kept_0 ++ []
theorem dksX1_kept_0 : cX1_kept.data.toList.drop 0 = dktX1_kept_0 := by decide +kernel
theorem dX1_kept_0 : decode cX1_kept 0 = .ok (.aload_n 0, 1) := dk_42 (dk_at dksX1_kept_0 0 rfl rfl)
theorem dX1_kept_1 : decode cX1_kept 1 = .ok (.aload_n 1, 1) := dk_43 (dk_at dksX1_kept_0 1 rfl rfl)
theorem dX1_kept_2 : decode cX1_kept 2 = .ok (.putfield 103, 3) := dk_181 0 103 (dk_at dksX1_kept_0 2 rfl rfl)
theorem dX1_kept_5 : decode cX1_kept 5 = .ok (.aload_n 0, 1) := dk_42 (dk_at dksX1_kept_0 5 rfl rfl)
theorem dX1_kept_6 : decode cX1_kept 6 = .ok (.iload_n 2, 1) := dk_28 (dk_at dksX1_kept_0 6 rfl rfl)
theorem dX1_kept_7 : decode cX1_kept 7 = .ok (.putfield 107, 3) := dk_181 0 107 (dk_at dksX1_kept_0 7 rfl rfl)
theorem dX1_kept_10 : decode cX1_kept 10 = .ok (.new 110, 3) := dk_187 0 110 (dk_at dksX1_kept_0 10 rfl rfl)
theorem dX1_kept_13 : decode cX1_kept 13 = .ok (.dup, 1) := dk_89 (dk_at dksX1_kept_0 13 rfl rfl)
theorem dX1_kept_14 : decode cX1_kept 14 = .ok (.invokespecial 112, 3) := dk_183 0 112 (dk_at dksX1_kept_0 14 rfl rfl)
theorem dX1_kept_17 : decode cX1_kept 17 = .ok (.areturn, 1) := dk_176 (dk_at dksX1_kept_0 17 rfl rfl)
abbrev cX1_comb : ByteArray := prog_1_method_15_code
def yX1_comb : MethodName := ⟨RX1, "comb", "(II)I"⟩
def dkwX1_comb_1 : List UInt8 := [172]
abbrev dktX1_comb_1 : List UInt8 := dkwX1_comb_1 ++ []
def dkwX1_comb_0 : List UInt8 := [42, 187, 0, 129, 89, 18, 140, 5, 188, 10, 89, 3, 27, 79, 89, 4, 28, 79, 183, 0, 133, 182, 0, 136]
abbrev dktX1_comb_0 : List UInt8 := dkwX1_comb_0 ++ dktX1_comb_1
theorem dksX1_comb_0 : cX1_comb.data.toList.drop 0 = dktX1_comb_0 := by decide +kernel
theorem dksX1_comb_1 : cX1_comb.data.toList.drop 24 = dktX1_comb_1 := dk_seg dksX1_comb_0 24 rfl rfl
theorem dX1_comb_0 : decode cX1_comb 0 = .ok (.aload_n 0, 1) := dk_42 (dk_at dksX1_comb_0 0 rfl rfl)
theorem dX1_comb_1 : decode cX1_comb 1 = .ok (.new 129, 3) := dk_187 0 129 (dk_at dksX1_comb_0 1 rfl rfl)
theorem dX1_comb_4 : decode cX1_comb 4 = .ok (.dup, 1) := dk_89 (dk_at dksX1_comb_0 4 rfl rfl)
theorem dX1_comb_5 : decode cX1_comb 5 = .ok (.ldc 140, 2) := dk_18 140 (dk_at dksX1_comb_0 5 rfl rfl)
theorem dX1_comb_7 : decode cX1_comb 7 = .ok (.iconst 2, 1) := dk_5 (dk_at dksX1_comb_0 7 rfl rfl)
theorem dX1_comb_8 : decode cX1_comb 8 = .ok (.newarray .int, 2) := dk_188_10 (dk_at dksX1_comb_0 8 rfl rfl)
theorem dX1_comb_10 : decode cX1_comb 10 = .ok (.dup, 1) := dk_89 (dk_at dksX1_comb_0 10 rfl rfl)
theorem dX1_comb_11 : decode cX1_comb 11 = .ok (.iconst 0, 1) := dk_3 (dk_at dksX1_comb_0 11 rfl rfl)
theorem dX1_comb_12 : decode cX1_comb 12 = .ok (.iload_n 1, 1) := dk_27 (dk_at dksX1_comb_0 12 rfl rfl)
theorem dX1_comb_13 : decode cX1_comb 13 = .ok (.iastore, 1) := dk_79 (dk_at dksX1_comb_0 13 rfl rfl)
theorem dX1_comb_14 : decode cX1_comb 14 = .ok (.dup, 1) := dk_89 (dk_at dksX1_comb_0 14 rfl rfl)
theorem dX1_comb_15 : decode cX1_comb 15 = .ok (.iconst 1, 1) := dk_4 (dk_at dksX1_comb_0 15 rfl rfl)
theorem dX1_comb_16 : decode cX1_comb 16 = .ok (.iload_n 2, 1) := dk_28 (dk_at dksX1_comb_0 16 rfl rfl)
theorem dX1_comb_17 : decode cX1_comb 17 = .ok (.iastore, 1) := dk_79 (dk_at dksX1_comb_0 17 rfl rfl)
theorem dX1_comb_18 : decode cX1_comb 18 = .ok (.invokespecial 133, 3) := dk_183 0 133 (dk_at dksX1_comb_0 18 rfl rfl)
theorem dX1_comb_21 : decode cX1_comb 21 = .ok (.invokevirtual 136, 3) := dk_182 0 136 (dk_at dksX1_comb_0 21 rfl rfl)
theorem dX1_comb_24 : decode cX1_comb 24 = .ok (.ireturn, 1) := dk_172 (dk_at dksX1_comb_1 0 rfl rfl)
abbrev cX1_tie : ByteArray := prog_1_method_16_code
def yX1_tie : MethodName := ⟨RX1, "tie", "(II)I"⟩
def dkwX1_tie_1 : List UInt8 := [172]
abbrev dktX1_tie_1 : List UInt8 := dkwX1_tie_1 ++ []
def dkwX1_tie_0 : List UInt8 := [42, 187, 0, 129, 89, 18, 142, 5, 188, 10, 89, 3, 27, 79, 89, 4, 28, 79, 183, 0, 133, 182, 0, 136]
abbrev dktX1_tie_0 : List UInt8 := dkwX1_tie_0 ++ dktX1_tie_1
theorem dksX1_tie_0 : cX1_tie.data.toList.drop 0 = dktX1_tie_0 := by decide +kernel
theorem dksX1_tie_1 : cX1_tie.data.toList.drop 24 = dktX1_tie_1 := dk_seg dksX1_tie_0 24 rfl rfl
theorem dX1_tie_0 : decode cX1_tie 0 = .ok (.aload_n 0, 1) := dk_42 (dk_at dksX1_tie_0 0 rfl rfl)
theorem dX1_tie_1 : decode cX1_tie 1 = .ok (.new 129, 3) := dk_187 0 129 (dk_at dksX1_tie_0 1 rfl rfl)
theorem dX1_tie_4 : decode cX1_tie 4 = .ok (.dup, 1) := dk_89 (dk_at dksX1_tie_0 4 rfl rfl)
theorem dX1_tie_5 : decode cX1_tie 5 = .ok (.ldc 142, 2) := dk_18 142 (dk_at dksX1_tie_0 5 rfl rfl)
theorem dX1_tie_7 : decode cX1_tie 7 = .ok (.iconst 2, 1) := dk_5 (dk_at dksX1_tie_0 7 rfl rfl)
theorem dX1_tie_8 : decode cX1_tie 8 = .ok (.newarray .int, 2) := dk_188_10 (dk_at dksX1_tie_0 8 rfl rfl)
theorem dX1_tie_10 : decode cX1_tie 10 = .ok (.dup, 1) := dk_89 (dk_at dksX1_tie_0 10 rfl rfl)
theorem dX1_tie_11 : decode cX1_tie 11 = .ok (.iconst 0, 1) := dk_3 (dk_at dksX1_tie_0 11 rfl rfl)
theorem dX1_tie_12 : decode cX1_tie 12 = .ok (.iload_n 1, 1) := dk_27 (dk_at dksX1_tie_0 12 rfl rfl)
theorem dX1_tie_13 : decode cX1_tie 13 = .ok (.iastore, 1) := dk_79 (dk_at dksX1_tie_0 13 rfl rfl)
theorem dX1_tie_14 : decode cX1_tie 14 = .ok (.dup, 1) := dk_89 (dk_at dksX1_tie_0 14 rfl rfl)
theorem dX1_tie_15 : decode cX1_tie 15 = .ok (.iconst 1, 1) := dk_4 (dk_at dksX1_tie_0 15 rfl rfl)
theorem dX1_tie_16 : decode cX1_tie 16 = .ok (.iload_n 2, 1) := dk_28 (dk_at dksX1_tie_0 16 rfl rfl)
theorem dX1_tie_17 : decode cX1_tie 17 = .ok (.iastore, 1) := dk_79 (dk_at dksX1_tie_0 17 rfl rfl)
theorem dX1_tie_18 : decode cX1_tie 18 = .ok (.invokespecial 133, 3) := dk_183 0 133 (dk_at dksX1_tie_0 18 rfl rfl)
theorem dX1_tie_21 : decode cX1_tie 21 = .ok (.invokevirtual 136, 3) := dk_182 0 136 (dk_at dksX1_tie_0 21 rfl rfl)
theorem dX1_tie_24 : decode cX1_tie 24 = .ok (.ireturn, 1) := dk_172 (dk_at dksX1_tie_1 0 rfl rfl)
abbrev cX1_weave : ByteArray := prog_1_method_17_code
def yX1_weave : MethodName := ⟨RX1, "weave", "(II)I"⟩
def dkwX1_weave_1 : List UInt8 := [172]
abbrev dktX1_weave_1 : List UInt8 := dkwX1_weave_1 ++ []
def dkwX1_weave_0 : List UInt8 := [42, 187, 0, 129, 89, 18, 144, 5, 188, 10, 89, 3, 27, 79, 89, 4, 28, 79, 183, 0, 133, 182, 0, 136]
abbrev dktX1_weave_0 : List UInt8 := dkwX1_weave_0 ++ dktX1_weave_1
theorem dksX1_weave_0 : cX1_weave.data.toList.drop 0 = dktX1_weave_0 := by decide +kernel
theorem dksX1_weave_1 : cX1_weave.data.toList.drop 24 = dktX1_weave_1 := dk_seg dksX1_weave_0 24 rfl rfl
theorem dX1_weave_0 : decode cX1_weave 0 = .ok (.aload_n 0, 1) := dk_42 (dk_at dksX1_weave_0 0 rfl rfl)
theorem dX1_weave_1 : decode cX1_weave 1 = .ok (.new 129, 3) := dk_187 0 129 (dk_at dksX1_weave_0 1 rfl rfl)
theorem dX1_weave_4 : decode cX1_weave 4 = .ok (.dup, 1) := dk_89 (dk_at dksX1_weave_0 4 rfl rfl)
theorem dX1_weave_5 : decode cX1_weave 5 = .ok (.ldc 144, 2) := dk_18 144 (dk_at dksX1_weave_0 5 rfl rfl)
theorem dX1_weave_7 : decode cX1_weave 7 = .ok (.iconst 2, 1) := dk_5 (dk_at dksX1_weave_0 7 rfl rfl)
theorem dX1_weave_8 : decode cX1_weave 8 = .ok (.newarray .int, 2) := dk_188_10 (dk_at dksX1_weave_0 8 rfl rfl)
theorem dX1_weave_10 : decode cX1_weave 10 = .ok (.dup, 1) := dk_89 (dk_at dksX1_weave_0 10 rfl rfl)
theorem dX1_weave_11 : decode cX1_weave 11 = .ok (.iconst 0, 1) := dk_3 (dk_at dksX1_weave_0 11 rfl rfl)
theorem dX1_weave_12 : decode cX1_weave 12 = .ok (.iload_n 1, 1) := dk_27 (dk_at dksX1_weave_0 12 rfl rfl)
theorem dX1_weave_13 : decode cX1_weave 13 = .ok (.iastore, 1) := dk_79 (dk_at dksX1_weave_0 13 rfl rfl)
theorem dX1_weave_14 : decode cX1_weave 14 = .ok (.dup, 1) := dk_89 (dk_at dksX1_weave_0 14 rfl rfl)
theorem dX1_weave_15 : decode cX1_weave 15 = .ok (.iconst 1, 1) := dk_4 (dk_at dksX1_weave_0 15 rfl rfl)
theorem dX1_weave_16 : decode cX1_weave 16 = .ok (.iload_n 2, 1) := dk_28 (dk_at dksX1_weave_0 16 rfl rfl)
theorem dX1_weave_17 : decode cX1_weave 17 = .ok (.iastore, 1) := dk_79 (dk_at dksX1_weave_0 17 rfl rfl)
theorem dX1_weave_18 : decode cX1_weave 18 = .ok (.invokespecial 133, 3) := dk_183 0 133 (dk_at dksX1_weave_0 18 rfl rfl)
theorem dX1_weave_21 : decode cX1_weave 21 = .ok (.invokevirtual 136, 3) := dk_182 0 136 (dk_at dksX1_weave_0 21 rfl rfl)
theorem dX1_weave_24 : decode cX1_weave 24 = .ok (.ireturn, 1) := dk_172 (dk_at dksX1_weave_1 0 rfl rfl)
abbrev cX1_bow : ByteArray := prog_1_method_18_code
def yX1_bow : MethodName := ⟨RX1, "bow", "(I)I"⟩
def dkwX1_bow_0 : List UInt8 := [42, 187, 0, 129, 89, 18, 146, 4, 188, 10, 89, 3, 27, 79, 183, 0, 133, 182, 0, 136, 172]
abbrev dktX1_bow_0 : List UInt8 := dkwX1_bow_0 ++ []
theorem dksX1_bow_0 : cX1_bow.data.toList.drop 0 = dktX1_bow_0 := by decide +kernel
theorem dX1_bow_0 : decode cX1_bow 0 = .ok (.aload_n 0, 1) := dk_42 (dk_at dksX1_bow_0 0 rfl rfl)
theorem dX1_bow_1 : decode cX1_bow 1 = .ok (.new 129, 3) := dk_187 0 129 (dk_at dksX1_bow_0 1 rfl rfl)
theorem dX1_bow_4 : decode cX1_bow 4 = .ok (.dup, 1) := dk_89 (dk_at dksX1_bow_0 4 rfl rfl)
theorem dX1_bow_5 : decode cX1_bow 5 = .ok (.ldc 146, 2) := dk_18 146 (dk_at dksX1_bow_0 5 rfl rfl)
theorem dX1_bow_7 : decode cX1_bow 7 = .ok (.iconst 1, 1) := dk_4 (dk_at dksX1_bow_0 7 rfl rfl)
theorem dX1_bow_8 : decode cX1_bow 8 = .ok (.newarray .int, 2) := dk_188_10 (dk_at dksX1_bow_0 8 rfl rfl)
theorem dX1_bow_10 : decode cX1_bow 10 = .ok (.dup, 1) := dk_89 (dk_at dksX1_bow_0 10 rfl rfl)
theorem dX1_bow_11 : decode cX1_bow 11 = .ok (.iconst 0, 1) := dk_3 (dk_at dksX1_bow_0 11 rfl rfl)
theorem dX1_bow_12 : decode cX1_bow 12 = .ok (.iload_n 1, 1) := dk_27 (dk_at dksX1_bow_0 12 rfl rfl)
theorem dX1_bow_13 : decode cX1_bow 13 = .ok (.iastore, 1) := dk_79 (dk_at dksX1_bow_0 13 rfl rfl)
theorem dX1_bow_14 : decode cX1_bow 14 = .ok (.invokespecial 133, 3) := dk_183 0 133 (dk_at dksX1_bow_0 14 rfl rfl)
theorem dX1_bow_17 : decode cX1_bow 17 = .ok (.invokevirtual 136, 3) := dk_182 0 136 (dk_at dksX1_bow_0 17 rfl rfl)
theorem dX1_bow_20 : decode cX1_bow 20 = .ok (.ireturn, 1) := dk_172 (dk_at dksX1_bow_0 20 rfl rfl)
abbrev cX1_hair : ByteArray := prog_1_method_19_code
def yX1_hair : MethodName := ⟨RX1, "hair", "(II)I"⟩
def dkwX1_hair_1 : List UInt8 := [172]
abbrev dktX1_hair_1 : List UInt8 := dkwX1_hair_1 ++ []
def dkwX1_hair_0 : List UInt8 := [42, 187, 0, 129, 89, 18, 148, 5, 188, 10, 89, 3, 27, 79, 89, 4, 28, 79, 183, 0, 133, 182, 0, 136]
abbrev dktX1_hair_0 : List UInt8 := dkwX1_hair_0 ++ dktX1_hair_1
theorem dksX1_hair_0 : cX1_hair.data.toList.drop 0 = dktX1_hair_0 := by decide +kernel
theorem dksX1_hair_1 : cX1_hair.data.toList.drop 24 = dktX1_hair_1 := dk_seg dksX1_hair_0 24 rfl rfl
theorem dX1_hair_0 : decode cX1_hair 0 = .ok (.aload_n 0, 1) := dk_42 (dk_at dksX1_hair_0 0 rfl rfl)
theorem dX1_hair_1 : decode cX1_hair 1 = .ok (.new 129, 3) := dk_187 0 129 (dk_at dksX1_hair_0 1 rfl rfl)
theorem dX1_hair_4 : decode cX1_hair 4 = .ok (.dup, 1) := dk_89 (dk_at dksX1_hair_0 4 rfl rfl)
theorem dX1_hair_5 : decode cX1_hair 5 = .ok (.ldc 148, 2) := dk_18 148 (dk_at dksX1_hair_0 5 rfl rfl)
theorem dX1_hair_7 : decode cX1_hair 7 = .ok (.iconst 2, 1) := dk_5 (dk_at dksX1_hair_0 7 rfl rfl)
theorem dX1_hair_8 : decode cX1_hair 8 = .ok (.newarray .int, 2) := dk_188_10 (dk_at dksX1_hair_0 8 rfl rfl)
theorem dX1_hair_10 : decode cX1_hair 10 = .ok (.dup, 1) := dk_89 (dk_at dksX1_hair_0 10 rfl rfl)
theorem dX1_hair_11 : decode cX1_hair 11 = .ok (.iconst 0, 1) := dk_3 (dk_at dksX1_hair_0 11 rfl rfl)
theorem dX1_hair_12 : decode cX1_hair 12 = .ok (.iload_n 1, 1) := dk_27 (dk_at dksX1_hair_0 12 rfl rfl)
theorem dX1_hair_13 : decode cX1_hair 13 = .ok (.iastore, 1) := dk_79 (dk_at dksX1_hair_0 13 rfl rfl)
theorem dX1_hair_14 : decode cX1_hair 14 = .ok (.dup, 1) := dk_89 (dk_at dksX1_hair_0 14 rfl rfl)
theorem dX1_hair_15 : decode cX1_hair 15 = .ok (.iconst 1, 1) := dk_4 (dk_at dksX1_hair_0 15 rfl rfl)
theorem dX1_hair_16 : decode cX1_hair 16 = .ok (.iload_n 2, 1) := dk_28 (dk_at dksX1_hair_0 16 rfl rfl)
theorem dX1_hair_17 : decode cX1_hair 17 = .ok (.iastore, 1) := dk_79 (dk_at dksX1_hair_0 17 rfl rfl)
theorem dX1_hair_18 : decode cX1_hair 18 = .ok (.invokespecial 133, 3) := dk_183 0 133 (dk_at dksX1_hair_0 18 rfl rfl)
theorem dX1_hair_21 : decode cX1_hair 21 = .ok (.invokevirtual 136, 3) := dk_182 0 136 (dk_at dksX1_hair_0 21 rfl rfl)
theorem dX1_hair_24 : decode cX1_hair 24 = .ok (.ireturn, 1) := dk_172 (dk_at dksX1_hair_1 0 rfl rfl)
abbrev cX1_cake : ByteArray := prog_1_method_20_code
def yX1_cake : MethodName := ⟨RX1, "cake", "(I)I"⟩
def dkwX1_cake_0 : List UInt8 := [42, 187, 0, 129, 89, 18, 150, 4, 188, 10, 89, 3, 27, 79, 183, 0, 133, 182, 0, 136, 172]
abbrev dktX1_cake_0 : List UInt8 := dkwX1_cake_0 ++ []
theorem dksX1_cake_0 : cX1_cake.data.toList.drop 0 = dktX1_cake_0 := by decide +kernel
theorem dX1_cake_0 : decode cX1_cake 0 = .ok (.aload_n 0, 1) := dk_42 (dk_at dksX1_cake_0 0 rfl rfl)
theorem dX1_cake_1 : decode cX1_cake 1 = .ok (.new 129, 3) := dk_187 0 129 (dk_at dksX1_cake_0 1 rfl rfl)
theorem dX1_cake_4 : decode cX1_cake 4 = .ok (.dup, 1) := dk_89 (dk_at dksX1_cake_0 4 rfl rfl)
theorem dX1_cake_5 : decode cX1_cake 5 = .ok (.ldc 150, 2) := dk_18 150 (dk_at dksX1_cake_0 5 rfl rfl)
theorem dX1_cake_7 : decode cX1_cake 7 = .ok (.iconst 1, 1) := dk_4 (dk_at dksX1_cake_0 7 rfl rfl)
theorem dX1_cake_8 : decode cX1_cake 8 = .ok (.newarray .int, 2) := dk_188_10 (dk_at dksX1_cake_0 8 rfl rfl)
theorem dX1_cake_10 : decode cX1_cake 10 = .ok (.dup, 1) := dk_89 (dk_at dksX1_cake_0 10 rfl rfl)
theorem dX1_cake_11 : decode cX1_cake 11 = .ok (.iconst 0, 1) := dk_3 (dk_at dksX1_cake_0 11 rfl rfl)
theorem dX1_cake_12 : decode cX1_cake 12 = .ok (.iload_n 1, 1) := dk_27 (dk_at dksX1_cake_0 12 rfl rfl)
theorem dX1_cake_13 : decode cX1_cake 13 = .ok (.iastore, 1) := dk_79 (dk_at dksX1_cake_0 13 rfl rfl)
theorem dX1_cake_14 : decode cX1_cake 14 = .ok (.invokespecial 133, 3) := dk_183 0 133 (dk_at dksX1_cake_0 14 rfl rfl)
theorem dX1_cake_17 : decode cX1_cake 17 = .ok (.invokevirtual 136, 3) := dk_182 0 136 (dk_at dksX1_cake_0 17 rfl rfl)
theorem dX1_cake_20 : decode cX1_cake 20 = .ok (.ireturn, 1) := dk_172 (dk_at dksX1_cake_0 20 rfl rfl)
abbrev cX1_rosin : ByteArray := prog_1_method_21_code
def yX1_rosin : MethodName := ⟨RX1, "rosin", "(II)I"⟩
def dkwX1_rosin_1 : List UInt8 := [172]
abbrev dktX1_rosin_1 : List UInt8 := dkwX1_rosin_1 ++ []
def dkwX1_rosin_0 : List UInt8 := [42, 187, 0, 129, 89, 18, 152, 5, 188, 10, 89, 3, 27, 79, 89, 4, 28, 79, 183, 0, 133, 182, 0, 136]
abbrev dktX1_rosin_0 : List UInt8 := dkwX1_rosin_0 ++ dktX1_rosin_1
theorem dksX1_rosin_0 : cX1_rosin.data.toList.drop 0 = dktX1_rosin_0 := by decide +kernel
theorem dksX1_rosin_1 : cX1_rosin.data.toList.drop 24 = dktX1_rosin_1 := dk_seg dksX1_rosin_0 24 rfl rfl
theorem dX1_rosin_0 : decode cX1_rosin 0 = .ok (.aload_n 0, 1) := dk_42 (dk_at dksX1_rosin_0 0 rfl rfl)
theorem dX1_rosin_1 : decode cX1_rosin 1 = .ok (.new 129, 3) := dk_187 0 129 (dk_at dksX1_rosin_0 1 rfl rfl)
theorem dX1_rosin_4 : decode cX1_rosin 4 = .ok (.dup, 1) := dk_89 (dk_at dksX1_rosin_0 4 rfl rfl)
theorem dX1_rosin_5 : decode cX1_rosin 5 = .ok (.ldc 152, 2) := dk_18 152 (dk_at dksX1_rosin_0 5 rfl rfl)
theorem dX1_rosin_7 : decode cX1_rosin 7 = .ok (.iconst 2, 1) := dk_5 (dk_at dksX1_rosin_0 7 rfl rfl)
theorem dX1_rosin_8 : decode cX1_rosin 8 = .ok (.newarray .int, 2) := dk_188_10 (dk_at dksX1_rosin_0 8 rfl rfl)
theorem dX1_rosin_10 : decode cX1_rosin 10 = .ok (.dup, 1) := dk_89 (dk_at dksX1_rosin_0 10 rfl rfl)
theorem dX1_rosin_11 : decode cX1_rosin 11 = .ok (.iconst 0, 1) := dk_3 (dk_at dksX1_rosin_0 11 rfl rfl)
theorem dX1_rosin_12 : decode cX1_rosin 12 = .ok (.iload_n 1, 1) := dk_27 (dk_at dksX1_rosin_0 12 rfl rfl)
theorem dX1_rosin_13 : decode cX1_rosin 13 = .ok (.iastore, 1) := dk_79 (dk_at dksX1_rosin_0 13 rfl rfl)
theorem dX1_rosin_14 : decode cX1_rosin 14 = .ok (.dup, 1) := dk_89 (dk_at dksX1_rosin_0 14 rfl rfl)
theorem dX1_rosin_15 : decode cX1_rosin 15 = .ok (.iconst 1, 1) := dk_4 (dk_at dksX1_rosin_0 15 rfl rfl)
theorem dX1_rosin_16 : decode cX1_rosin 16 = .ok (.iload_n 2, 1) := dk_28 (dk_at dksX1_rosin_0 16 rfl rfl)
theorem dX1_rosin_17 : decode cX1_rosin 17 = .ok (.iastore, 1) := dk_79 (dk_at dksX1_rosin_0 17 rfl rfl)
theorem dX1_rosin_18 : decode cX1_rosin 18 = .ok (.invokespecial 133, 3) := dk_183 0 133 (dk_at dksX1_rosin_0 18 rfl rfl)
theorem dX1_rosin_21 : decode cX1_rosin 21 = .ok (.invokevirtual 136, 3) := dk_182 0 136 (dk_at dksX1_rosin_0 21 rfl rfl)
theorem dX1_rosin_24 : decode cX1_rosin 24 = .ok (.ireturn, 1) := dk_172 (dk_at dksX1_rosin_1 0 rfl rfl)
abbrev cX1_play : ByteArray := prog_1_method_22_code
def yX1_play : MethodName := ⟨RX1, "play", "(II)I"⟩
def dkwX1_play_1 : List UInt8 := [172]
abbrev dktX1_play_1 : List UInt8 := dkwX1_play_1 ++ []
def dkwX1_play_0 : List UInt8 := [42, 187, 0, 129, 89, 18, 154, 5, 188, 10, 89, 3, 27, 79, 89, 4, 28, 79, 183, 0, 133, 182, 0, 136]
abbrev dktX1_play_0 : List UInt8 := dkwX1_play_0 ++ dktX1_play_1
theorem dksX1_play_0 : cX1_play.data.toList.drop 0 = dktX1_play_0 := by decide +kernel
theorem dksX1_play_1 : cX1_play.data.toList.drop 24 = dktX1_play_1 := dk_seg dksX1_play_0 24 rfl rfl
theorem dX1_play_0 : decode cX1_play 0 = .ok (.aload_n 0, 1) := dk_42 (dk_at dksX1_play_0 0 rfl rfl)
theorem dX1_play_1 : decode cX1_play 1 = .ok (.new 129, 3) := dk_187 0 129 (dk_at dksX1_play_0 1 rfl rfl)
theorem dX1_play_4 : decode cX1_play 4 = .ok (.dup, 1) := dk_89 (dk_at dksX1_play_0 4 rfl rfl)
theorem dX1_play_5 : decode cX1_play 5 = .ok (.ldc 154, 2) := dk_18 154 (dk_at dksX1_play_0 5 rfl rfl)
theorem dX1_play_7 : decode cX1_play 7 = .ok (.iconst 2, 1) := dk_5 (dk_at dksX1_play_0 7 rfl rfl)
theorem dX1_play_8 : decode cX1_play 8 = .ok (.newarray .int, 2) := dk_188_10 (dk_at dksX1_play_0 8 rfl rfl)
theorem dX1_play_10 : decode cX1_play 10 = .ok (.dup, 1) := dk_89 (dk_at dksX1_play_0 10 rfl rfl)
theorem dX1_play_11 : decode cX1_play 11 = .ok (.iconst 0, 1) := dk_3 (dk_at dksX1_play_0 11 rfl rfl)
theorem dX1_play_12 : decode cX1_play 12 = .ok (.iload_n 1, 1) := dk_27 (dk_at dksX1_play_0 12 rfl rfl)
theorem dX1_play_13 : decode cX1_play 13 = .ok (.iastore, 1) := dk_79 (dk_at dksX1_play_0 13 rfl rfl)
theorem dX1_play_14 : decode cX1_play 14 = .ok (.dup, 1) := dk_89 (dk_at dksX1_play_0 14 rfl rfl)
theorem dX1_play_15 : decode cX1_play 15 = .ok (.iconst 1, 1) := dk_4 (dk_at dksX1_play_0 15 rfl rfl)
theorem dX1_play_16 : decode cX1_play 16 = .ok (.iload_n 2, 1) := dk_28 (dk_at dksX1_play_0 16 rfl rfl)
theorem dX1_play_17 : decode cX1_play 17 = .ok (.iastore, 1) := dk_79 (dk_at dksX1_play_0 17 rfl rfl)
theorem dX1_play_18 : decode cX1_play 18 = .ok (.invokespecial 133, 3) := dk_183 0 133 (dk_at dksX1_play_0 18 rfl rfl)
theorem dX1_play_21 : decode cX1_play 21 = .ok (.invokevirtual 136, 3) := dk_182 0 136 (dk_at dksX1_play_0 21 rfl rfl)
theorem dX1_play_24 : decode cX1_play 24 = .ok (.ireturn, 1) := dk_172 (dk_at dksX1_play_1 0 rfl rfl)
abbrev cX1_road : ByteArray := prog_1_method_23_code
def yX1_road : MethodName := ⟨RX1, "road", "(II)I"⟩
def dkwX1_road_1 : List UInt8 := [172]
abbrev dktX1_road_1 : List UInt8 := dkwX1_road_1 ++ []
def dkwX1_road_0 : List UInt8 := [42, 187, 0, 129, 89, 18, 156, 5, 188, 10, 89, 3, 27, 79, 89, 4, 28, 79, 183, 0, 133, 182, 0, 136]
abbrev dktX1_road_0 : List UInt8 := dkwX1_road_0 ++ dktX1_road_1
theorem dksX1_road_0 : cX1_road.data.toList.drop 0 = dktX1_road_0 := by decide +kernel
theorem dksX1_road_1 : cX1_road.data.toList.drop 24 = dktX1_road_1 := dk_seg dksX1_road_0 24 rfl rfl
theorem dX1_road_0 : decode cX1_road 0 = .ok (.aload_n 0, 1) := dk_42 (dk_at dksX1_road_0 0 rfl rfl)
theorem dX1_road_1 : decode cX1_road 1 = .ok (.new 129, 3) := dk_187 0 129 (dk_at dksX1_road_0 1 rfl rfl)
theorem dX1_road_4 : decode cX1_road 4 = .ok (.dup, 1) := dk_89 (dk_at dksX1_road_0 4 rfl rfl)
theorem dX1_road_5 : decode cX1_road 5 = .ok (.ldc 156, 2) := dk_18 156 (dk_at dksX1_road_0 5 rfl rfl)
theorem dX1_road_7 : decode cX1_road 7 = .ok (.iconst 2, 1) := dk_5 (dk_at dksX1_road_0 7 rfl rfl)
theorem dX1_road_8 : decode cX1_road 8 = .ok (.newarray .int, 2) := dk_188_10 (dk_at dksX1_road_0 8 rfl rfl)
theorem dX1_road_10 : decode cX1_road 10 = .ok (.dup, 1) := dk_89 (dk_at dksX1_road_0 10 rfl rfl)
theorem dX1_road_11 : decode cX1_road 11 = .ok (.iconst 0, 1) := dk_3 (dk_at dksX1_road_0 11 rfl rfl)
theorem dX1_road_12 : decode cX1_road 12 = .ok (.iload_n 1, 1) := dk_27 (dk_at dksX1_road_0 12 rfl rfl)
theorem dX1_road_13 : decode cX1_road 13 = .ok (.iastore, 1) := dk_79 (dk_at dksX1_road_0 13 rfl rfl)
theorem dX1_road_14 : decode cX1_road 14 = .ok (.dup, 1) := dk_89 (dk_at dksX1_road_0 14 rfl rfl)
theorem dX1_road_15 : decode cX1_road 15 = .ok (.iconst 1, 1) := dk_4 (dk_at dksX1_road_0 15 rfl rfl)
theorem dX1_road_16 : decode cX1_road 16 = .ok (.iload_n 2, 1) := dk_28 (dk_at dksX1_road_0 16 rfl rfl)
theorem dX1_road_17 : decode cX1_road 17 = .ok (.iastore, 1) := dk_79 (dk_at dksX1_road_0 17 rfl rfl)
theorem dX1_road_18 : decode cX1_road 18 = .ok (.invokespecial 133, 3) := dk_183 0 133 (dk_at dksX1_road_0 18 rfl rfl)
theorem dX1_road_21 : decode cX1_road 21 = .ok (.invokevirtual 136, 3) := dk_182 0 136 (dk_at dksX1_road_0 21 rfl rfl)
theorem dX1_road_24 : decode cX1_road 24 = .ok (.ireturn, 1) := dk_172 (dk_at dksX1_road_1 0 rfl rfl)
abbrev cX1_walk : ByteArray := prog_1_method_24_code
def yX1_walk : MethodName := ⟨RX1, "walk", "(I)I"⟩
def dkwX1_walk_0 : List UInt8 := [42, 187, 0, 129, 89, 18, 158, 4, 188, 10, 89, 3, 27, 79, 183, 0, 133, 182, 0, 136, 172]
abbrev dktX1_walk_0 : List UInt8 := dkwX1_walk_0 ++ []
theorem dksX1_walk_0 : cX1_walk.data.toList.drop 0 = dktX1_walk_0 := by decide +kernel
theorem dX1_walk_0 : decode cX1_walk 0 = .ok (.aload_n 0, 1) := dk_42 (dk_at dksX1_walk_0 0 rfl rfl)
theorem dX1_walk_1 : decode cX1_walk 1 = .ok (.new 129, 3) := dk_187 0 129 (dk_at dksX1_walk_0 1 rfl rfl)
theorem dX1_walk_4 : decode cX1_walk 4 = .ok (.dup, 1) := dk_89 (dk_at dksX1_walk_0 4 rfl rfl)
theorem dX1_walk_5 : decode cX1_walk 5 = .ok (.ldc 158, 2) := dk_18 158 (dk_at dksX1_walk_0 5 rfl rfl)
theorem dX1_walk_7 : decode cX1_walk 7 = .ok (.iconst 1, 1) := dk_4 (dk_at dksX1_walk_0 7 rfl rfl)
theorem dX1_walk_8 : decode cX1_walk 8 = .ok (.newarray .int, 2) := dk_188_10 (dk_at dksX1_walk_0 8 rfl rfl)
theorem dX1_walk_10 : decode cX1_walk 10 = .ok (.dup, 1) := dk_89 (dk_at dksX1_walk_0 10 rfl rfl)
theorem dX1_walk_11 : decode cX1_walk 11 = .ok (.iconst 0, 1) := dk_3 (dk_at dksX1_walk_0 11 rfl rfl)
theorem dX1_walk_12 : decode cX1_walk 12 = .ok (.iload_n 1, 1) := dk_27 (dk_at dksX1_walk_0 12 rfl rfl)
theorem dX1_walk_13 : decode cX1_walk 13 = .ok (.iastore, 1) := dk_79 (dk_at dksX1_walk_0 13 rfl rfl)
theorem dX1_walk_14 : decode cX1_walk 14 = .ok (.invokespecial 133, 3) := dk_183 0 133 (dk_at dksX1_walk_0 14 rfl rfl)
theorem dX1_walk_17 : decode cX1_walk 17 = .ok (.invokevirtual 136, 3) := dk_182 0 136 (dk_at dksX1_walk_0 17 rfl rfl)
theorem dX1_walk_20 : decode cX1_walk 20 = .ok (.ireturn, 1) := dk_172 (dk_at dksX1_walk_0 20 rfl rfl)
abbrev cX1_sell : ByteArray := prog_1_method_25_code
def yX1_sell : MethodName := ⟨RX1, "sell", "(I)I"⟩
def dkwX1_sell_0 : List UInt8 := [42, 187, 0, 129, 89, 18, 160, 4, 188, 10, 89, 3, 27, 79, 183, 0, 133, 182, 0, 136, 172]
abbrev dktX1_sell_0 : List UInt8 := dkwX1_sell_0 ++ []
theorem dksX1_sell_0 : cX1_sell.data.toList.drop 0 = dktX1_sell_0 := by decide +kernel
theorem dX1_sell_0 : decode cX1_sell 0 = .ok (.aload_n 0, 1) := dk_42 (dk_at dksX1_sell_0 0 rfl rfl)
theorem dX1_sell_1 : decode cX1_sell 1 = .ok (.new 129, 3) := dk_187 0 129 (dk_at dksX1_sell_0 1 rfl rfl)
theorem dX1_sell_4 : decode cX1_sell 4 = .ok (.dup, 1) := dk_89 (dk_at dksX1_sell_0 4 rfl rfl)
theorem dX1_sell_5 : decode cX1_sell 5 = .ok (.ldc 160, 2) := dk_18 160 (dk_at dksX1_sell_0 5 rfl rfl)
theorem dX1_sell_7 : decode cX1_sell 7 = .ok (.iconst 1, 1) := dk_4 (dk_at dksX1_sell_0 7 rfl rfl)
theorem dX1_sell_8 : decode cX1_sell 8 = .ok (.newarray .int, 2) := dk_188_10 (dk_at dksX1_sell_0 8 rfl rfl)
theorem dX1_sell_10 : decode cX1_sell 10 = .ok (.dup, 1) := dk_89 (dk_at dksX1_sell_0 10 rfl rfl)
theorem dX1_sell_11 : decode cX1_sell 11 = .ok (.iconst 0, 1) := dk_3 (dk_at dksX1_sell_0 11 rfl rfl)
theorem dX1_sell_12 : decode cX1_sell 12 = .ok (.iload_n 1, 1) := dk_27 (dk_at dksX1_sell_0 12 rfl rfl)
theorem dX1_sell_13 : decode cX1_sell 13 = .ok (.iastore, 1) := dk_79 (dk_at dksX1_sell_0 13 rfl rfl)
theorem dX1_sell_14 : decode cX1_sell 14 = .ok (.invokespecial 133, 3) := dk_183 0 133 (dk_at dksX1_sell_0 14 rfl rfl)
theorem dX1_sell_17 : decode cX1_sell 17 = .ok (.invokevirtual 136, 3) := dk_182 0 136 (dk_at dksX1_sell_0 17 rfl rfl)
theorem dX1_sell_20 : decode cX1_sell 20 = .ok (.ireturn, 1) := dk_172 (dk_at dksX1_sell_0 20 rfl rfl)
abbrev cX1_paid : ByteArray := prog_1_method_26_code
def yX1_paid : MethodName := ⟨RX1, "paid", "(I)I"⟩
def dkwX1_paid_0 : List UInt8 := [42, 187, 0, 129, 89, 18, 162, 4, 188, 10, 89, 3, 27, 79, 183, 0, 133, 182, 0, 136, 172]
abbrev dktX1_paid_0 : List UInt8 := dkwX1_paid_0 ++ []
theorem dksX1_paid_0 : cX1_paid.data.toList.drop 0 = dktX1_paid_0 := by decide +kernel
theorem dX1_paid_0 : decode cX1_paid 0 = .ok (.aload_n 0, 1) := dk_42 (dk_at dksX1_paid_0 0 rfl rfl)
theorem dX1_paid_1 : decode cX1_paid 1 = .ok (.new 129, 3) := dk_187 0 129 (dk_at dksX1_paid_0 1 rfl rfl)
theorem dX1_paid_4 : decode cX1_paid 4 = .ok (.dup, 1) := dk_89 (dk_at dksX1_paid_0 4 rfl rfl)
theorem dX1_paid_5 : decode cX1_paid 5 = .ok (.ldc 162, 2) := dk_18 162 (dk_at dksX1_paid_0 5 rfl rfl)
theorem dX1_paid_7 : decode cX1_paid 7 = .ok (.iconst 1, 1) := dk_4 (dk_at dksX1_paid_0 7 rfl rfl)
theorem dX1_paid_8 : decode cX1_paid 8 = .ok (.newarray .int, 2) := dk_188_10 (dk_at dksX1_paid_0 8 rfl rfl)
theorem dX1_paid_10 : decode cX1_paid 10 = .ok (.dup, 1) := dk_89 (dk_at dksX1_paid_0 10 rfl rfl)
theorem dX1_paid_11 : decode cX1_paid 11 = .ok (.iconst 0, 1) := dk_3 (dk_at dksX1_paid_0 11 rfl rfl)
theorem dX1_paid_12 : decode cX1_paid 12 = .ok (.iload_n 1, 1) := dk_27 (dk_at dksX1_paid_0 12 rfl rfl)
theorem dX1_paid_13 : decode cX1_paid 13 = .ok (.iastore, 1) := dk_79 (dk_at dksX1_paid_0 13 rfl rfl)
theorem dX1_paid_14 : decode cX1_paid 14 = .ok (.invokespecial 133, 3) := dk_183 0 133 (dk_at dksX1_paid_0 14 rfl rfl)
theorem dX1_paid_17 : decode cX1_paid 17 = .ok (.invokevirtual 136, 3) := dk_182 0 136 (dk_at dksX1_paid_0 17 rfl rfl)
theorem dX1_paid_20 : decode cX1_paid 20 = .ok (.ireturn, 1) := dk_172 (dk_at dksX1_paid_0 20 rfl rfl)
abbrev cX1_tailOf : ByteArray := prog_1_method_28_code
def yX1_tailOf : MethodName := ⟨RX1, "tailOf", "(II)I"⟩
def dkwX1_tailOf_3 : List UInt8 := [172, 187, 0, 7, 89, 183, 0, 9, 191]
abbrev dktX1_tailOf_3 : List UInt8 := dkwX1_tailOf_3 ++ []
def dkwX1_tailOf_2 : List UInt8 := [45, 180, 0, 187, 172, 45, 180, 0, 190, 172, 45, 180, 0, 193, 172, 45, 180, 0, 195, 172, 45, 182, 0, 198]
abbrev dktX1_tailOf_2 : List UInt8 := dkwX1_tailOf_2 ++ dktX1_tailOf_3
def dkwX1_tailOf_1 : List UInt8 := [170, 0, 0, 0, 0, 0, 0, 61, 0, 0, 0, 0, 0, 0, 0, 4, 0, 0, 0, 36, 0, 0, 0, 41, 0, 0, 0, 46, 0, 0, 0, 51, 0, 0, 0, 56]
abbrev dktX1_tailOf_1 : List UInt8 := dkwX1_tailOf_1 ++ dktX1_tailOf_2
def dkwX1_tailOf_0 : List UInt8 := [42, 180, 0, 64, 180, 0, 177, 27, 184, 0, 181, 192, 0, 185, 78, 28]
abbrev dktX1_tailOf_0 : List UInt8 := dkwX1_tailOf_0 ++ dktX1_tailOf_1
theorem dksX1_tailOf_0 : cX1_tailOf.data.toList.drop 0 = dktX1_tailOf_0 := by decide +kernel
theorem dksX1_tailOf_1 : cX1_tailOf.data.toList.drop 16 = dktX1_tailOf_1 := dk_seg dksX1_tailOf_0 16 rfl rfl
theorem dksX1_tailOf_2 : cX1_tailOf.data.toList.drop 52 = dktX1_tailOf_2 := dk_seg dksX1_tailOf_1 36 rfl rfl
theorem dksX1_tailOf_3 : cX1_tailOf.data.toList.drop 76 = dktX1_tailOf_3 := dk_seg dksX1_tailOf_2 24 rfl rfl
theorem dX1_tailOf_0 : decode cX1_tailOf 0 = .ok (.aload_n 0, 1) := dk_42 (dk_at dksX1_tailOf_0 0 rfl rfl)
theorem dX1_tailOf_1 : decode cX1_tailOf 1 = .ok (.getfield 64, 3) := dk_180 0 64 (dk_at dksX1_tailOf_0 1 rfl rfl)
theorem dX1_tailOf_4 : decode cX1_tailOf 4 = .ok (.getfield 177, 3) := dk_180 0 177 (dk_at dksX1_tailOf_0 4 rfl rfl)
theorem dX1_tailOf_7 : decode cX1_tailOf 7 = .ok (.iload_n 1, 1) := dk_27 (dk_at dksX1_tailOf_0 7 rfl rfl)
theorem dX1_tailOf_8 : decode cX1_tailOf 8 = .ok (.invokestatic 181, 3) := dk_184 0 181 (dk_at dksX1_tailOf_0 8 rfl rfl)
theorem dX1_tailOf_11 : decode cX1_tailOf 11 = .ok (.checkcast 185, 3) := dk_192 0 185 (dk_at dksX1_tailOf_0 11 rfl rfl)
theorem dX1_tailOf_14 : decode cX1_tailOf 14 = .ok (.astore_n 3, 1) := dk_78 (dk_at dksX1_tailOf_0 14 rfl rfl)
theorem dX1_tailOf_15 : decode cX1_tailOf 15 = .ok (.iload_n 2, 1) := dk_28 (dk_at dksX1_tailOf_0 15 rfl rfl)
theorem dX1_tailOf_16 : decode cX1_tailOf 16 = .ok (.tableswitch 61 0 4 #[36, 41, 46, 51, 56], 36) := by decide +kernel
theorem dX1_tailOf_52 : decode cX1_tailOf 52 = .ok (.aload_n 3, 1) := dk_45 (dk_at dksX1_tailOf_2 0 rfl rfl)
theorem dX1_tailOf_53 : decode cX1_tailOf 53 = .ok (.getfield 187, 3) := dk_180 0 187 (dk_at dksX1_tailOf_2 1 rfl rfl)
theorem dX1_tailOf_56 : decode cX1_tailOf 56 = .ok (.ireturn, 1) := dk_172 (dk_at dksX1_tailOf_2 4 rfl rfl)
theorem dX1_tailOf_57 : decode cX1_tailOf 57 = .ok (.aload_n 3, 1) := dk_45 (dk_at dksX1_tailOf_2 5 rfl rfl)
theorem dX1_tailOf_58 : decode cX1_tailOf 58 = .ok (.getfield 190, 3) := dk_180 0 190 (dk_at dksX1_tailOf_2 6 rfl rfl)
theorem dX1_tailOf_61 : decode cX1_tailOf 61 = .ok (.ireturn, 1) := dk_172 (dk_at dksX1_tailOf_2 9 rfl rfl)
theorem dX1_tailOf_62 : decode cX1_tailOf 62 = .ok (.aload_n 3, 1) := dk_45 (dk_at dksX1_tailOf_2 10 rfl rfl)
theorem dX1_tailOf_63 : decode cX1_tailOf 63 = .ok (.getfield 193, 3) := dk_180 0 193 (dk_at dksX1_tailOf_2 11 rfl rfl)
theorem dX1_tailOf_66 : decode cX1_tailOf 66 = .ok (.ireturn, 1) := dk_172 (dk_at dksX1_tailOf_2 14 rfl rfl)
theorem dX1_tailOf_67 : decode cX1_tailOf 67 = .ok (.aload_n 3, 1) := dk_45 (dk_at dksX1_tailOf_2 15 rfl rfl)
theorem dX1_tailOf_68 : decode cX1_tailOf 68 = .ok (.getfield 195, 3) := dk_180 0 195 (dk_at dksX1_tailOf_2 16 rfl rfl)
theorem dX1_tailOf_71 : decode cX1_tailOf 71 = .ok (.ireturn, 1) := dk_172 (dk_at dksX1_tailOf_2 19 rfl rfl)
theorem dX1_tailOf_72 : decode cX1_tailOf 72 = .ok (.aload_n 3, 1) := dk_45 (dk_at dksX1_tailOf_2 20 rfl rfl)
theorem dX1_tailOf_73 : decode cX1_tailOf 73 = .ok (.invokevirtual 198, 3) := dk_182 0 198 (dk_at dksX1_tailOf_2 21 rfl rfl)
theorem dX1_tailOf_76 : decode cX1_tailOf 76 = .ok (.ireturn, 1) := dk_172 (dk_at dksX1_tailOf_3 0 rfl rfl)
theorem dX1_tailOf_77 : decode cX1_tailOf 77 = .ok (.new 7, 3) := dk_187 0 7 (dk_at dksX1_tailOf_3 1 rfl rfl)
theorem dX1_tailOf_80 : decode cX1_tailOf 80 = .ok (.dup, 1) := dk_89 (dk_at dksX1_tailOf_3 4 rfl rfl)
theorem dX1_tailOf_81 : decode cX1_tailOf 81 = .ok (.invokespecial 9, 3) := dk_183 0 9 (dk_at dksX1_tailOf_3 5 rfl rfl)
theorem dX1_tailOf_84 : decode cX1_tailOf 84 = .ok (.athrow, 1) := dk_191 (dk_at dksX1_tailOf_3 8 rfl rfl)
abbrev cX1_required : ByteArray := prog_1_method_27_code
def yX1_required : MethodName := ⟨RX1, "required", "(LHorsehairTrade$Row;I)LHorsehairTrade$Copied;"⟩
def dkwX1_required_0 : List UInt8 := [42, 27, 182, 0, 164, 184, 0, 170, 42, 27, 182, 0, 174, 176]
abbrev dktX1_required_0 : List UInt8 := dkwX1_required_0 ++ []
theorem dksX1_required_0 : cX1_required.data.toList.drop 0 = dktX1_required_0 := by decide +kernel
theorem dX1_required_0 : decode cX1_required 0 = .ok (.aload_n 0, 1) := dk_42 (dk_at dksX1_required_0 0 rfl rfl)
theorem dX1_required_1 : decode cX1_required 1 = .ok (.iload_n 1, 1) := dk_27 (dk_at dksX1_required_0 1 rfl rfl)
theorem dX1_required_2 : decode cX1_required 2 = .ok (.invokevirtual 164, 3) := dk_182 0 164 (dk_at dksX1_required_0 2 rfl rfl)
theorem dX1_required_5 : decode cX1_required 5 = .ok (.invokestatic 170, 3) := dk_184 0 170 (dk_at dksX1_required_0 5 rfl rfl)
theorem dX1_required_8 : decode cX1_required 8 = .ok (.aload_n 0, 1) := dk_42 (dk_at dksX1_required_0 8 rfl rfl)
theorem dX1_required_9 : decode cX1_required 9 = .ok (.iload_n 1, 1) := dk_27 (dk_at dksX1_required_0 9 rfl rfl)
theorem dX1_required_10 : decode cX1_required 10 = .ok (.invokevirtual 174, 3) := dk_182 0 174 (dk_at dksX1_required_0 10 rfl rfl)
theorem dX1_required_13 : decode cX1_required 13 = .ok (.areturn, 1) := dk_176 (dk_at dksX1_required_0 13 rfl rfl)
abbrev cX1_requireIndex : ByteArray := prog_1_method_2_code
def yX1_requireIndex : MethodName := ⟨RX1, "requireIndex", "(Z)V"⟩
def dkwX1_requireIndex_0 : List UInt8 := [26, 154, 0, 11, 187, 0, 1, 89, 183, 0, 3, 191, 177]
abbrev dktX1_requireIndex_0 : List UInt8 := dkwX1_requireIndex_0 ++ []
theorem dksX1_requireIndex_0 : cX1_requireIndex.data.toList.drop 0 = dktX1_requireIndex_0 := by decide +kernel
theorem dX1_requireIndex_0 : decode cX1_requireIndex 0 = .ok (.iload_n 0, 1) := dk_26 (dk_at dksX1_requireIndex_0 0 rfl rfl)
theorem dX1_requireIndex_1 : decode cX1_requireIndex 1 = .ok (.ifCond .ne 11, 3) := dk_154 0 11 (dk_at dksX1_requireIndex_0 1 rfl rfl)
theorem dX1_requireIndex_4 : decode cX1_requireIndex 4 = .ok (.new 1, 3) := dk_187 0 1 (dk_at dksX1_requireIndex_0 4 rfl rfl)
theorem dX1_requireIndex_7 : decode cX1_requireIndex 7 = .ok (.dup, 1) := dk_89 (dk_at dksX1_requireIndex_0 7 rfl rfl)
theorem dX1_requireIndex_8 : decode cX1_requireIndex 8 = .ok (.invokespecial 3, 3) := dk_183 0 3 (dk_at dksX1_requireIndex_0 8 rfl rfl)
theorem dX1_requireIndex_11 : decode cX1_requireIndex 11 = .ok (.athrow, 1) := dk_191 (dk_at dksX1_requireIndex_0 11 rfl rfl)
theorem dX1_requireIndex_12 : decode cX1_requireIndex 12 = .ok (.return_, 1) := dk_177 (dk_at dksX1_requireIndex_0 12 rfl rfl)
abbrev cX1_hankOf : ByteArray := prog_1_method_29_code
def yX1_hankOf : MethodName := ⟨RX1, "hankOf", "(II)I"⟩
def dkwX1_hankOf_3 : List UInt8 := [183, 0, 9, 191]
abbrev dktX1_hankOf_3 : List UInt8 := dkwX1_hankOf_3 ++ []
def dkwX1_hankOf_2 : List UInt8 := [45, 180, 0, 205, 172, 45, 180, 0, 206, 172, 45, 180, 0, 207, 172, 45, 180, 0, 208, 172, 187, 0, 7, 89]
abbrev dktX1_hankOf_2 : List UInt8 := dkwX1_hankOf_2 ++ dktX1_hankOf_3
def dkwX1_hankOf_1 : List UInt8 := [170, 0, 0, 0, 0, 0, 0, 52, 0, 0, 0, 0, 0, 0, 0, 3, 0, 0, 0, 32, 0, 0, 0, 37, 0, 0, 0, 42, 0, 0, 0, 47]
abbrev dktX1_hankOf_1 : List UInt8 := dkwX1_hankOf_1 ++ dktX1_hankOf_2
def dkwX1_hankOf_0 : List UInt8 := [42, 180, 0, 64, 180, 0, 201, 27, 184, 0, 181, 192, 0, 203, 78, 28]
abbrev dktX1_hankOf_0 : List UInt8 := dkwX1_hankOf_0 ++ dktX1_hankOf_1
theorem dksX1_hankOf_0 : cX1_hankOf.data.toList.drop 0 = dktX1_hankOf_0 := by decide +kernel
theorem dksX1_hankOf_1 : cX1_hankOf.data.toList.drop 16 = dktX1_hankOf_1 := dk_seg dksX1_hankOf_0 16 rfl rfl
theorem dksX1_hankOf_2 : cX1_hankOf.data.toList.drop 48 = dktX1_hankOf_2 := dk_seg dksX1_hankOf_1 32 rfl rfl
theorem dksX1_hankOf_3 : cX1_hankOf.data.toList.drop 72 = dktX1_hankOf_3 := dk_seg dksX1_hankOf_2 24 rfl rfl
theorem dX1_hankOf_0 : decode cX1_hankOf 0 = .ok (.aload_n 0, 1) := dk_42 (dk_at dksX1_hankOf_0 0 rfl rfl)
theorem dX1_hankOf_1 : decode cX1_hankOf 1 = .ok (.getfield 64, 3) := dk_180 0 64 (dk_at dksX1_hankOf_0 1 rfl rfl)
theorem dX1_hankOf_4 : decode cX1_hankOf 4 = .ok (.getfield 201, 3) := dk_180 0 201 (dk_at dksX1_hankOf_0 4 rfl rfl)
theorem dX1_hankOf_7 : decode cX1_hankOf 7 = .ok (.iload_n 1, 1) := dk_27 (dk_at dksX1_hankOf_0 7 rfl rfl)
theorem dX1_hankOf_8 : decode cX1_hankOf 8 = .ok (.invokestatic 181, 3) := dk_184 0 181 (dk_at dksX1_hankOf_0 8 rfl rfl)
theorem dX1_hankOf_11 : decode cX1_hankOf 11 = .ok (.checkcast 203, 3) := dk_192 0 203 (dk_at dksX1_hankOf_0 11 rfl rfl)
theorem dX1_hankOf_14 : decode cX1_hankOf 14 = .ok (.astore_n 3, 1) := dk_78 (dk_at dksX1_hankOf_0 14 rfl rfl)
theorem dX1_hankOf_15 : decode cX1_hankOf 15 = .ok (.iload_n 2, 1) := dk_28 (dk_at dksX1_hankOf_0 15 rfl rfl)
theorem dX1_hankOf_16 : decode cX1_hankOf 16 = .ok (.tableswitch 52 0 3 #[32, 37, 42, 47], 32) := by decide +kernel
theorem dX1_hankOf_48 : decode cX1_hankOf 48 = .ok (.aload_n 3, 1) := dk_45 (dk_at dksX1_hankOf_2 0 rfl rfl)
theorem dX1_hankOf_49 : decode cX1_hankOf 49 = .ok (.getfield 205, 3) := dk_180 0 205 (dk_at dksX1_hankOf_2 1 rfl rfl)
theorem dX1_hankOf_52 : decode cX1_hankOf 52 = .ok (.ireturn, 1) := dk_172 (dk_at dksX1_hankOf_2 4 rfl rfl)
theorem dX1_hankOf_53 : decode cX1_hankOf 53 = .ok (.aload_n 3, 1) := dk_45 (dk_at dksX1_hankOf_2 5 rfl rfl)
theorem dX1_hankOf_54 : decode cX1_hankOf 54 = .ok (.getfield 206, 3) := dk_180 0 206 (dk_at dksX1_hankOf_2 6 rfl rfl)
theorem dX1_hankOf_57 : decode cX1_hankOf 57 = .ok (.ireturn, 1) := dk_172 (dk_at dksX1_hankOf_2 9 rfl rfl)
theorem dX1_hankOf_58 : decode cX1_hankOf 58 = .ok (.aload_n 3, 1) := dk_45 (dk_at dksX1_hankOf_2 10 rfl rfl)
theorem dX1_hankOf_59 : decode cX1_hankOf 59 = .ok (.getfield 207, 3) := dk_180 0 207 (dk_at dksX1_hankOf_2 11 rfl rfl)
theorem dX1_hankOf_62 : decode cX1_hankOf 62 = .ok (.ireturn, 1) := dk_172 (dk_at dksX1_hankOf_2 14 rfl rfl)
theorem dX1_hankOf_63 : decode cX1_hankOf 63 = .ok (.aload_n 3, 1) := dk_45 (dk_at dksX1_hankOf_2 15 rfl rfl)
theorem dX1_hankOf_64 : decode cX1_hankOf 64 = .ok (.getfield 208, 3) := dk_180 0 208 (dk_at dksX1_hankOf_2 16 rfl rfl)
theorem dX1_hankOf_67 : decode cX1_hankOf 67 = .ok (.ireturn, 1) := dk_172 (dk_at dksX1_hankOf_2 19 rfl rfl)
theorem dX1_hankOf_68 : decode cX1_hankOf 68 = .ok (.new 7, 3) := dk_187 0 7 (dk_at dksX1_hankOf_2 20 rfl rfl)
theorem dX1_hankOf_71 : decode cX1_hankOf 71 = .ok (.dup, 1) := dk_89 (dk_at dksX1_hankOf_2 23 rfl rfl)
theorem dX1_hankOf_72 : decode cX1_hankOf 72 = .ok (.invokespecial 9, 3) := dk_183 0 9 (dk_at dksX1_hankOf_3 0 rfl rfl)
theorem dX1_hankOf_75 : decode cX1_hankOf 75 = .ok (.athrow, 1) := dk_191 (dk_at dksX1_hankOf_3 3 rfl rfl)
abbrev cX1_bowOf : ByteArray := prog_1_method_30_code
def yX1_bowOf : MethodName := ⟨RX1, "bowOf", "(II)I"⟩
def dkwX1_bowOf_4 : List UInt8 := [183, 0, 9, 191]
abbrev dktX1_bowOf_4 : List UInt8 := dkwX1_bowOf_4 ++ []
def dkwX1_bowOf_3 : List UInt8 := [153, 0, 7, 4, 167, 0, 4, 3, 172, 45, 180, 0, 228, 172, 45, 180, 0, 231, 172, 187, 0, 7, 89]
abbrev dktX1_bowOf_3 : List UInt8 := dkwX1_bowOf_3 ++ dktX1_bowOf_4
def dkwX1_bowOf_2 : List UInt8 := [45, 180, 0, 215, 172, 45, 180, 0, 218, 172, 45, 180, 0, 219, 172, 45, 180, 0, 221, 172, 45, 180, 0, 224]
abbrev dktX1_bowOf_2 : List UInt8 := dkwX1_bowOf_2 ++ dktX1_bowOf_3
def dkwX1_bowOf_1 : List UInt8 := [170, 0, 0, 0, 0, 0, 0, 87, 0, 0, 0, 0, 0, 0, 0, 6, 0, 0, 0, 44, 0, 0, 0, 49, 0, 0, 0, 54, 0, 0, 0, 59, 0, 0, 0, 64, 0, 0, 0, 77, 0, 0, 0, 82]
abbrev dktX1_bowOf_1 : List UInt8 := dkwX1_bowOf_1 ++ dktX1_bowOf_2
def dkwX1_bowOf_0 : List UInt8 := [42, 180, 0, 64, 180, 0, 210, 27, 184, 0, 181, 192, 0, 213, 78, 28]
abbrev dktX1_bowOf_0 : List UInt8 := dkwX1_bowOf_0 ++ dktX1_bowOf_1
theorem dksX1_bowOf_0 : cX1_bowOf.data.toList.drop 0 = dktX1_bowOf_0 := by decide +kernel
theorem dksX1_bowOf_1 : cX1_bowOf.data.toList.drop 16 = dktX1_bowOf_1 := dk_seg dksX1_bowOf_0 16 rfl rfl
theorem dksX1_bowOf_2 : cX1_bowOf.data.toList.drop 60 = dktX1_bowOf_2 := dk_seg dksX1_bowOf_1 44 rfl rfl
theorem dksX1_bowOf_3 : cX1_bowOf.data.toList.drop 84 = dktX1_bowOf_3 := dk_seg dksX1_bowOf_2 24 rfl rfl
theorem dksX1_bowOf_4 : cX1_bowOf.data.toList.drop 107 = dktX1_bowOf_4 := dk_seg dksX1_bowOf_3 23 rfl rfl
theorem dX1_bowOf_0 : decode cX1_bowOf 0 = .ok (.aload_n 0, 1) := dk_42 (dk_at dksX1_bowOf_0 0 rfl rfl)
theorem dX1_bowOf_1 : decode cX1_bowOf 1 = .ok (.getfield 64, 3) := dk_180 0 64 (dk_at dksX1_bowOf_0 1 rfl rfl)
theorem dX1_bowOf_4 : decode cX1_bowOf 4 = .ok (.getfield 210, 3) := dk_180 0 210 (dk_at dksX1_bowOf_0 4 rfl rfl)
theorem dX1_bowOf_7 : decode cX1_bowOf 7 = .ok (.iload_n 1, 1) := dk_27 (dk_at dksX1_bowOf_0 7 rfl rfl)
theorem dX1_bowOf_8 : decode cX1_bowOf 8 = .ok (.invokestatic 181, 3) := dk_184 0 181 (dk_at dksX1_bowOf_0 8 rfl rfl)
theorem dX1_bowOf_11 : decode cX1_bowOf 11 = .ok (.checkcast 213, 3) := dk_192 0 213 (dk_at dksX1_bowOf_0 11 rfl rfl)
theorem dX1_bowOf_14 : decode cX1_bowOf 14 = .ok (.astore_n 3, 1) := dk_78 (dk_at dksX1_bowOf_0 14 rfl rfl)
theorem dX1_bowOf_15 : decode cX1_bowOf 15 = .ok (.iload_n 2, 1) := dk_28 (dk_at dksX1_bowOf_0 15 rfl rfl)
theorem dX1_bowOf_16 : decode cX1_bowOf 16 = .ok (.tableswitch 87 0 6 #[44, 49, 54, 59, 64, 77, 82], 44) := by decide +kernel
theorem dX1_bowOf_60 : decode cX1_bowOf 60 = .ok (.aload_n 3, 1) := dk_45 (dk_at dksX1_bowOf_2 0 rfl rfl)
theorem dX1_bowOf_61 : decode cX1_bowOf 61 = .ok (.getfield 215, 3) := dk_180 0 215 (dk_at dksX1_bowOf_2 1 rfl rfl)
theorem dX1_bowOf_64 : decode cX1_bowOf 64 = .ok (.ireturn, 1) := dk_172 (dk_at dksX1_bowOf_2 4 rfl rfl)
theorem dX1_bowOf_65 : decode cX1_bowOf 65 = .ok (.aload_n 3, 1) := dk_45 (dk_at dksX1_bowOf_2 5 rfl rfl)
theorem dX1_bowOf_66 : decode cX1_bowOf 66 = .ok (.getfield 218, 3) := dk_180 0 218 (dk_at dksX1_bowOf_2 6 rfl rfl)
theorem dX1_bowOf_69 : decode cX1_bowOf 69 = .ok (.ireturn, 1) := dk_172 (dk_at dksX1_bowOf_2 9 rfl rfl)
theorem dX1_bowOf_70 : decode cX1_bowOf 70 = .ok (.aload_n 3, 1) := dk_45 (dk_at dksX1_bowOf_2 10 rfl rfl)
theorem dX1_bowOf_71 : decode cX1_bowOf 71 = .ok (.getfield 219, 3) := dk_180 0 219 (dk_at dksX1_bowOf_2 11 rfl rfl)
theorem dX1_bowOf_74 : decode cX1_bowOf 74 = .ok (.ireturn, 1) := dk_172 (dk_at dksX1_bowOf_2 14 rfl rfl)
theorem dX1_bowOf_75 : decode cX1_bowOf 75 = .ok (.aload_n 3, 1) := dk_45 (dk_at dksX1_bowOf_2 15 rfl rfl)
theorem dX1_bowOf_76 : decode cX1_bowOf 76 = .ok (.getfield 221, 3) := dk_180 0 221 (dk_at dksX1_bowOf_2 16 rfl rfl)
theorem dX1_bowOf_79 : decode cX1_bowOf 79 = .ok (.ireturn, 1) := dk_172 (dk_at dksX1_bowOf_2 19 rfl rfl)
theorem dX1_bowOf_80 : decode cX1_bowOf 80 = .ok (.aload_n 3, 1) := dk_45 (dk_at dksX1_bowOf_2 20 rfl rfl)
theorem dX1_bowOf_81 : decode cX1_bowOf 81 = .ok (.getfield 224, 3) := dk_180 0 224 (dk_at dksX1_bowOf_2 21 rfl rfl)
theorem dX1_bowOf_84 : decode cX1_bowOf 84 = .ok (.ifCond .eq 7, 3) := dk_153 0 7 (dk_at dksX1_bowOf_3 0 rfl rfl)
theorem dX1_bowOf_87 : decode cX1_bowOf 87 = .ok (.iconst 1, 1) := dk_4 (dk_at dksX1_bowOf_3 3 rfl rfl)
theorem dX1_bowOf_88 : decode cX1_bowOf 88 = .ok (.goto 4, 3) := dk_167 0 4 (dk_at dksX1_bowOf_3 4 rfl rfl)
theorem dX1_bowOf_91 : decode cX1_bowOf 91 = .ok (.iconst 0, 1) := dk_3 (dk_at dksX1_bowOf_3 7 rfl rfl)
theorem dX1_bowOf_92 : decode cX1_bowOf 92 = .ok (.ireturn, 1) := dk_172 (dk_at dksX1_bowOf_3 8 rfl rfl)
theorem dX1_bowOf_93 : decode cX1_bowOf 93 = .ok (.aload_n 3, 1) := dk_45 (dk_at dksX1_bowOf_3 9 rfl rfl)
theorem dX1_bowOf_94 : decode cX1_bowOf 94 = .ok (.getfield 228, 3) := dk_180 0 228 (dk_at dksX1_bowOf_3 10 rfl rfl)
theorem dX1_bowOf_97 : decode cX1_bowOf 97 = .ok (.ireturn, 1) := dk_172 (dk_at dksX1_bowOf_3 13 rfl rfl)
theorem dX1_bowOf_98 : decode cX1_bowOf 98 = .ok (.aload_n 3, 1) := dk_45 (dk_at dksX1_bowOf_3 14 rfl rfl)
theorem dX1_bowOf_99 : decode cX1_bowOf 99 = .ok (.getfield 231, 3) := dk_180 0 231 (dk_at dksX1_bowOf_3 15 rfl rfl)
theorem dX1_bowOf_102 : decode cX1_bowOf 102 = .ok (.ireturn, 1) := dk_172 (dk_at dksX1_bowOf_3 18 rfl rfl)
theorem dX1_bowOf_103 : decode cX1_bowOf 103 = .ok (.new 7, 3) := dk_187 0 7 (dk_at dksX1_bowOf_3 19 rfl rfl)
theorem dX1_bowOf_106 : decode cX1_bowOf 106 = .ok (.dup, 1) := dk_89 (dk_at dksX1_bowOf_3 22 rfl rfl)
theorem dX1_bowOf_107 : decode cX1_bowOf 107 = .ok (.invokespecial 9, 3) := dk_183 0 9 (dk_at dksX1_bowOf_4 0 rfl rfl)
theorem dX1_bowOf_110 : decode cX1_bowOf 110 = .ok (.athrow, 1) := dk_191 (dk_at dksX1_bowOf_4 3 rfl rfl)
abbrev cX1_cakeOf : ByteArray := prog_1_method_31_code
def yX1_cakeOf : MethodName := ⟨RX1, "cakeOf", "(I)I"⟩
def dkwX1_cakeOf_0 : List UInt8 := [42, 180, 0, 64, 180, 0, 232, 27, 184, 0, 181, 192, 0, 235, 180, 0, 237, 172]
abbrev dktX1_cakeOf_0 : List UInt8 := dkwX1_cakeOf_0 ++ []
theorem dksX1_cakeOf_0 : cX1_cakeOf.data.toList.drop 0 = dktX1_cakeOf_0 := by decide +kernel
theorem dX1_cakeOf_0 : decode cX1_cakeOf 0 = .ok (.aload_n 0, 1) := dk_42 (dk_at dksX1_cakeOf_0 0 rfl rfl)
theorem dX1_cakeOf_1 : decode cX1_cakeOf 1 = .ok (.getfield 64, 3) := dk_180 0 64 (dk_at dksX1_cakeOf_0 1 rfl rfl)
theorem dX1_cakeOf_4 : decode cX1_cakeOf 4 = .ok (.getfield 232, 3) := dk_180 0 232 (dk_at dksX1_cakeOf_0 4 rfl rfl)
theorem dX1_cakeOf_7 : decode cX1_cakeOf 7 = .ok (.iload_n 1, 1) := dk_27 (dk_at dksX1_cakeOf_0 7 rfl rfl)
theorem dX1_cakeOf_8 : decode cX1_cakeOf 8 = .ok (.invokestatic 181, 3) := dk_184 0 181 (dk_at dksX1_cakeOf_0 8 rfl rfl)
theorem dX1_cakeOf_11 : decode cX1_cakeOf 11 = .ok (.checkcast 235, 3) := dk_192 0 235 (dk_at dksX1_cakeOf_0 11 rfl rfl)
theorem dX1_cakeOf_14 : decode cX1_cakeOf 14 = .ok (.getfield 237, 3) := dk_180 0 237 (dk_at dksX1_cakeOf_0 14 rfl rfl)
theorem dX1_cakeOf_17 : decode cX1_cakeOf 17 = .ok (.ireturn, 1) := dk_172 (dk_at dksX1_cakeOf_0 17 rfl rfl)
abbrev cX1_sieves : ByteArray := prog_1_method_32_code
def yX1_sieves : MethodName := ⟨RX1, "sieves", "(I)I"⟩
def dkwX1_sieves_0 : List UInt8 := [27, 4, 16, 9, 184, 0, 21, 184, 0, 239, 42, 180, 0, 64, 180, 0, 242, 27, 46, 172]
abbrev dktX1_sieves_0 : List UInt8 := dkwX1_sieves_0 ++ []
theorem dksX1_sieves_0 : cX1_sieves.data.toList.drop 0 = dktX1_sieves_0 := by decide +kernel
theorem dX1_sieves_0 : decode cX1_sieves 0 = .ok (.iload_n 1, 1) := dk_27 (dk_at dksX1_sieves_0 0 rfl rfl)
theorem dX1_sieves_1 : decode cX1_sieves 1 = .ok (.iconst 1, 1) := dk_4 (dk_at dksX1_sieves_0 1 rfl rfl)
theorem dX1_sieves_2 : decode cX1_sieves 2 = .ok (.bipush 9, 2) := dk_16 9 (dk_at dksX1_sieves_0 2 rfl rfl)
theorem dX1_sieves_4 : decode cX1_sieves 4 = .ok (.invokestatic 21, 3) := dk_184 0 21 (dk_at dksX1_sieves_0 4 rfl rfl)
theorem dX1_sieves_7 : decode cX1_sieves 7 = .ok (.invokestatic 239, 3) := dk_184 0 239 (dk_at dksX1_sieves_0 7 rfl rfl)
theorem dX1_sieves_10 : decode cX1_sieves 10 = .ok (.aload_n 0, 1) := dk_42 (dk_at dksX1_sieves_0 10 rfl rfl)
theorem dX1_sieves_11 : decode cX1_sieves 11 = .ok (.getfield 64, 3) := dk_180 0 64 (dk_at dksX1_sieves_0 11 rfl rfl)
theorem dX1_sieves_14 : decode cX1_sieves 14 = .ok (.getfield 242, 3) := dk_180 0 242 (dk_at dksX1_sieves_0 14 rfl rfl)
theorem dX1_sieves_17 : decode cX1_sieves 17 = .ok (.iload_n 1, 1) := dk_27 (dk_at dksX1_sieves_0 17 rfl rfl)
theorem dX1_sieves_18 : decode cX1_sieves 18 = .ok (.iaload, 1) := dk_46 (dk_at dksX1_sieves_0 18 rfl rfl)
theorem dX1_sieves_19 : decode cX1_sieves 19 = .ok (.ireturn, 1) := dk_172 (dk_at dksX1_sieves_0 19 rfl rfl)
abbrev cX1_require : ByteArray := prog_1_method_3_code
def yX1_require : MethodName := ⟨RX1, "require", "(Z)V"⟩
def dkwX1_require_0 : List UInt8 := [26, 154, 0, 11, 187, 0, 7, 89, 183, 0, 9, 191, 177]
abbrev dktX1_require_0 : List UInt8 := dkwX1_require_0 ++ []
theorem dksX1_require_0 : cX1_require.data.toList.drop 0 = dktX1_require_0 := by decide +kernel
theorem dX1_require_0 : decode cX1_require 0 = .ok (.iload_n 0, 1) := dk_26 (dk_at dksX1_require_0 0 rfl rfl)
theorem dX1_require_1 : decode cX1_require 1 = .ok (.ifCond .ne 11, 3) := dk_154 0 11 (dk_at dksX1_require_0 1 rfl rfl)
theorem dX1_require_4 : decode cX1_require 4 = .ok (.new 7, 3) := dk_187 0 7 (dk_at dksX1_require_0 4 rfl rfl)
theorem dX1_require_7 : decode cX1_require 7 = .ok (.dup, 1) := dk_89 (dk_at dksX1_require_0 7 rfl rfl)
theorem dX1_require_8 : decode cX1_require 8 = .ok (.invokespecial 9, 3) := dk_183 0 9 (dk_at dksX1_require_0 8 rfl rfl)
theorem dX1_require_11 : decode cX1_require 11 = .ok (.athrow, 1) := dk_191 (dk_at dksX1_require_0 11 rfl rfl)
theorem dX1_require_12 : decode cX1_require 12 = .ok (.return_, 1) := dk_177 (dk_at dksX1_require_0 12 rfl rfl)
abbrev cX1_bestHank : ByteArray := prog_1_method_33_code
def yX1_bestHank : MethodName := ⟨RX1, "bestHank", "(I)I"⟩
def dkwX1_bestHank_1 : List UInt8 := [61, 28, 2, 159, 0, 7, 4, 167, 0, 4, 3, 184, 0, 250, 28, 172]
abbrev dktX1_bestHank_1 : List UInt8 := dkwX1_bestHank_1 ++ []
def dkwX1_bestHank_0 : List UInt8 := [42, 180, 0, 64, 42, 180, 0, 64, 180, 0, 210, 27, 184, 0, 181, 192, 0, 213, 180, 0, 215, 182, 0, 246]
abbrev dktX1_bestHank_0 : List UInt8 := dkwX1_bestHank_0 ++ dktX1_bestHank_1
theorem dksX1_bestHank_0 : cX1_bestHank.data.toList.drop 0 = dktX1_bestHank_0 := by decide +kernel
theorem dksX1_bestHank_1 : cX1_bestHank.data.toList.drop 24 = dktX1_bestHank_1 := dk_seg dksX1_bestHank_0 24 rfl rfl
theorem dX1_bestHank_0 : decode cX1_bestHank 0 = .ok (.aload_n 0, 1) := dk_42 (dk_at dksX1_bestHank_0 0 rfl rfl)
theorem dX1_bestHank_1 : decode cX1_bestHank 1 = .ok (.getfield 64, 3) := dk_180 0 64 (dk_at dksX1_bestHank_0 1 rfl rfl)
theorem dX1_bestHank_4 : decode cX1_bestHank 4 = .ok (.aload_n 0, 1) := dk_42 (dk_at dksX1_bestHank_0 4 rfl rfl)
theorem dX1_bestHank_5 : decode cX1_bestHank 5 = .ok (.getfield 64, 3) := dk_180 0 64 (dk_at dksX1_bestHank_0 5 rfl rfl)
theorem dX1_bestHank_8 : decode cX1_bestHank 8 = .ok (.getfield 210, 3) := dk_180 0 210 (dk_at dksX1_bestHank_0 8 rfl rfl)
theorem dX1_bestHank_11 : decode cX1_bestHank 11 = .ok (.iload_n 1, 1) := dk_27 (dk_at dksX1_bestHank_0 11 rfl rfl)
theorem dX1_bestHank_12 : decode cX1_bestHank 12 = .ok (.invokestatic 181, 3) := dk_184 0 181 (dk_at dksX1_bestHank_0 12 rfl rfl)
theorem dX1_bestHank_15 : decode cX1_bestHank 15 = .ok (.checkcast 213, 3) := dk_192 0 213 (dk_at dksX1_bestHank_0 15 rfl rfl)
theorem dX1_bestHank_18 : decode cX1_bestHank 18 = .ok (.getfield 215, 3) := dk_180 0 215 (dk_at dksX1_bestHank_0 18 rfl rfl)
theorem dX1_bestHank_21 : decode cX1_bestHank 21 = .ok (.invokevirtual 246, 3) := dk_182 0 246 (dk_at dksX1_bestHank_0 21 rfl rfl)
theorem dX1_bestHank_24 : decode cX1_bestHank 24 = .ok (.istore_n 2, 1) := dk_61 (dk_at dksX1_bestHank_1 0 rfl rfl)
theorem dX1_bestHank_25 : decode cX1_bestHank 25 = .ok (.iload_n 2, 1) := dk_28 (dk_at dksX1_bestHank_1 1 rfl rfl)
theorem dX1_bestHank_26 : decode cX1_bestHank 26 = .ok (.iconst (-1), 1) := dk_2 (dk_at dksX1_bestHank_1 2 rfl rfl)
theorem dX1_bestHank_27 : decode cX1_bestHank 27 = .ok (.if_icmp .eq 7, 3) := dk_159 0 7 (dk_at dksX1_bestHank_1 3 rfl rfl)
theorem dX1_bestHank_30 : decode cX1_bestHank 30 = .ok (.iconst 1, 1) := dk_4 (dk_at dksX1_bestHank_1 6 rfl rfl)
theorem dX1_bestHank_31 : decode cX1_bestHank 31 = .ok (.goto 4, 3) := dk_167 0 4 (dk_at dksX1_bestHank_1 7 rfl rfl)
theorem dX1_bestHank_34 : decode cX1_bestHank 34 = .ok (.iconst 0, 1) := dk_3 (dk_at dksX1_bestHank_1 10 rfl rfl)
theorem dX1_bestHank_35 : decode cX1_bestHank 35 = .ok (.invokestatic 250, 3) := dk_184 0 250 (dk_at dksX1_bestHank_1 11 rfl rfl)
theorem dX1_bestHank_38 : decode cX1_bestHank 38 = .ok (.iload_n 2, 1) := dk_28 (dk_at dksX1_bestHank_1 14 rfl rfl)
theorem dX1_bestHank_39 : decode cX1_bestHank 39 = .ok (.ireturn, 1) := dk_172 (dk_at dksX1_bestHank_1 15 rfl rfl)
abbrev cX1_requireElement : ByteArray := prog_1_method_5_code
def yX1_requireElement : MethodName := ⟨RX1, "requireElement", "(Z)V"⟩
def dkwX1_requireElement_0 : List UInt8 := [26, 154, 0, 11, 187, 0, 13, 89, 183, 0, 15, 191, 177]
abbrev dktX1_requireElement_0 : List UInt8 := dkwX1_requireElement_0 ++ []
theorem dksX1_requireElement_0 : cX1_requireElement.data.toList.drop 0 = dktX1_requireElement_0 := by decide +kernel
theorem dX1_requireElement_0 : decode cX1_requireElement 0 = .ok (.iload_n 0, 1) := dk_26 (dk_at dksX1_requireElement_0 0 rfl rfl)
theorem dX1_requireElement_1 : decode cX1_requireElement 1 = .ok (.ifCond .ne 11, 3) := dk_154 0 11 (dk_at dksX1_requireElement_0 1 rfl rfl)
theorem dX1_requireElement_4 : decode cX1_requireElement 4 = .ok (.new 13, 3) := dk_187 0 13 (dk_at dksX1_requireElement_0 4 rfl rfl)
theorem dX1_requireElement_7 : decode cX1_requireElement 7 = .ok (.dup, 1) := dk_89 (dk_at dksX1_requireElement_0 7 rfl rfl)
theorem dX1_requireElement_8 : decode cX1_requireElement 8 = .ok (.invokespecial 15, 3) := dk_183 0 15 (dk_at dksX1_requireElement_0 8 rfl rfl)
theorem dX1_requireElement_11 : decode cX1_requireElement 11 = .ok (.athrow, 1) := dk_191 (dk_at dksX1_requireElement_0 11 rfl rfl)
theorem dX1_requireElement_12 : decode cX1_requireElement 12 = .ok (.return_, 1) := dk_177 (dk_at dksX1_requireElement_0 12 rfl rfl)
abbrev cX1_bestAgain : ByteArray := prog_1_method_34_code
def yX1_bestAgain : MethodName := ⟨RX1, "bestAgain", "(I)I"⟩
def dkwX1_bestAgain_1 : List UInt8 := [61, 28, 2, 159, 0, 7, 4, 167, 0, 4, 3, 184, 0, 250, 28, 172]
abbrev dktX1_bestAgain_1 : List UInt8 := dkwX1_bestAgain_1 ++ []
def dkwX1_bestAgain_0 : List UInt8 := [42, 180, 0, 64, 42, 180, 0, 64, 180, 0, 210, 27, 184, 0, 181, 192, 0, 213, 180, 0, 215, 182, 0, 253]
abbrev dktX1_bestAgain_0 : List UInt8 := dkwX1_bestAgain_0 ++ dktX1_bestAgain_1
theorem dksX1_bestAgain_0 : cX1_bestAgain.data.toList.drop 0 = dktX1_bestAgain_0 := by decide +kernel
theorem dksX1_bestAgain_1 : cX1_bestAgain.data.toList.drop 24 = dktX1_bestAgain_1 := dk_seg dksX1_bestAgain_0 24 rfl rfl
theorem dX1_bestAgain_0 : decode cX1_bestAgain 0 = .ok (.aload_n 0, 1) := dk_42 (dk_at dksX1_bestAgain_0 0 rfl rfl)
theorem dX1_bestAgain_1 : decode cX1_bestAgain 1 = .ok (.getfield 64, 3) := dk_180 0 64 (dk_at dksX1_bestAgain_0 1 rfl rfl)
theorem dX1_bestAgain_4 : decode cX1_bestAgain 4 = .ok (.aload_n 0, 1) := dk_42 (dk_at dksX1_bestAgain_0 4 rfl rfl)
theorem dX1_bestAgain_5 : decode cX1_bestAgain 5 = .ok (.getfield 64, 3) := dk_180 0 64 (dk_at dksX1_bestAgain_0 5 rfl rfl)
theorem dX1_bestAgain_8 : decode cX1_bestAgain 8 = .ok (.getfield 210, 3) := dk_180 0 210 (dk_at dksX1_bestAgain_0 8 rfl rfl)
theorem dX1_bestAgain_11 : decode cX1_bestAgain 11 = .ok (.iload_n 1, 1) := dk_27 (dk_at dksX1_bestAgain_0 11 rfl rfl)
theorem dX1_bestAgain_12 : decode cX1_bestAgain 12 = .ok (.invokestatic 181, 3) := dk_184 0 181 (dk_at dksX1_bestAgain_0 12 rfl rfl)
theorem dX1_bestAgain_15 : decode cX1_bestAgain 15 = .ok (.checkcast 213, 3) := dk_192 0 213 (dk_at dksX1_bestAgain_0 15 rfl rfl)
theorem dX1_bestAgain_18 : decode cX1_bestAgain 18 = .ok (.getfield 215, 3) := dk_180 0 215 (dk_at dksX1_bestAgain_0 18 rfl rfl)
theorem dX1_bestAgain_21 : decode cX1_bestAgain 21 = .ok (.invokevirtual 253, 3) := dk_182 0 253 (dk_at dksX1_bestAgain_0 21 rfl rfl)
theorem dX1_bestAgain_24 : decode cX1_bestAgain 24 = .ok (.istore_n 2, 1) := dk_61 (dk_at dksX1_bestAgain_1 0 rfl rfl)
theorem dX1_bestAgain_25 : decode cX1_bestAgain 25 = .ok (.iload_n 2, 1) := dk_28 (dk_at dksX1_bestAgain_1 1 rfl rfl)
theorem dX1_bestAgain_26 : decode cX1_bestAgain 26 = .ok (.iconst (-1), 1) := dk_2 (dk_at dksX1_bestAgain_1 2 rfl rfl)
theorem dX1_bestAgain_27 : decode cX1_bestAgain 27 = .ok (.if_icmp .eq 7, 3) := dk_159 0 7 (dk_at dksX1_bestAgain_1 3 rfl rfl)
theorem dX1_bestAgain_30 : decode cX1_bestAgain 30 = .ok (.iconst 1, 1) := dk_4 (dk_at dksX1_bestAgain_1 6 rfl rfl)
theorem dX1_bestAgain_31 : decode cX1_bestAgain 31 = .ok (.goto 4, 3) := dk_167 0 4 (dk_at dksX1_bestAgain_1 7 rfl rfl)
theorem dX1_bestAgain_34 : decode cX1_bestAgain 34 = .ok (.iconst 0, 1) := dk_3 (dk_at dksX1_bestAgain_1 10 rfl rfl)
theorem dX1_bestAgain_35 : decode cX1_bestAgain 35 = .ok (.invokestatic 250, 3) := dk_184 0 250 (dk_at dksX1_bestAgain_1 11 rfl rfl)
theorem dX1_bestAgain_38 : decode cX1_bestAgain 38 = .ok (.iload_n 2, 1) := dk_28 (dk_at dksX1_bestAgain_1 14 rfl rfl)
theorem dX1_bestAgain_39 : decode cX1_bestAgain 39 = .ok (.ireturn, 1) := dk_172 (dk_at dksX1_bestAgain_1 15 rfl rfl)
abbrev cX1_firstOf : ByteArray := prog_1_method_9_code
def yX1_firstOf : MethodName := ⟨RX1, "firstOf", "(Ljava/util/Collection;Ljava/util/Comparator;)Ljava/lang/Object;"⟩
def dkwX1_firstOf_0 : List UInt8 := [42, 185, 0, 46, 1, 0, 153, 0, 7, 1, 167, 0, 8, 42, 43, 184, 0, 52, 176]
abbrev dktX1_firstOf_0 : List UInt8 := dkwX1_firstOf_0 ++ []
theorem dksX1_firstOf_0 : cX1_firstOf.data.toList.drop 0 = dktX1_firstOf_0 := by decide +kernel
theorem dX1_firstOf_0 : decode cX1_firstOf 0 = .ok (.aload_n 0, 1) := dk_42 (dk_at dksX1_firstOf_0 0 rfl rfl)
theorem dX1_firstOf_1 : decode cX1_firstOf 1 = .ok (.invokeinterface 46 1, 5) := by decide +kernel
theorem dX1_firstOf_6 : decode cX1_firstOf 6 = .ok (.ifCond .eq 7, 3) := dk_153 0 7 (dk_at dksX1_firstOf_0 6 rfl rfl)
theorem dX1_firstOf_9 : decode cX1_firstOf 9 = .ok (.aconst_null, 1) := dk_1 (dk_at dksX1_firstOf_0 9 rfl rfl)
theorem dX1_firstOf_10 : decode cX1_firstOf 10 = .ok (.goto 8, 3) := dk_167 0 8 (dk_at dksX1_firstOf_0 10 rfl rfl)
theorem dX1_firstOf_13 : decode cX1_firstOf 13 = .ok (.aload_n 0, 1) := dk_42 (dk_at dksX1_firstOf_0 13 rfl rfl)
theorem dX1_firstOf_14 : decode cX1_firstOf 14 = .ok (.aload_n 1, 1) := dk_43 (dk_at dksX1_firstOf_0 14 rfl rfl)
theorem dX1_firstOf_15 : decode cX1_firstOf 15 = .ok (.invokestatic 52, 3) := dk_184 0 52 (dk_at dksX1_firstOf_0 15 rfl rfl)
theorem dX1_firstOf_18 : decode cX1_firstOf 18 = .ok (.areturn, 1) := dk_176 (dk_at dksX1_firstOf_0 18 rfl rfl)
abbrev cX1_goodFor : ByteArray := prog_1_method_35_code
def yX1_goodFor : MethodName := ⟨RX1, "goodFor", "(I)I"⟩
def dkwX1_goodFor_3 : List UInt8 := [132, 4, 1, 167, 255, 227, 29, 172]
abbrev dktX1_goodFor_3 : List UInt8 := dkwX1_goodFor_3 ++ []
def dkwX1_goodFor_2 : List UInt8 := [162, 0, 29, 29, 44, 21, 4, 182, 1, 0, 153, 0, 10, 4, 21, 4, 120, 167, 0, 4, 3, 128, 62]
abbrev dktX1_goodFor_2 : List UInt8 := dkwX1_goodFor_2 ++ dktX1_goodFor_3
def dkwX1_goodFor_1 : List UInt8 := [44, 180, 0, 205, 16, 40, 161, 0, 8, 16, 16, 167, 0, 4, 3, 62, 3, 54, 4, 21, 4, 7]
abbrev dktX1_goodFor_1 : List UInt8 := dkwX1_goodFor_1 ++ dktX1_goodFor_2
def dkwX1_goodFor_0 : List UInt8 := [42, 180, 0, 64, 180, 0, 201, 27, 184, 0, 181, 192, 0, 203, 77, 44, 180, 0, 206, 16, 50, 161, 0, 17]
abbrev dktX1_goodFor_0 : List UInt8 := dkwX1_goodFor_0 ++ dktX1_goodFor_1
theorem dksX1_goodFor_0 : cX1_goodFor.data.toList.drop 0 = dktX1_goodFor_0 := by decide +kernel
theorem dksX1_goodFor_1 : cX1_goodFor.data.toList.drop 24 = dktX1_goodFor_1 := dk_seg dksX1_goodFor_0 24 rfl rfl
theorem dksX1_goodFor_2 : cX1_goodFor.data.toList.drop 46 = dktX1_goodFor_2 := dk_seg dksX1_goodFor_1 22 rfl rfl
theorem dksX1_goodFor_3 : cX1_goodFor.data.toList.drop 69 = dktX1_goodFor_3 := dk_seg dksX1_goodFor_2 23 rfl rfl
theorem dX1_goodFor_0 : decode cX1_goodFor 0 = .ok (.aload_n 0, 1) := dk_42 (dk_at dksX1_goodFor_0 0 rfl rfl)
theorem dX1_goodFor_1 : decode cX1_goodFor 1 = .ok (.getfield 64, 3) := dk_180 0 64 (dk_at dksX1_goodFor_0 1 rfl rfl)
theorem dX1_goodFor_4 : decode cX1_goodFor 4 = .ok (.getfield 201, 3) := dk_180 0 201 (dk_at dksX1_goodFor_0 4 rfl rfl)
theorem dX1_goodFor_7 : decode cX1_goodFor 7 = .ok (.iload_n 1, 1) := dk_27 (dk_at dksX1_goodFor_0 7 rfl rfl)
theorem dX1_goodFor_8 : decode cX1_goodFor 8 = .ok (.invokestatic 181, 3) := dk_184 0 181 (dk_at dksX1_goodFor_0 8 rfl rfl)
theorem dX1_goodFor_11 : decode cX1_goodFor 11 = .ok (.checkcast 203, 3) := dk_192 0 203 (dk_at dksX1_goodFor_0 11 rfl rfl)
theorem dX1_goodFor_14 : decode cX1_goodFor 14 = .ok (.astore_n 2, 1) := dk_77 (dk_at dksX1_goodFor_0 14 rfl rfl)
theorem dX1_goodFor_15 : decode cX1_goodFor 15 = .ok (.aload_n 2, 1) := dk_44 (dk_at dksX1_goodFor_0 15 rfl rfl)
theorem dX1_goodFor_16 : decode cX1_goodFor 16 = .ok (.getfield 206, 3) := dk_180 0 206 (dk_at dksX1_goodFor_0 16 rfl rfl)
theorem dX1_goodFor_19 : decode cX1_goodFor 19 = .ok (.bipush 50, 2) := dk_16 50 (dk_at dksX1_goodFor_0 19 rfl rfl)
theorem dX1_goodFor_21 : decode cX1_goodFor 21 = .ok (.if_icmp .lt 17, 3) := dk_161 0 17 (dk_at dksX1_goodFor_0 21 rfl rfl)
theorem dX1_goodFor_24 : decode cX1_goodFor 24 = .ok (.aload_n 2, 1) := dk_44 (dk_at dksX1_goodFor_1 0 rfl rfl)
theorem dX1_goodFor_25 : decode cX1_goodFor 25 = .ok (.getfield 205, 3) := dk_180 0 205 (dk_at dksX1_goodFor_1 1 rfl rfl)
theorem dX1_goodFor_28 : decode cX1_goodFor 28 = .ok (.bipush 40, 2) := dk_16 40 (dk_at dksX1_goodFor_1 4 rfl rfl)
theorem dX1_goodFor_30 : decode cX1_goodFor 30 = .ok (.if_icmp .lt 8, 3) := dk_161 0 8 (dk_at dksX1_goodFor_1 6 rfl rfl)
theorem dX1_goodFor_33 : decode cX1_goodFor 33 = .ok (.bipush 16, 2) := dk_16 16 (dk_at dksX1_goodFor_1 9 rfl rfl)
theorem dX1_goodFor_35 : decode cX1_goodFor 35 = .ok (.goto 4, 3) := dk_167 0 4 (dk_at dksX1_goodFor_1 11 rfl rfl)
theorem dX1_goodFor_38 : decode cX1_goodFor 38 = .ok (.iconst 0, 1) := dk_3 (dk_at dksX1_goodFor_1 14 rfl rfl)
theorem dX1_goodFor_39 : decode cX1_goodFor 39 = .ok (.istore_n 3, 1) := dk_62 (dk_at dksX1_goodFor_1 15 rfl rfl)
theorem dX1_goodFor_40 : decode cX1_goodFor 40 = .ok (.iconst 0, 1) := dk_3 (dk_at dksX1_goodFor_1 16 rfl rfl)
theorem dX1_goodFor_41 : decode cX1_goodFor 41 = .ok (.istore 4, 2) := dk_54 4 (dk_at dksX1_goodFor_1 17 rfl rfl)
theorem dX1_goodFor_43 : decode cX1_goodFor 43 = .ok (.iload 4, 2) := dk_21 4 (dk_at dksX1_goodFor_1 19 rfl rfl)
theorem dX1_goodFor_45 : decode cX1_goodFor 45 = .ok (.iconst 4, 1) := dk_7 (dk_at dksX1_goodFor_1 21 rfl rfl)
theorem dX1_goodFor_46 : decode cX1_goodFor 46 = .ok (.if_icmp .ge 29, 3) := dk_162 0 29 (dk_at dksX1_goodFor_2 0 rfl rfl)
theorem dX1_goodFor_49 : decode cX1_goodFor 49 = .ok (.iload_n 3, 1) := dk_29 (dk_at dksX1_goodFor_2 3 rfl rfl)
theorem dX1_goodFor_50 : decode cX1_goodFor 50 = .ok (.aload_n 2, 1) := dk_44 (dk_at dksX1_goodFor_2 4 rfl rfl)
theorem dX1_goodFor_51 : decode cX1_goodFor 51 = .ok (.iload 4, 2) := dk_21 4 (dk_at dksX1_goodFor_2 5 rfl rfl)
theorem dX1_goodFor_53 : decode cX1_goodFor 53 = .ok (.invokevirtual 256, 3) := dk_182 1 0 (dk_at dksX1_goodFor_2 7 rfl rfl)
theorem dX1_goodFor_56 : decode cX1_goodFor 56 = .ok (.ifCond .eq 10, 3) := dk_153 0 10 (dk_at dksX1_goodFor_2 10 rfl rfl)
theorem dX1_goodFor_59 : decode cX1_goodFor 59 = .ok (.iconst 1, 1) := dk_4 (dk_at dksX1_goodFor_2 13 rfl rfl)
theorem dX1_goodFor_60 : decode cX1_goodFor 60 = .ok (.iload 4, 2) := dk_21 4 (dk_at dksX1_goodFor_2 14 rfl rfl)
theorem dX1_goodFor_62 : decode cX1_goodFor 62 = .ok (.ishl, 1) := dk_120 (dk_at dksX1_goodFor_2 16 rfl rfl)
theorem dX1_goodFor_63 : decode cX1_goodFor 63 = .ok (.goto 4, 3) := dk_167 0 4 (dk_at dksX1_goodFor_2 17 rfl rfl)
theorem dX1_goodFor_66 : decode cX1_goodFor 66 = .ok (.iconst 0, 1) := dk_3 (dk_at dksX1_goodFor_2 20 rfl rfl)
theorem dX1_goodFor_67 : decode cX1_goodFor 67 = .ok (.ior, 1) := dk_128 (dk_at dksX1_goodFor_2 21 rfl rfl)
theorem dX1_goodFor_68 : decode cX1_goodFor 68 = .ok (.istore_n 3, 1) := dk_62 (dk_at dksX1_goodFor_2 22 rfl rfl)
theorem dX1_goodFor_69 : decode cX1_goodFor 69 = .ok (.iinc 4 1, 3) := dk_132 4 1 (dk_at dksX1_goodFor_3 0 rfl rfl)
theorem dX1_goodFor_72 : decode cX1_goodFor 72 = .ok (.goto (-29), 3) := dk_167 255 227 (dk_at dksX1_goodFor_3 3 rfl rfl)
theorem dX1_goodFor_75 : decode cX1_goodFor 75 = .ok (.iload_n 3, 1) := dk_29 (dk_at dksX1_goodFor_3 6 rfl rfl)
theorem dX1_goodFor_76 : decode cX1_goodFor 76 = .ok (.ireturn, 1) := dk_172 (dk_at dksX1_goodFor_3 7 rfl rfl)
abbrev cX1_hoursLeft : ByteArray := prog_1_method_36_code
def yX1_hoursLeft : MethodName := ⟨RX1, "hoursLeft", "(I)I"⟩
def dkwX1_hoursLeft_1 : List UInt8 := [153, 0, 15, 44, 182, 1, 10, 54, 4, 132, 3, 1, 167, 255, 240, 29, 172]
abbrev dktX1_hoursLeft_1 : List UInt8 := dkwX1_hoursLeft_1 ++ []
def dkwX1_hoursLeft_0 : List UInt8 := [42, 180, 0, 64, 180, 0, 210, 27, 184, 0, 181, 192, 0, 213, 182, 1, 3, 77, 3, 62, 44, 182, 1, 7]
abbrev dktX1_hoursLeft_0 : List UInt8 := dkwX1_hoursLeft_0 ++ dktX1_hoursLeft_1
theorem dksX1_hoursLeft_0 : cX1_hoursLeft.data.toList.drop 0 = dktX1_hoursLeft_0 := by decide +kernel
theorem dksX1_hoursLeft_1 : cX1_hoursLeft.data.toList.drop 24 = dktX1_hoursLeft_1 := dk_seg dksX1_hoursLeft_0 24 rfl rfl
theorem dX1_hoursLeft_0 : decode cX1_hoursLeft 0 = .ok (.aload_n 0, 1) := dk_42 (dk_at dksX1_hoursLeft_0 0 rfl rfl)
theorem dX1_hoursLeft_1 : decode cX1_hoursLeft 1 = .ok (.getfield 64, 3) := dk_180 0 64 (dk_at dksX1_hoursLeft_0 1 rfl rfl)
theorem dX1_hoursLeft_4 : decode cX1_hoursLeft 4 = .ok (.getfield 210, 3) := dk_180 0 210 (dk_at dksX1_hoursLeft_0 4 rfl rfl)
theorem dX1_hoursLeft_7 : decode cX1_hoursLeft 7 = .ok (.iload_n 1, 1) := dk_27 (dk_at dksX1_hoursLeft_0 7 rfl rfl)
theorem dX1_hoursLeft_8 : decode cX1_hoursLeft 8 = .ok (.invokestatic 181, 3) := dk_184 0 181 (dk_at dksX1_hoursLeft_0 8 rfl rfl)
theorem dX1_hoursLeft_11 : decode cX1_hoursLeft 11 = .ok (.checkcast 213, 3) := dk_192 0 213 (dk_at dksX1_hoursLeft_0 11 rfl rfl)
theorem dX1_hoursLeft_14 : decode cX1_hoursLeft 14 = .ok (.invokevirtual 259, 3) := dk_182 1 3 (dk_at dksX1_hoursLeft_0 14 rfl rfl)
theorem dX1_hoursLeft_17 : decode cX1_hoursLeft 17 = .ok (.astore_n 2, 1) := dk_77 (dk_at dksX1_hoursLeft_0 17 rfl rfl)
theorem dX1_hoursLeft_18 : decode cX1_hoursLeft 18 = .ok (.iconst 0, 1) := dk_3 (dk_at dksX1_hoursLeft_0 18 rfl rfl)
theorem dX1_hoursLeft_19 : decode cX1_hoursLeft 19 = .ok (.istore_n 3, 1) := dk_62 (dk_at dksX1_hoursLeft_0 19 rfl rfl)
theorem dX1_hoursLeft_20 : decode cX1_hoursLeft 20 = .ok (.aload_n 2, 1) := dk_44 (dk_at dksX1_hoursLeft_0 20 rfl rfl)
theorem dX1_hoursLeft_21 : decode cX1_hoursLeft 21 = .ok (.invokevirtual 263, 3) := dk_182 1 7 (dk_at dksX1_hoursLeft_0 21 rfl rfl)
theorem dX1_hoursLeft_24 : decode cX1_hoursLeft 24 = .ok (.ifCond .eq 15, 3) := dk_153 0 15 (dk_at dksX1_hoursLeft_1 0 rfl rfl)
theorem dX1_hoursLeft_27 : decode cX1_hoursLeft 27 = .ok (.aload_n 2, 1) := dk_44 (dk_at dksX1_hoursLeft_1 3 rfl rfl)
theorem dX1_hoursLeft_28 : decode cX1_hoursLeft 28 = .ok (.invokevirtual 266, 3) := dk_182 1 10 (dk_at dksX1_hoursLeft_1 4 rfl rfl)
theorem dX1_hoursLeft_31 : decode cX1_hoursLeft 31 = .ok (.istore 4, 2) := dk_54 4 (dk_at dksX1_hoursLeft_1 7 rfl rfl)
theorem dX1_hoursLeft_33 : decode cX1_hoursLeft 33 = .ok (.iinc 3 1, 3) := dk_132 3 1 (dk_at dksX1_hoursLeft_1 9 rfl rfl)
theorem dX1_hoursLeft_36 : decode cX1_hoursLeft 36 = .ok (.goto (-16), 3) := dk_167 255 240 (dk_at dksX1_hoursLeft_1 12 rfl rfl)
theorem dX1_hoursLeft_39 : decode cX1_hoursLeft 39 = .ok (.iload_n 3, 1) := dk_29 (dk_at dksX1_hoursLeft_1 15 rfl rfl)
theorem dX1_hoursLeft_40 : decode cX1_hoursLeft 40 = .ok (.ireturn, 1) := dk_172 (dk_at dksX1_hoursLeft_1 16 rfl rfl)
abbrev cX1_daysTo : ByteArray := prog_1_method_37_code
def yX1_daysTo : MethodName := ⟨RX1, "daysTo", "(I)I"⟩
def dkwX1_daysTo_1 : List UInt8 := [28, 42, 180, 0, 64, 180, 1, 16, 29, 46, 96, 61, 29, 4, 96, 16, 6, 112, 62, 167, 255, 232, 28, 172]
abbrev dktX1_daysTo_1 : List UInt8 := dkwX1_daysTo_1 ++ []
def dkwX1_daysTo_0 : List UInt8 := [27, 3, 8, 184, 0, 21, 184, 0, 170, 3, 61, 42, 180, 0, 64, 180, 1, 13, 62, 29, 27, 159, 0, 25]
abbrev dktX1_daysTo_0 : List UInt8 := dkwX1_daysTo_0 ++ dktX1_daysTo_1
theorem dksX1_daysTo_0 : cX1_daysTo.data.toList.drop 0 = dktX1_daysTo_0 := by decide +kernel
theorem dksX1_daysTo_1 : cX1_daysTo.data.toList.drop 24 = dktX1_daysTo_1 := dk_seg dksX1_daysTo_0 24 rfl rfl
theorem dX1_daysTo_0 : decode cX1_daysTo 0 = .ok (.iload_n 1, 1) := dk_27 (dk_at dksX1_daysTo_0 0 rfl rfl)
theorem dX1_daysTo_1 : decode cX1_daysTo 1 = .ok (.iconst 0, 1) := dk_3 (dk_at dksX1_daysTo_0 1 rfl rfl)
theorem dX1_daysTo_2 : decode cX1_daysTo 2 = .ok (.iconst 5, 1) := dk_8 (dk_at dksX1_daysTo_0 2 rfl rfl)
theorem dX1_daysTo_3 : decode cX1_daysTo 3 = .ok (.invokestatic 21, 3) := dk_184 0 21 (dk_at dksX1_daysTo_0 3 rfl rfl)
theorem dX1_daysTo_6 : decode cX1_daysTo 6 = .ok (.invokestatic 170, 3) := dk_184 0 170 (dk_at dksX1_daysTo_0 6 rfl rfl)
theorem dX1_daysTo_9 : decode cX1_daysTo 9 = .ok (.iconst 0, 1) := dk_3 (dk_at dksX1_daysTo_0 9 rfl rfl)
theorem dX1_daysTo_10 : decode cX1_daysTo 10 = .ok (.istore_n 2, 1) := dk_61 (dk_at dksX1_daysTo_0 10 rfl rfl)
theorem dX1_daysTo_11 : decode cX1_daysTo 11 = .ok (.aload_n 0, 1) := dk_42 (dk_at dksX1_daysTo_0 11 rfl rfl)
theorem dX1_daysTo_12 : decode cX1_daysTo 12 = .ok (.getfield 64, 3) := dk_180 0 64 (dk_at dksX1_daysTo_0 12 rfl rfl)
theorem dX1_daysTo_15 : decode cX1_daysTo 15 = .ok (.getfield 269, 3) := dk_180 1 13 (dk_at dksX1_daysTo_0 15 rfl rfl)
theorem dX1_daysTo_18 : decode cX1_daysTo 18 = .ok (.istore_n 3, 1) := dk_62 (dk_at dksX1_daysTo_0 18 rfl rfl)
theorem dX1_daysTo_19 : decode cX1_daysTo 19 = .ok (.iload_n 3, 1) := dk_29 (dk_at dksX1_daysTo_0 19 rfl rfl)
theorem dX1_daysTo_20 : decode cX1_daysTo 20 = .ok (.iload_n 1, 1) := dk_27 (dk_at dksX1_daysTo_0 20 rfl rfl)
theorem dX1_daysTo_21 : decode cX1_daysTo 21 = .ok (.if_icmp .eq 25, 3) := dk_159 0 25 (dk_at dksX1_daysTo_0 21 rfl rfl)
theorem dX1_daysTo_24 : decode cX1_daysTo 24 = .ok (.iload_n 2, 1) := dk_28 (dk_at dksX1_daysTo_1 0 rfl rfl)
theorem dX1_daysTo_25 : decode cX1_daysTo 25 = .ok (.aload_n 0, 1) := dk_42 (dk_at dksX1_daysTo_1 1 rfl rfl)
theorem dX1_daysTo_26 : decode cX1_daysTo 26 = .ok (.getfield 64, 3) := dk_180 0 64 (dk_at dksX1_daysTo_1 2 rfl rfl)
theorem dX1_daysTo_29 : decode cX1_daysTo 29 = .ok (.getfield 272, 3) := dk_180 1 16 (dk_at dksX1_daysTo_1 5 rfl rfl)
theorem dX1_daysTo_32 : decode cX1_daysTo 32 = .ok (.iload_n 3, 1) := dk_29 (dk_at dksX1_daysTo_1 8 rfl rfl)
theorem dX1_daysTo_33 : decode cX1_daysTo 33 = .ok (.iaload, 1) := dk_46 (dk_at dksX1_daysTo_1 9 rfl rfl)
theorem dX1_daysTo_34 : decode cX1_daysTo 34 = .ok (.iadd, 1) := dk_96 (dk_at dksX1_daysTo_1 10 rfl rfl)
theorem dX1_daysTo_35 : decode cX1_daysTo 35 = .ok (.istore_n 2, 1) := dk_61 (dk_at dksX1_daysTo_1 11 rfl rfl)
theorem dX1_daysTo_36 : decode cX1_daysTo 36 = .ok (.iload_n 3, 1) := dk_29 (dk_at dksX1_daysTo_1 12 rfl rfl)
theorem dX1_daysTo_37 : decode cX1_daysTo 37 = .ok (.iconst 1, 1) := dk_4 (dk_at dksX1_daysTo_1 13 rfl rfl)
theorem dX1_daysTo_38 : decode cX1_daysTo 38 = .ok (.iadd, 1) := dk_96 (dk_at dksX1_daysTo_1 14 rfl rfl)
theorem dX1_daysTo_39 : decode cX1_daysTo 39 = .ok (.bipush 6, 2) := dk_16 6 (dk_at dksX1_daysTo_1 15 rfl rfl)
theorem dX1_daysTo_41 : decode cX1_daysTo 41 = .ok (.irem, 1) := dk_112 (dk_at dksX1_daysTo_1 17 rfl rfl)
theorem dX1_daysTo_42 : decode cX1_daysTo 42 = .ok (.istore_n 3, 1) := dk_62 (dk_at dksX1_daysTo_1 18 rfl rfl)
theorem dX1_daysTo_43 : decode cX1_daysTo 43 = .ok (.goto (-24), 3) := dk_167 255 232 (dk_at dksX1_daysTo_1 19 rfl rfl)
theorem dX1_daysTo_46 : decode cX1_daysTo 46 = .ok (.iload_n 2, 1) := dk_28 (dk_at dksX1_daysTo_1 22 rfl rfl)
theorem dX1_daysTo_47 : decode cX1_daysTo 47 = .ok (.ireturn, 1) := dk_172 (dk_at dksX1_daysTo_1 23 rfl rfl)
abbrev cX1_feed : ByteArray := prog_1_method_40_code
def yX1_feed : MethodName := ⟨RX1, "feed", "(C)I"⟩
def dkwX1_feed_1 : List UInt8 := [27, 182, 1, 31, 87, 42, 180, 0, 78, 182, 1, 26, 172]
abbrev dktX1_feed_1 : List UInt8 := dkwX1_feed_1 ++ []
def dkwX1_feed_0 : List UInt8 := [42, 180, 0, 78, 182, 1, 26, 16, 60, 162, 0, 7, 4, 167, 0, 4, 3, 184, 1, 28, 42, 180, 0, 78]
abbrev dktX1_feed_0 : List UInt8 := dkwX1_feed_0 ++ dktX1_feed_1
theorem dksX1_feed_0 : cX1_feed.data.toList.drop 0 = dktX1_feed_0 := by decide +kernel
theorem dksX1_feed_1 : cX1_feed.data.toList.drop 24 = dktX1_feed_1 := dk_seg dksX1_feed_0 24 rfl rfl
theorem dX1_feed_0 : decode cX1_feed 0 = .ok (.aload_n 0, 1) := dk_42 (dk_at dksX1_feed_0 0 rfl rfl)
theorem dX1_feed_1 : decode cX1_feed 1 = .ok (.getfield 78, 3) := dk_180 0 78 (dk_at dksX1_feed_0 1 rfl rfl)
theorem dX1_feed_4 : decode cX1_feed 4 = .ok (.invokevirtual 282, 3) := dk_182 1 26 (dk_at dksX1_feed_0 4 rfl rfl)
theorem dX1_feed_7 : decode cX1_feed 7 = .ok (.bipush 60, 2) := dk_16 60 (dk_at dksX1_feed_0 7 rfl rfl)
theorem dX1_feed_9 : decode cX1_feed 9 = .ok (.if_icmp .ge 7, 3) := dk_162 0 7 (dk_at dksX1_feed_0 9 rfl rfl)
theorem dX1_feed_12 : decode cX1_feed 12 = .ok (.iconst 1, 1) := dk_4 (dk_at dksX1_feed_0 12 rfl rfl)
theorem dX1_feed_13 : decode cX1_feed 13 = .ok (.goto 4, 3) := dk_167 0 4 (dk_at dksX1_feed_0 13 rfl rfl)
theorem dX1_feed_16 : decode cX1_feed 16 = .ok (.iconst 0, 1) := dk_3 (dk_at dksX1_feed_0 16 rfl rfl)
theorem dX1_feed_17 : decode cX1_feed 17 = .ok (.invokestatic 284, 3) := dk_184 1 28 (dk_at dksX1_feed_0 17 rfl rfl)
theorem dX1_feed_20 : decode cX1_feed 20 = .ok (.aload_n 0, 1) := dk_42 (dk_at dksX1_feed_0 20 rfl rfl)
theorem dX1_feed_21 : decode cX1_feed 21 = .ok (.getfield 78, 3) := dk_180 0 78 (dk_at dksX1_feed_0 21 rfl rfl)
theorem dX1_feed_24 : decode cX1_feed 24 = .ok (.iload_n 1, 1) := dk_27 (dk_at dksX1_feed_1 0 rfl rfl)
theorem dX1_feed_25 : decode cX1_feed 25 = .ok (.invokevirtual 287, 3) := dk_182 1 31 (dk_at dksX1_feed_1 1 rfl rfl)
theorem dX1_feed_28 : decode cX1_feed 28 = .ok (.pop, 1) := dk_87 (dk_at dksX1_feed_1 4 rfl rfl)
theorem dX1_feed_29 : decode cX1_feed 29 = .ok (.aload_n 0, 1) := dk_42 (dk_at dksX1_feed_1 5 rfl rfl)
theorem dX1_feed_30 : decode cX1_feed 30 = .ok (.getfield 78, 3) := dk_180 0 78 (dk_at dksX1_feed_1 6 rfl rfl)
theorem dX1_feed_33 : decode cX1_feed 33 = .ok (.invokevirtual 282, 3) := dk_182 1 26 (dk_at dksX1_feed_1 9 rfl rfl)
theorem dX1_feed_36 : decode cX1_feed 36 = .ok (.ireturn, 1) := dk_172 (dk_at dksX1_feed_1 12 rfl rfl)
abbrev cX1_requireState : ByteArray := prog_1_method_4_code
def yX1_requireState : MethodName := ⟨RX1, "requireState", "(Z)V"⟩
def dkwX1_requireState_0 : List UInt8 := [26, 154, 0, 11, 187, 0, 10, 89, 183, 0, 12, 191, 177]
abbrev dktX1_requireState_0 : List UInt8 := dkwX1_requireState_0 ++ []
theorem dksX1_requireState_0 : cX1_requireState.data.toList.drop 0 = dktX1_requireState_0 := by decide +kernel
theorem dX1_requireState_0 : decode cX1_requireState 0 = .ok (.iload_n 0, 1) := dk_26 (dk_at dksX1_requireState_0 0 rfl rfl)
theorem dX1_requireState_1 : decode cX1_requireState 1 = .ok (.ifCond .ne 11, 3) := dk_154 0 11 (dk_at dksX1_requireState_0 1 rfl rfl)
theorem dX1_requireState_4 : decode cX1_requireState 4 = .ok (.new 10, 3) := dk_187 0 10 (dk_at dksX1_requireState_0 4 rfl rfl)
theorem dX1_requireState_7 : decode cX1_requireState 7 = .ok (.dup, 1) := dk_89 (dk_at dksX1_requireState_0 7 rfl rfl)
theorem dX1_requireState_8 : decode cX1_requireState 8 = .ok (.invokespecial 12, 3) := dk_183 0 12 (dk_at dksX1_requireState_0 8 rfl rfl)
theorem dX1_requireState_11 : decode cX1_requireState 11 = .ok (.athrow, 1) := dk_191 (dk_at dksX1_requireState_0 11 rfl rfl)
theorem dX1_requireState_12 : decode cX1_requireState 12 = .ok (.return_, 1) := dk_177 (dk_at dksX1_requireState_0 12 rfl rfl)
abbrev cX1_run : ByteArray := prog_1_method_42_code
def yX1_run : MethodName := ⟨RX1, "run", "()I"⟩
def dkwX1_run_3 : List UInt8 := [29, 172]
abbrev dktX1_run_3 : List UInt8 := dkwX1_run_3 ++ []
def dkwX1_run_2 : List UInt8 := [132, 3, 1, 167, 255, 227, 167, 0, 13, 58, 4, 42, 25, 4, 29, 182, 0, 125, 191, 42, 44, 182, 0, 122]
abbrev dktX1_run_2 : List UInt8 := dkwX1_run_2 ++ dktX1_run_3
def dkwX1_run_1 : List UInt8 := [185, 0, 31, 1, 0, 162, 0, 25, 43, 29, 185, 0, 37, 2, 0, 192, 0, 129, 44, 182, 1, 60, 54, 4]
abbrev dktX1_run_1 : List UInt8 := dkwX1_run_1 ++ dktX1_run_2
def dkwX1_run_0 : List UInt8 := [42, 182, 1, 57, 76, 187, 0, 61, 89, 42, 180, 0, 64, 183, 0, 113, 77, 3, 62, 29, 43]
abbrev dktX1_run_0 : List UInt8 := dkwX1_run_0 ++ dktX1_run_1
theorem dksX1_run_0 : cX1_run.data.toList.drop 0 = dktX1_run_0 := by decide +kernel
theorem dksX1_run_1 : cX1_run.data.toList.drop 21 = dktX1_run_1 := dk_seg dksX1_run_0 21 rfl rfl
theorem dksX1_run_2 : cX1_run.data.toList.drop 45 = dktX1_run_2 := dk_seg dksX1_run_1 24 rfl rfl
theorem dksX1_run_3 : cX1_run.data.toList.drop 69 = dktX1_run_3 := dk_seg dksX1_run_2 24 rfl rfl
theorem dX1_run_0 : decode cX1_run 0 = .ok (.aload_n 0, 1) := dk_42 (dk_at dksX1_run_0 0 rfl rfl)
theorem dX1_run_1 : decode cX1_run 1 = .ok (.invokevirtual 313, 3) := dk_182 1 57 (dk_at dksX1_run_0 1 rfl rfl)
theorem dX1_run_4 : decode cX1_run 4 = .ok (.astore_n 1, 1) := dk_76 (dk_at dksX1_run_0 4 rfl rfl)
theorem dX1_run_5 : decode cX1_run 5 = .ok (.new 61, 3) := dk_187 0 61 (dk_at dksX1_run_0 5 rfl rfl)
theorem dX1_run_8 : decode cX1_run 8 = .ok (.dup, 1) := dk_89 (dk_at dksX1_run_0 8 rfl rfl)
theorem dX1_run_9 : decode cX1_run 9 = .ok (.aload_n 0, 1) := dk_42 (dk_at dksX1_run_0 9 rfl rfl)
theorem dX1_run_10 : decode cX1_run 10 = .ok (.getfield 64, 3) := dk_180 0 64 (dk_at dksX1_run_0 10 rfl rfl)
theorem dX1_run_13 : decode cX1_run 13 = .ok (.invokespecial 113, 3) := dk_183 0 113 (dk_at dksX1_run_0 13 rfl rfl)
theorem dX1_run_16 : decode cX1_run 16 = .ok (.astore_n 2, 1) := dk_77 (dk_at dksX1_run_0 16 rfl rfl)
theorem dX1_run_17 : decode cX1_run 17 = .ok (.iconst 0, 1) := dk_3 (dk_at dksX1_run_0 17 rfl rfl)
theorem dX1_run_18 : decode cX1_run 18 = .ok (.istore_n 3, 1) := dk_62 (dk_at dksX1_run_0 18 rfl rfl)
theorem dX1_run_19 : decode cX1_run 19 = .ok (.iload_n 3, 1) := dk_29 (dk_at dksX1_run_0 19 rfl rfl)
theorem dX1_run_20 : decode cX1_run 20 = .ok (.aload_n 1, 1) := dk_43 (dk_at dksX1_run_0 20 rfl rfl)
theorem dX1_run_21 : decode cX1_run 21 = .ok (.invokeinterface 31 1, 5) := by decide +kernel
theorem dX1_run_26 : decode cX1_run 26 = .ok (.if_icmp .ge 25, 3) := dk_162 0 25 (dk_at dksX1_run_1 5 rfl rfl)
theorem dX1_run_29 : decode cX1_run 29 = .ok (.aload_n 1, 1) := dk_43 (dk_at dksX1_run_1 8 rfl rfl)
theorem dX1_run_30 : decode cX1_run 30 = .ok (.iload_n 3, 1) := dk_29 (dk_at dksX1_run_1 9 rfl rfl)
theorem dX1_run_31 : decode cX1_run 31 = .ok (.invokeinterface 37 2, 5) := by decide +kernel
theorem dX1_run_36 : decode cX1_run 36 = .ok (.checkcast 129, 3) := dk_192 0 129 (dk_at dksX1_run_1 15 rfl rfl)
theorem dX1_run_39 : decode cX1_run 39 = .ok (.aload_n 2, 1) := dk_44 (dk_at dksX1_run_1 18 rfl rfl)
theorem dX1_run_40 : decode cX1_run 40 = .ok (.invokevirtual 316, 3) := dk_182 1 60 (dk_at dksX1_run_1 19 rfl rfl)
theorem dX1_run_43 : decode cX1_run 43 = .ok (.istore 4, 2) := dk_54 4 (dk_at dksX1_run_1 22 rfl rfl)
theorem dX1_run_45 : decode cX1_run 45 = .ok (.iinc 3 1, 3) := dk_132 3 1 (dk_at dksX1_run_2 0 rfl rfl)
theorem dX1_run_48 : decode cX1_run 48 = .ok (.goto (-29), 3) := dk_167 255 227 (dk_at dksX1_run_2 3 rfl rfl)
theorem dX1_run_51 : decode cX1_run 51 = .ok (.goto 13, 3) := dk_167 0 13 (dk_at dksX1_run_2 6 rfl rfl)
theorem dX1_run_54 : decode cX1_run 54 = .ok (.astore 4, 2) := dk_58 4 (dk_at dksX1_run_2 9 rfl rfl)
theorem dX1_run_56 : decode cX1_run 56 = .ok (.aload_n 0, 1) := dk_42 (dk_at dksX1_run_2 11 rfl rfl)
theorem dX1_run_57 : decode cX1_run 57 = .ok (.aload 4, 2) := dk_25 4 (dk_at dksX1_run_2 12 rfl rfl)
theorem dX1_run_59 : decode cX1_run 59 = .ok (.iload_n 3, 1) := dk_29 (dk_at dksX1_run_2 14 rfl rfl)
theorem dX1_run_60 : decode cX1_run 60 = .ok (.invokevirtual 125, 3) := dk_182 0 125 (dk_at dksX1_run_2 15 rfl rfl)
theorem dX1_run_63 : decode cX1_run 63 = .ok (.athrow, 1) := dk_191 (dk_at dksX1_run_2 18 rfl rfl)
theorem dX1_run_64 : decode cX1_run 64 = .ok (.aload_n 0, 1) := dk_42 (dk_at dksX1_run_2 19 rfl rfl)
theorem dX1_run_65 : decode cX1_run 65 = .ok (.aload_n 2, 1) := dk_44 (dk_at dksX1_run_2 20 rfl rfl)
theorem dX1_run_66 : decode cX1_run 66 = .ok (.invokevirtual 122, 3) := dk_182 0 122 (dk_at dksX1_run_2 21 rfl rfl)
theorem dX1_run_69 : decode cX1_run 69 = .ok (.iload_n 3, 1) := dk_29 (dk_at dksX1_run_3 0 rfl rfl)
theorem dX1_run_70 : decode cX1_run 70 = .ok (.ireturn, 1) := dk_172 (dk_at dksX1_run_3 1 rfl rfl)
abbrev cX1_readOrders : ByteArray := prog_1_method_41_code
def yX1_readOrders : MethodName := ⟨RX1, "readOrders", "()Ljava/util/List;"⟩
def dkwX1_readOrders_1 : List UInt8 := [182, 1, 48, 176, 77, 42, 44, 180, 1, 54, 181, 0, 88, 187, 0, 7, 89, 183, 0, 9, 191]
abbrev dktX1_readOrders_1 : List UInt8 := dkwX1_readOrders_1 ++ []
def dkwX1_readOrders_0 : List UInt8 := [187, 1, 35, 89, 42, 180, 0, 78, 182, 1, 37, 183, 1, 41, 76, 42, 180, 0, 78, 3, 182, 1, 44, 43]
abbrev dktX1_readOrders_0 : List UInt8 := dkwX1_readOrders_0 ++ dktX1_readOrders_1
theorem dksX1_readOrders_0 : cX1_readOrders.data.toList.drop 0 = dktX1_readOrders_0 := by decide +kernel
theorem dksX1_readOrders_1 : cX1_readOrders.data.toList.drop 24 = dktX1_readOrders_1 := dk_seg dksX1_readOrders_0 24 rfl rfl
theorem dX1_readOrders_0 : decode cX1_readOrders 0 = .ok (.new 291, 3) := dk_187 1 35 (dk_at dksX1_readOrders_0 0 rfl rfl)
theorem dX1_readOrders_3 : decode cX1_readOrders 3 = .ok (.dup, 1) := dk_89 (dk_at dksX1_readOrders_0 3 rfl rfl)
theorem dX1_readOrders_4 : decode cX1_readOrders 4 = .ok (.aload_n 0, 1) := dk_42 (dk_at dksX1_readOrders_0 4 rfl rfl)
theorem dX1_readOrders_5 : decode cX1_readOrders 5 = .ok (.getfield 78, 3) := dk_180 0 78 (dk_at dksX1_readOrders_0 5 rfl rfl)
theorem dX1_readOrders_8 : decode cX1_readOrders 8 = .ok (.invokevirtual 293, 3) := dk_182 1 37 (dk_at dksX1_readOrders_0 8 rfl rfl)
theorem dX1_readOrders_11 : decode cX1_readOrders 11 = .ok (.invokespecial 297, 3) := dk_183 1 41 (dk_at dksX1_readOrders_0 11 rfl rfl)
theorem dX1_readOrders_14 : decode cX1_readOrders 14 = .ok (.astore_n 1, 1) := dk_76 (dk_at dksX1_readOrders_0 14 rfl rfl)
theorem dX1_readOrders_15 : decode cX1_readOrders 15 = .ok (.aload_n 0, 1) := dk_42 (dk_at dksX1_readOrders_0 15 rfl rfl)
theorem dX1_readOrders_16 : decode cX1_readOrders 16 = .ok (.getfield 78, 3) := dk_180 0 78 (dk_at dksX1_readOrders_0 16 rfl rfl)
theorem dX1_readOrders_19 : decode cX1_readOrders 19 = .ok (.iconst 0, 1) := dk_3 (dk_at dksX1_readOrders_0 19 rfl rfl)
theorem dX1_readOrders_20 : decode cX1_readOrders 20 = .ok (.invokevirtual 300, 3) := dk_182 1 44 (dk_at dksX1_readOrders_0 20 rfl rfl)
theorem dX1_readOrders_23 : decode cX1_readOrders 23 = .ok (.aload_n 1, 1) := dk_43 (dk_at dksX1_readOrders_0 23 rfl rfl)
theorem dX1_readOrders_24 : decode cX1_readOrders 24 = .ok (.invokevirtual 304, 3) := dk_182 1 48 (dk_at dksX1_readOrders_1 0 rfl rfl)
theorem dX1_readOrders_27 : decode cX1_readOrders 27 = .ok (.areturn, 1) := dk_176 (dk_at dksX1_readOrders_1 3 rfl rfl)
theorem dX1_readOrders_28 : decode cX1_readOrders 28 = .ok (.astore_n 2, 1) := dk_77 (dk_at dksX1_readOrders_1 4 rfl rfl)
theorem dX1_readOrders_29 : decode cX1_readOrders 29 = .ok (.aload_n 0, 1) := dk_42 (dk_at dksX1_readOrders_1 5 rfl rfl)
theorem dX1_readOrders_30 : decode cX1_readOrders 30 = .ok (.aload_n 2, 1) := dk_44 (dk_at dksX1_readOrders_1 6 rfl rfl)
theorem dX1_readOrders_31 : decode cX1_readOrders 31 = .ok (.getfield 310, 3) := dk_180 1 54 (dk_at dksX1_readOrders_1 7 rfl rfl)
theorem dX1_readOrders_34 : decode cX1_readOrders 34 = .ok (.putfield 88, 3) := dk_181 0 88 (dk_at dksX1_readOrders_1 10 rfl rfl)
theorem dX1_readOrders_37 : decode cX1_readOrders 37 = .ok (.new 7, 3) := dk_187 0 7 (dk_at dksX1_readOrders_1 13 rfl rfl)
theorem dX1_readOrders_40 : decode cX1_readOrders 40 = .ok (.dup, 1) := dk_89 (dk_at dksX1_readOrders_1 16 rfl rfl)
theorem dX1_readOrders_41 : decode cX1_readOrders 41 = .ok (.invokespecial 9, 3) := dk_183 0 9 (dk_at dksX1_readOrders_1 17 rfl rfl)
theorem dX1_readOrders_44 : decode cX1_readOrders 44 = .ok (.athrow, 1) := dk_191 (dk_at dksX1_readOrders_1 20 rfl rfl)
abbrev cX1_faultPosition : ByteArray := prog_1_method_43_code
def yX1_faultPosition : MethodName := ⟨RX1, "faultPosition", "()I"⟩
def dkwX1_faultPosition_0 : List UInt8 := [42, 180, 0, 88, 2, 159, 0, 7, 4, 167, 0, 4, 3, 184, 0, 250, 42, 180, 0, 88, 172]
abbrev dktX1_faultPosition_0 : List UInt8 := dkwX1_faultPosition_0 ++ []
theorem dksX1_faultPosition_0 : cX1_faultPosition.data.toList.drop 0 = dktX1_faultPosition_0 := by decide +kernel
theorem dX1_faultPosition_0 : decode cX1_faultPosition 0 = .ok (.aload_n 0, 1) := dk_42 (dk_at dksX1_faultPosition_0 0 rfl rfl)
theorem dX1_faultPosition_1 : decode cX1_faultPosition 1 = .ok (.getfield 88, 3) := dk_180 0 88 (dk_at dksX1_faultPosition_0 1 rfl rfl)
theorem dX1_faultPosition_4 : decode cX1_faultPosition 4 = .ok (.iconst (-1), 1) := dk_2 (dk_at dksX1_faultPosition_0 4 rfl rfl)
theorem dX1_faultPosition_5 : decode cX1_faultPosition 5 = .ok (.if_icmp .eq 7, 3) := dk_159 0 7 (dk_at dksX1_faultPosition_0 5 rfl rfl)
theorem dX1_faultPosition_8 : decode cX1_faultPosition 8 = .ok (.iconst 1, 1) := dk_4 (dk_at dksX1_faultPosition_0 8 rfl rfl)
theorem dX1_faultPosition_9 : decode cX1_faultPosition 9 = .ok (.goto 4, 3) := dk_167 0 4 (dk_at dksX1_faultPosition_0 9 rfl rfl)
theorem dX1_faultPosition_12 : decode cX1_faultPosition 12 = .ok (.iconst 0, 1) := dk_3 (dk_at dksX1_faultPosition_0 12 rfl rfl)
theorem dX1_faultPosition_13 : decode cX1_faultPosition 13 = .ok (.invokestatic 250, 3) := dk_184 0 250 (dk_at dksX1_faultPosition_0 13 rfl rfl)
theorem dX1_faultPosition_16 : decode cX1_faultPosition 16 = .ok (.aload_n 0, 1) := dk_42 (dk_at dksX1_faultPosition_0 16 rfl rfl)
theorem dX1_faultPosition_17 : decode cX1_faultPosition 17 = .ok (.getfield 88, 3) := dk_180 0 88 (dk_at dksX1_faultPosition_0 17 rfl rfl)
theorem dX1_faultPosition_20 : decode cX1_faultPosition 20 = .ok (.ireturn, 1) := dk_172 (dk_at dksX1_faultPosition_0 20 rfl rfl)
abbrev cX1_reason : ByteArray := prog_1_method_44_code
def yX1_reason : MethodName := ⟨RX1, "reason", "(I)I"⟩
def dkwX1_reason_2 : List UInt8 := [180, 1, 66, 167, 0, 7, 42, 180, 0, 107, 172]
abbrev dktX1_reason_2 : List UInt8 := dkwX1_reason_2 ++ []
def dkwX1_reason_1 : List UInt8 := [27, 154, 0, 13, 42, 180, 0, 103, 180, 1, 63, 167, 0, 22, 27, 4, 160, 0, 13, 42, 180, 0, 103]
abbrev dktX1_reason_1 : List UInt8 := dkwX1_reason_1 ++ dktX1_reason_2
def dkwX1_reason_0 : List UInt8 := [27, 3, 5, 184, 0, 21, 184, 0, 239, 42, 180, 0, 103, 198, 0, 7, 4, 167, 0, 4, 3, 184, 0, 250]
abbrev dktX1_reason_0 : List UInt8 := dkwX1_reason_0 ++ dktX1_reason_1
theorem dksX1_reason_0 : cX1_reason.data.toList.drop 0 = dktX1_reason_0 := by decide +kernel
theorem dksX1_reason_1 : cX1_reason.data.toList.drop 24 = dktX1_reason_1 := dk_seg dksX1_reason_0 24 rfl rfl
theorem dksX1_reason_2 : cX1_reason.data.toList.drop 47 = dktX1_reason_2 := dk_seg dksX1_reason_1 23 rfl rfl
theorem dX1_reason_0 : decode cX1_reason 0 = .ok (.iload_n 1, 1) := dk_27 (dk_at dksX1_reason_0 0 rfl rfl)
theorem dX1_reason_1 : decode cX1_reason 1 = .ok (.iconst 0, 1) := dk_3 (dk_at dksX1_reason_0 1 rfl rfl)
theorem dX1_reason_2 : decode cX1_reason 2 = .ok (.iconst 2, 1) := dk_5 (dk_at dksX1_reason_0 2 rfl rfl)
theorem dX1_reason_3 : decode cX1_reason 3 = .ok (.invokestatic 21, 3) := dk_184 0 21 (dk_at dksX1_reason_0 3 rfl rfl)
theorem dX1_reason_6 : decode cX1_reason 6 = .ok (.invokestatic 239, 3) := dk_184 0 239 (dk_at dksX1_reason_0 6 rfl rfl)
theorem dX1_reason_9 : decode cX1_reason 9 = .ok (.aload_n 0, 1) := dk_42 (dk_at dksX1_reason_0 9 rfl rfl)
theorem dX1_reason_10 : decode cX1_reason 10 = .ok (.getfield 103, 3) := dk_180 0 103 (dk_at dksX1_reason_0 10 rfl rfl)
theorem dX1_reason_13 : decode cX1_reason 13 = .ok (.ifnull 7, 3) := dk_198 0 7 (dk_at dksX1_reason_0 13 rfl rfl)
theorem dX1_reason_16 : decode cX1_reason 16 = .ok (.iconst 1, 1) := dk_4 (dk_at dksX1_reason_0 16 rfl rfl)
theorem dX1_reason_17 : decode cX1_reason 17 = .ok (.goto 4, 3) := dk_167 0 4 (dk_at dksX1_reason_0 17 rfl rfl)
theorem dX1_reason_20 : decode cX1_reason 20 = .ok (.iconst 0, 1) := dk_3 (dk_at dksX1_reason_0 20 rfl rfl)
theorem dX1_reason_21 : decode cX1_reason 21 = .ok (.invokestatic 250, 3) := dk_184 0 250 (dk_at dksX1_reason_0 21 rfl rfl)
theorem dX1_reason_24 : decode cX1_reason 24 = .ok (.iload_n 1, 1) := dk_27 (dk_at dksX1_reason_1 0 rfl rfl)
theorem dX1_reason_25 : decode cX1_reason 25 = .ok (.ifCond .ne 13, 3) := dk_154 0 13 (dk_at dksX1_reason_1 1 rfl rfl)
theorem dX1_reason_28 : decode cX1_reason 28 = .ok (.aload_n 0, 1) := dk_42 (dk_at dksX1_reason_1 4 rfl rfl)
theorem dX1_reason_29 : decode cX1_reason 29 = .ok (.getfield 103, 3) := dk_180 0 103 (dk_at dksX1_reason_1 5 rfl rfl)
theorem dX1_reason_32 : decode cX1_reason 32 = .ok (.getfield 319, 3) := dk_180 1 63 (dk_at dksX1_reason_1 8 rfl rfl)
theorem dX1_reason_35 : decode cX1_reason 35 = .ok (.goto 22, 3) := dk_167 0 22 (dk_at dksX1_reason_1 11 rfl rfl)
theorem dX1_reason_38 : decode cX1_reason 38 = .ok (.iload_n 1, 1) := dk_27 (dk_at dksX1_reason_1 14 rfl rfl)
theorem dX1_reason_39 : decode cX1_reason 39 = .ok (.iconst 1, 1) := dk_4 (dk_at dksX1_reason_1 15 rfl rfl)
theorem dX1_reason_40 : decode cX1_reason 40 = .ok (.if_icmp .ne 13, 3) := dk_160 0 13 (dk_at dksX1_reason_1 16 rfl rfl)
theorem dX1_reason_43 : decode cX1_reason 43 = .ok (.aload_n 0, 1) := dk_42 (dk_at dksX1_reason_1 19 rfl rfl)
theorem dX1_reason_44 : decode cX1_reason 44 = .ok (.getfield 103, 3) := dk_180 0 103 (dk_at dksX1_reason_1 20 rfl rfl)
theorem dX1_reason_47 : decode cX1_reason 47 = .ok (.getfield 322, 3) := dk_180 1 66 (dk_at dksX1_reason_2 0 rfl rfl)
theorem dX1_reason_50 : decode cX1_reason 50 = .ok (.goto 7, 3) := dk_167 0 7 (dk_at dksX1_reason_2 3 rfl rfl)
theorem dX1_reason_53 : decode cX1_reason 53 = .ok (.aload_n 0, 1) := dk_42 (dk_at dksX1_reason_2 6 rfl rfl)
theorem dX1_reason_54 : decode cX1_reason 54 = .ok (.getfield 107, 3) := dk_180 0 107 (dk_at dksX1_reason_2 7 rfl rfl)
theorem dX1_reason_57 : decode cX1_reason 57 = .ok (.ireturn, 1) := dk_172 (dk_at dksX1_reason_2 10 rfl rfl)
abbrev cX1_character : ByteArray := prog_1_method_46_code
def yX1_character : MethodName := ⟨RX1, "character", "(I)C"⟩
def dkwX1_character_1 : List UInt8 := [182, 1, 81, 172]
abbrev dktX1_character_1 : List UInt8 := dkwX1_character_1 ++ []
def dkwX1_character_0 : List UInt8 := [27, 3, 42, 180, 0, 84, 182, 1, 78, 4, 100, 184, 0, 21, 184, 0, 170, 42, 180, 0, 84, 27]
abbrev dktX1_character_0 : List UInt8 := dkwX1_character_0 ++ dktX1_character_1
theorem dksX1_character_0 : cX1_character.data.toList.drop 0 = dktX1_character_0 := by decide +kernel
theorem dksX1_character_1 : cX1_character.data.toList.drop 22 = dktX1_character_1 := dk_seg dksX1_character_0 22 rfl rfl
theorem dX1_character_0 : decode cX1_character 0 = .ok (.iload_n 1, 1) := dk_27 (dk_at dksX1_character_0 0 rfl rfl)
theorem dX1_character_1 : decode cX1_character 1 = .ok (.iconst 0, 1) := dk_3 (dk_at dksX1_character_0 1 rfl rfl)
theorem dX1_character_2 : decode cX1_character 2 = .ok (.aload_n 0, 1) := dk_42 (dk_at dksX1_character_0 2 rfl rfl)
theorem dX1_character_3 : decode cX1_character 3 = .ok (.getfield 84, 3) := dk_180 0 84 (dk_at dksX1_character_0 3 rfl rfl)
theorem dX1_character_6 : decode cX1_character 6 = .ok (.invokevirtual 334, 3) := dk_182 1 78 (dk_at dksX1_character_0 6 rfl rfl)
theorem dX1_character_9 : decode cX1_character 9 = .ok (.iconst 1, 1) := dk_4 (dk_at dksX1_character_0 9 rfl rfl)
theorem dX1_character_10 : decode cX1_character 10 = .ok (.isub, 1) := dk_100 (dk_at dksX1_character_0 10 rfl rfl)
theorem dX1_character_11 : decode cX1_character 11 = .ok (.invokestatic 21, 3) := dk_184 0 21 (dk_at dksX1_character_0 11 rfl rfl)
theorem dX1_character_14 : decode cX1_character 14 = .ok (.invokestatic 170, 3) := dk_184 0 170 (dk_at dksX1_character_0 14 rfl rfl)
theorem dX1_character_17 : decode cX1_character 17 = .ok (.aload_n 0, 1) := dk_42 (dk_at dksX1_character_0 17 rfl rfl)
theorem dX1_character_18 : decode cX1_character 18 = .ok (.getfield 84, 3) := dk_180 0 84 (dk_at dksX1_character_0 18 rfl rfl)
theorem dX1_character_21 : decode cX1_character 21 = .ok (.iload_n 1, 1) := dk_27 (dk_at dksX1_character_0 21 rfl rfl)
theorem dX1_character_22 : decode cX1_character 22 = .ok (.invokevirtual 337, 3) := dk_182 1 81 (dk_at dksX1_character_1 0 rfl rfl)
theorem dX1_character_25 : decode cX1_character 25 = .ok (.ireturn, 1) := dk_172 (dk_at dksX1_character_1 3 rfl rfl)
abbrev cX1_meanLength : ByteArray := prog_1_method_47_code
def yX1_meanLength : MethodName := ⟨RX1, "meanLength", "()D"⟩
def dkwX1_meanLength_3 : List UInt8 := [180, 0, 201, 182, 1, 69, 135, 111, 175]
abbrev dktX1_meanLength_3 : List UInt8 := dkwX1_meanLength_3 ++ []
def dkwX1_meanLength_2 : List UInt8 := [182, 0, 174, 192, 0, 203, 180, 0, 206, 96, 60, 132, 2, 1, 167, 255, 219, 27, 135, 42, 180, 0, 64]
abbrev dktX1_meanLength_2 : List UInt8 := dkwX1_meanLength_2 ++ dktX1_meanLength_3
def dkwX1_meanLength_1 : List UInt8 := [61, 28, 42, 180, 0, 64, 180, 0, 201, 182, 1, 69, 162, 0, 29, 27, 42, 180, 0, 64, 180, 0, 201, 28]
abbrev dktX1_meanLength_1 : List UInt8 := dkwX1_meanLength_1 ++ dktX1_meanLength_2
def dkwX1_meanLength_0 : List UInt8 := [42, 180, 0, 64, 180, 0, 201, 182, 1, 69, 154, 0, 11, 187, 1, 85, 89, 183, 1, 87, 191, 3, 60, 3]
abbrev dktX1_meanLength_0 : List UInt8 := dkwX1_meanLength_0 ++ dktX1_meanLength_1
theorem dksX1_meanLength_0 : cX1_meanLength.data.toList.drop 0 = dktX1_meanLength_0 := by decide +kernel
theorem dksX1_meanLength_1 : cX1_meanLength.data.toList.drop 24 = dktX1_meanLength_1 := dk_seg dksX1_meanLength_0 24 rfl rfl
theorem dksX1_meanLength_2 : cX1_meanLength.data.toList.drop 48 = dktX1_meanLength_2 := dk_seg dksX1_meanLength_1 24 rfl rfl
theorem dksX1_meanLength_3 : cX1_meanLength.data.toList.drop 71 = dktX1_meanLength_3 := dk_seg dksX1_meanLength_2 23 rfl rfl
theorem dX1_meanLength_0 : decode cX1_meanLength 0 = .ok (.aload_n 0, 1) := dk_42 (dk_at dksX1_meanLength_0 0 rfl rfl)
theorem dX1_meanLength_1 : decode cX1_meanLength 1 = .ok (.getfield 64, 3) := dk_180 0 64 (dk_at dksX1_meanLength_0 1 rfl rfl)
theorem dX1_meanLength_4 : decode cX1_meanLength 4 = .ok (.getfield 201, 3) := dk_180 0 201 (dk_at dksX1_meanLength_0 4 rfl rfl)
theorem dX1_meanLength_7 : decode cX1_meanLength 7 = .ok (.invokevirtual 325, 3) := dk_182 1 69 (dk_at dksX1_meanLength_0 7 rfl rfl)
theorem dX1_meanLength_10 : decode cX1_meanLength 10 = .ok (.ifCond .ne 11, 3) := dk_154 0 11 (dk_at dksX1_meanLength_0 10 rfl rfl)
theorem dX1_meanLength_13 : decode cX1_meanLength 13 = .ok (.new 341, 3) := dk_187 1 85 (dk_at dksX1_meanLength_0 13 rfl rfl)
theorem dX1_meanLength_16 : decode cX1_meanLength 16 = .ok (.dup, 1) := dk_89 (dk_at dksX1_meanLength_0 16 rfl rfl)
theorem dX1_meanLength_17 : decode cX1_meanLength 17 = .ok (.invokespecial 343, 3) := dk_183 1 87 (dk_at dksX1_meanLength_0 17 rfl rfl)
theorem dX1_meanLength_20 : decode cX1_meanLength 20 = .ok (.athrow, 1) := dk_191 (dk_at dksX1_meanLength_0 20 rfl rfl)
theorem dX1_meanLength_21 : decode cX1_meanLength 21 = .ok (.iconst 0, 1) := dk_3 (dk_at dksX1_meanLength_0 21 rfl rfl)
theorem dX1_meanLength_22 : decode cX1_meanLength 22 = .ok (.istore_n 1, 1) := dk_60 (dk_at dksX1_meanLength_0 22 rfl rfl)
theorem dX1_meanLength_23 : decode cX1_meanLength 23 = .ok (.iconst 0, 1) := dk_3 (dk_at dksX1_meanLength_0 23 rfl rfl)
theorem dX1_meanLength_24 : decode cX1_meanLength 24 = .ok (.istore_n 2, 1) := dk_61 (dk_at dksX1_meanLength_1 0 rfl rfl)
theorem dX1_meanLength_25 : decode cX1_meanLength 25 = .ok (.iload_n 2, 1) := dk_28 (dk_at dksX1_meanLength_1 1 rfl rfl)
theorem dX1_meanLength_26 : decode cX1_meanLength 26 = .ok (.aload_n 0, 1) := dk_42 (dk_at dksX1_meanLength_1 2 rfl rfl)
theorem dX1_meanLength_27 : decode cX1_meanLength 27 = .ok (.getfield 64, 3) := dk_180 0 64 (dk_at dksX1_meanLength_1 3 rfl rfl)
theorem dX1_meanLength_30 : decode cX1_meanLength 30 = .ok (.getfield 201, 3) := dk_180 0 201 (dk_at dksX1_meanLength_1 6 rfl rfl)
theorem dX1_meanLength_33 : decode cX1_meanLength 33 = .ok (.invokevirtual 325, 3) := dk_182 1 69 (dk_at dksX1_meanLength_1 9 rfl rfl)
theorem dX1_meanLength_36 : decode cX1_meanLength 36 = .ok (.if_icmp .ge 29, 3) := dk_162 0 29 (dk_at dksX1_meanLength_1 12 rfl rfl)
theorem dX1_meanLength_39 : decode cX1_meanLength 39 = .ok (.iload_n 1, 1) := dk_27 (dk_at dksX1_meanLength_1 15 rfl rfl)
theorem dX1_meanLength_40 : decode cX1_meanLength 40 = .ok (.aload_n 0, 1) := dk_42 (dk_at dksX1_meanLength_1 16 rfl rfl)
theorem dX1_meanLength_41 : decode cX1_meanLength 41 = .ok (.getfield 64, 3) := dk_180 0 64 (dk_at dksX1_meanLength_1 17 rfl rfl)
theorem dX1_meanLength_44 : decode cX1_meanLength 44 = .ok (.getfield 201, 3) := dk_180 0 201 (dk_at dksX1_meanLength_1 20 rfl rfl)
theorem dX1_meanLength_47 : decode cX1_meanLength 47 = .ok (.iload_n 2, 1) := dk_28 (dk_at dksX1_meanLength_1 23 rfl rfl)
theorem dX1_meanLength_48 : decode cX1_meanLength 48 = .ok (.invokevirtual 174, 3) := dk_182 0 174 (dk_at dksX1_meanLength_2 0 rfl rfl)
theorem dX1_meanLength_51 : decode cX1_meanLength 51 = .ok (.checkcast 203, 3) := dk_192 0 203 (dk_at dksX1_meanLength_2 3 rfl rfl)
theorem dX1_meanLength_54 : decode cX1_meanLength 54 = .ok (.getfield 206, 3) := dk_180 0 206 (dk_at dksX1_meanLength_2 6 rfl rfl)
theorem dX1_meanLength_57 : decode cX1_meanLength 57 = .ok (.iadd, 1) := dk_96 (dk_at dksX1_meanLength_2 9 rfl rfl)
theorem dX1_meanLength_58 : decode cX1_meanLength 58 = .ok (.istore_n 1, 1) := dk_60 (dk_at dksX1_meanLength_2 10 rfl rfl)
theorem dX1_meanLength_59 : decode cX1_meanLength 59 = .ok (.iinc 2 1, 3) := dk_132 2 1 (dk_at dksX1_meanLength_2 11 rfl rfl)
theorem dX1_meanLength_62 : decode cX1_meanLength 62 = .ok (.goto (-37), 3) := dk_167 255 219 (dk_at dksX1_meanLength_2 14 rfl rfl)
theorem dX1_meanLength_65 : decode cX1_meanLength 65 = .ok (.iload_n 1, 1) := dk_27 (dk_at dksX1_meanLength_2 17 rfl rfl)
theorem dX1_meanLength_66 : decode cX1_meanLength 66 = .ok (.i2d, 1) := dk_135 (dk_at dksX1_meanLength_2 18 rfl rfl)
theorem dX1_meanLength_67 : decode cX1_meanLength 67 = .ok (.aload_n 0, 1) := dk_42 (dk_at dksX1_meanLength_2 19 rfl rfl)
theorem dX1_meanLength_68 : decode cX1_meanLength 68 = .ok (.getfield 64, 3) := dk_180 0 64 (dk_at dksX1_meanLength_2 20 rfl rfl)
theorem dX1_meanLength_71 : decode cX1_meanLength 71 = .ok (.getfield 201, 3) := dk_180 0 201 (dk_at dksX1_meanLength_3 0 rfl rfl)
theorem dX1_meanLength_74 : decode cX1_meanLength 74 = .ok (.invokevirtual 325, 3) := dk_182 1 69 (dk_at dksX1_meanLength_3 3 rfl rfl)
theorem dX1_meanLength_77 : decode cX1_meanLength 77 = .ok (.i2d, 1) := dk_135 (dk_at dksX1_meanLength_3 6 rfl rfl)
theorem dX1_meanLength_78 : decode cX1_meanLength 78 = .ok (.ddiv, 1) := dk_111 (dk_at dksX1_meanLength_3 7 rfl rfl)
theorem dX1_meanLength_79 : decode cX1_meanLength 79 = .ok (.dreturn, 1) := dk_175 (dk_at dksX1_meanLength_3 8 rfl rfl)
abbrev cX1_lostShare : ByteArray := prog_1_method_48_code
def yX1_lostShare : MethodName := ⟨RX1, "lostShare", "()F"⟩
def dkwX1_lostShare_1 : List UInt8 := [180, 1, 91, 42, 180, 0, 64, 180, 1, 94, 96, 134, 42, 180, 0, 64, 180, 1, 88, 134, 110, 174]
abbrev dktX1_lostShare_1 : List UInt8 := dkwX1_lostShare_1 ++ []
def dkwX1_lostShare_0 : List UInt8 := [42, 180, 0, 64, 180, 1, 88, 154, 0, 11, 187, 1, 85, 89, 183, 1, 87, 191, 42, 180, 0, 64]
abbrev dktX1_lostShare_0 : List UInt8 := dkwX1_lostShare_0 ++ dktX1_lostShare_1
theorem dksX1_lostShare_0 : cX1_lostShare.data.toList.drop 0 = dktX1_lostShare_0 := by decide +kernel
theorem dksX1_lostShare_1 : cX1_lostShare.data.toList.drop 22 = dktX1_lostShare_1 := dk_seg dksX1_lostShare_0 22 rfl rfl
theorem dX1_lostShare_0 : decode cX1_lostShare 0 = .ok (.aload_n 0, 1) := dk_42 (dk_at dksX1_lostShare_0 0 rfl rfl)
theorem dX1_lostShare_1 : decode cX1_lostShare 1 = .ok (.getfield 64, 3) := dk_180 0 64 (dk_at dksX1_lostShare_0 1 rfl rfl)
theorem dX1_lostShare_4 : decode cX1_lostShare 4 = .ok (.getfield 344, 3) := dk_180 1 88 (dk_at dksX1_lostShare_0 4 rfl rfl)
theorem dX1_lostShare_7 : decode cX1_lostShare 7 = .ok (.ifCond .ne 11, 3) := dk_154 0 11 (dk_at dksX1_lostShare_0 7 rfl rfl)
theorem dX1_lostShare_10 : decode cX1_lostShare 10 = .ok (.new 341, 3) := dk_187 1 85 (dk_at dksX1_lostShare_0 10 rfl rfl)
theorem dX1_lostShare_13 : decode cX1_lostShare 13 = .ok (.dup, 1) := dk_89 (dk_at dksX1_lostShare_0 13 rfl rfl)
theorem dX1_lostShare_14 : decode cX1_lostShare 14 = .ok (.invokespecial 343, 3) := dk_183 1 87 (dk_at dksX1_lostShare_0 14 rfl rfl)
theorem dX1_lostShare_17 : decode cX1_lostShare 17 = .ok (.athrow, 1) := dk_191 (dk_at dksX1_lostShare_0 17 rfl rfl)
theorem dX1_lostShare_18 : decode cX1_lostShare 18 = .ok (.aload_n 0, 1) := dk_42 (dk_at dksX1_lostShare_0 18 rfl rfl)
theorem dX1_lostShare_19 : decode cX1_lostShare 19 = .ok (.getfield 64, 3) := dk_180 0 64 (dk_at dksX1_lostShare_0 19 rfl rfl)
theorem dX1_lostShare_22 : decode cX1_lostShare 22 = .ok (.getfield 347, 3) := dk_180 1 91 (dk_at dksX1_lostShare_1 0 rfl rfl)
theorem dX1_lostShare_25 : decode cX1_lostShare 25 = .ok (.aload_n 0, 1) := dk_42 (dk_at dksX1_lostShare_1 3 rfl rfl)
theorem dX1_lostShare_26 : decode cX1_lostShare 26 = .ok (.getfield 64, 3) := dk_180 0 64 (dk_at dksX1_lostShare_1 4 rfl rfl)
theorem dX1_lostShare_29 : decode cX1_lostShare 29 = .ok (.getfield 350, 3) := dk_180 1 94 (dk_at dksX1_lostShare_1 7 rfl rfl)
theorem dX1_lostShare_32 : decode cX1_lostShare 32 = .ok (.iadd, 1) := dk_96 (dk_at dksX1_lostShare_1 10 rfl rfl)
theorem dX1_lostShare_33 : decode cX1_lostShare 33 = .ok (.i2f, 1) := dk_134 (dk_at dksX1_lostShare_1 11 rfl rfl)
theorem dX1_lostShare_34 : decode cX1_lostShare 34 = .ok (.aload_n 0, 1) := dk_42 (dk_at dksX1_lostShare_1 12 rfl rfl)
theorem dX1_lostShare_35 : decode cX1_lostShare 35 = .ok (.getfield 64, 3) := dk_180 0 64 (dk_at dksX1_lostShare_1 13 rfl rfl)
theorem dX1_lostShare_38 : decode cX1_lostShare 38 = .ok (.getfield 344, 3) := dk_180 1 88 (dk_at dksX1_lostShare_1 16 rfl rfl)
theorem dX1_lostShare_41 : decode cX1_lostShare 41 = .ok (.i2f, 1) := dk_134 (dk_at dksX1_lostShare_1 19 rfl rfl)
theorem dX1_lostShare_42 : decode cX1_lostShare 42 = .ok (.fdiv, 1) := dk_110 (dk_at dksX1_lostShare_1 20 rfl rfl)
theorem dX1_lostShare_43 : decode cX1_lostShare 43 = .ok (.freturn, 1) := dk_174 (dk_at dksX1_lostShare_1 21 rfl rfl)
abbrev cX1_account : ByteArray := prog_1_method_49_code
def yX1_account : MethodName := ⟨RX1, "account", "(I)I"⟩
def dkwX1_account_11 : List UInt8 := [191]
abbrev dktX1_account_11 : List UInt8 := dkwX1_account_11 ++ []
def dkwX1_account_10 : List UInt8 := [180, 0, 78, 182, 1, 26, 172, 42, 180, 0, 71, 185, 0, 92, 1, 0, 172, 187, 0, 7, 89, 183, 0, 9]
abbrev dktX1_account_10 : List UInt8 := dkwX1_account_10 ++ dktX1_account_11
def dkwX1_account_9 : List UInt8 := [180, 0, 64, 180, 1, 13, 172, 42, 180, 0, 64, 182, 1, 120, 153, 0, 7, 4, 167, 0, 4, 3, 172, 42]
abbrev dktX1_account_9 : List UInt8 := dkwX1_account_9 ++ dktX1_account_10
def dkwX1_account_8 : List UInt8 := [180, 0, 64, 180, 1, 94, 172, 42, 180, 0, 64, 180, 1, 117, 172, 42, 180, 0, 64, 180, 1, 19, 172, 42]
abbrev dktX1_account_8 : List UInt8 := dkwX1_account_8 ++ dktX1_account_9
def dkwX1_account_7 : List UInt8 := [180, 0, 64, 180, 0, 210, 180, 1, 106, 184, 1, 110, 172, 42, 180, 0, 64, 180, 1, 91, 172, 42]
abbrev dktX1_account_7 : List UInt8 := dkwX1_account_7 ++ dktX1_account_8
def dkwX1_account_6 : List UInt8 := [180, 0, 64, 180, 0, 201, 180, 1, 106, 184, 1, 110, 172, 42, 180, 0, 64, 180, 1, 114, 172, 42]
abbrev dktX1_account_6 : List UInt8 := dkwX1_account_6 ++ dktX1_account_7
def dkwX1_account_5 : List UInt8 := [180, 0, 64, 180, 1, 88, 172, 42, 180, 0, 64, 180, 0, 177, 180, 1, 106, 184, 1, 110, 172, 42]
abbrev dktX1_account_5 : List UInt8 := dkwX1_account_5 ++ dktX1_account_6
def dkwX1_account_4 : List UInt8 := [180, 0, 232, 182, 1, 69, 172, 42, 180, 0, 64, 182, 1, 100, 172, 42, 180, 0, 64, 180, 1, 103, 172, 42]
abbrev dktX1_account_4 : List UInt8 := dkwX1_account_4 ++ dktX1_account_5
def dkwX1_account_3 : List UInt8 := [180, 0, 64, 182, 1, 97, 172, 42, 180, 0, 64, 180, 0, 210, 182, 1, 69, 172, 42, 180, 0, 64]
abbrev dktX1_account_3 : List UInt8 := dkwX1_account_3 ++ dktX1_account_4
def dkwX1_account_2 : List UInt8 := [42, 180, 0, 64, 180, 0, 177, 182, 1, 69, 172, 42, 180, 0, 64, 180, 0, 201, 182, 1, 69, 172, 42]
abbrev dktX1_account_2 : List UInt8 := dkwX1_account_2 ++ dktX1_account_3
def dkwX1_account_1 : List UInt8 := [170, 0, 0, 0, 0, 1, 39, 0, 0, 0, 0, 0, 0, 0, 19, 0, 0, 0, 95, 0, 0, 0, 106, 0, 0, 0, 117, 0, 0, 0, 125, 0, 0, 0, 136, 0, 0, 0, 147, 0, 0, 0, 155, 0, 0, 0, 163, 0, 0, 0, 171, 0, 0, 0, 185, 0, 0, 0, 199, 0, 0, 0, 207, 0, 0, 0, 221, 0, 0, 0, 229, 0, 0, 0, 237, 0, 0, 0, 245, 0, 0, 0, 253, 0, 0, 1, 5, 0, 0, 1, 21, 0, 0, 1, 29]
abbrev dktX1_account_1 : List UInt8 := dkwX1_account_1 ++ dktX1_account_2
def dkwX1_account_0 : List UInt8 := [27]
abbrev dktX1_account_0 : List UInt8 := dkwX1_account_0 ++ dktX1_account_1
theorem dksX1_account_0 : cX1_account.data.toList.drop 0 = dktX1_account_0 := by decide +kernel
theorem dksX1_account_1 : cX1_account.data.toList.drop 1 = dktX1_account_1 := dk_seg dksX1_account_0 1 rfl rfl
theorem dksX1_account_2 : cX1_account.data.toList.drop 96 = dktX1_account_2 := dk_seg dksX1_account_1 95 rfl rfl
theorem dksX1_account_3 : cX1_account.data.toList.drop 119 = dktX1_account_3 := dk_seg dksX1_account_2 23 rfl rfl
theorem dksX1_account_4 : cX1_account.data.toList.drop 141 = dktX1_account_4 := dk_seg dksX1_account_3 22 rfl rfl
theorem dksX1_account_5 : cX1_account.data.toList.drop 165 = dktX1_account_5 := dk_seg dksX1_account_4 24 rfl rfl
theorem dksX1_account_6 : cX1_account.data.toList.drop 187 = dktX1_account_6 := dk_seg dksX1_account_5 22 rfl rfl
theorem dksX1_account_7 : cX1_account.data.toList.drop 209 = dktX1_account_7 := dk_seg dksX1_account_6 22 rfl rfl
theorem dksX1_account_8 : cX1_account.data.toList.drop 231 = dktX1_account_8 := dk_seg dksX1_account_7 22 rfl rfl
theorem dksX1_account_9 : cX1_account.data.toList.drop 255 = dktX1_account_9 := dk_seg dksX1_account_8 24 rfl rfl
theorem dksX1_account_10 : cX1_account.data.toList.drop 279 = dktX1_account_10 := dk_seg dksX1_account_9 24 rfl rfl
theorem dksX1_account_11 : cX1_account.data.toList.drop 303 = dktX1_account_11 := dk_seg dksX1_account_10 24 rfl rfl
theorem dX1_account_0 : decode cX1_account 0 = .ok (.iload_n 1, 1) := dk_27 (dk_at dksX1_account_0 0 rfl rfl)
theorem dX1_account_1 : decode cX1_account 1 = .ok (.tableswitch 295 0 19 #[95, 106, 117, 125, 136, 147, 155, 163, 171, 185, 199, 207, 221, 229, 237, 245, 253, 261, 277, 285], 95) := by decide +kernel
theorem dX1_account_96 : decode cX1_account 96 = .ok (.aload_n 0, 1) := dk_42 (dk_at dksX1_account_2 0 rfl rfl)
theorem dX1_account_97 : decode cX1_account 97 = .ok (.getfield 64, 3) := dk_180 0 64 (dk_at dksX1_account_2 1 rfl rfl)
theorem dX1_account_100 : decode cX1_account 100 = .ok (.getfield 177, 3) := dk_180 0 177 (dk_at dksX1_account_2 4 rfl rfl)
theorem dX1_account_103 : decode cX1_account 103 = .ok (.invokevirtual 325, 3) := dk_182 1 69 (dk_at dksX1_account_2 7 rfl rfl)
theorem dX1_account_106 : decode cX1_account 106 = .ok (.ireturn, 1) := dk_172 (dk_at dksX1_account_2 10 rfl rfl)
theorem dX1_account_107 : decode cX1_account 107 = .ok (.aload_n 0, 1) := dk_42 (dk_at dksX1_account_2 11 rfl rfl)
theorem dX1_account_108 : decode cX1_account 108 = .ok (.getfield 64, 3) := dk_180 0 64 (dk_at dksX1_account_2 12 rfl rfl)
theorem dX1_account_111 : decode cX1_account 111 = .ok (.getfield 201, 3) := dk_180 0 201 (dk_at dksX1_account_2 15 rfl rfl)
theorem dX1_account_114 : decode cX1_account 114 = .ok (.invokevirtual 325, 3) := dk_182 1 69 (dk_at dksX1_account_2 18 rfl rfl)
theorem dX1_account_117 : decode cX1_account 117 = .ok (.ireturn, 1) := dk_172 (dk_at dksX1_account_2 21 rfl rfl)
theorem dX1_account_118 : decode cX1_account 118 = .ok (.aload_n 0, 1) := dk_42 (dk_at dksX1_account_2 22 rfl rfl)
theorem dX1_account_119 : decode cX1_account 119 = .ok (.getfield 64, 3) := dk_180 0 64 (dk_at dksX1_account_3 0 rfl rfl)
theorem dX1_account_122 : decode cX1_account 122 = .ok (.invokevirtual 353, 3) := dk_182 1 97 (dk_at dksX1_account_3 3 rfl rfl)
theorem dX1_account_125 : decode cX1_account 125 = .ok (.ireturn, 1) := dk_172 (dk_at dksX1_account_3 6 rfl rfl)
theorem dX1_account_126 : decode cX1_account 126 = .ok (.aload_n 0, 1) := dk_42 (dk_at dksX1_account_3 7 rfl rfl)
theorem dX1_account_127 : decode cX1_account 127 = .ok (.getfield 64, 3) := dk_180 0 64 (dk_at dksX1_account_3 8 rfl rfl)
theorem dX1_account_130 : decode cX1_account 130 = .ok (.getfield 210, 3) := dk_180 0 210 (dk_at dksX1_account_3 11 rfl rfl)
theorem dX1_account_133 : decode cX1_account 133 = .ok (.invokevirtual 325, 3) := dk_182 1 69 (dk_at dksX1_account_3 14 rfl rfl)
theorem dX1_account_136 : decode cX1_account 136 = .ok (.ireturn, 1) := dk_172 (dk_at dksX1_account_3 17 rfl rfl)
theorem dX1_account_137 : decode cX1_account 137 = .ok (.aload_n 0, 1) := dk_42 (dk_at dksX1_account_3 18 rfl rfl)
theorem dX1_account_138 : decode cX1_account 138 = .ok (.getfield 64, 3) := dk_180 0 64 (dk_at dksX1_account_3 19 rfl rfl)
theorem dX1_account_141 : decode cX1_account 141 = .ok (.getfield 232, 3) := dk_180 0 232 (dk_at dksX1_account_4 0 rfl rfl)
theorem dX1_account_144 : decode cX1_account 144 = .ok (.invokevirtual 325, 3) := dk_182 1 69 (dk_at dksX1_account_4 3 rfl rfl)
theorem dX1_account_147 : decode cX1_account 147 = .ok (.ireturn, 1) := dk_172 (dk_at dksX1_account_4 6 rfl rfl)
theorem dX1_account_148 : decode cX1_account 148 = .ok (.aload_n 0, 1) := dk_42 (dk_at dksX1_account_4 7 rfl rfl)
theorem dX1_account_149 : decode cX1_account 149 = .ok (.getfield 64, 3) := dk_180 0 64 (dk_at dksX1_account_4 8 rfl rfl)
theorem dX1_account_152 : decode cX1_account 152 = .ok (.invokevirtual 356, 3) := dk_182 1 100 (dk_at dksX1_account_4 11 rfl rfl)
theorem dX1_account_155 : decode cX1_account 155 = .ok (.ireturn, 1) := dk_172 (dk_at dksX1_account_4 14 rfl rfl)
theorem dX1_account_156 : decode cX1_account 156 = .ok (.aload_n 0, 1) := dk_42 (dk_at dksX1_account_4 15 rfl rfl)
theorem dX1_account_157 : decode cX1_account 157 = .ok (.getfield 64, 3) := dk_180 0 64 (dk_at dksX1_account_4 16 rfl rfl)
theorem dX1_account_160 : decode cX1_account 160 = .ok (.getfield 359, 3) := dk_180 1 103 (dk_at dksX1_account_4 19 rfl rfl)
theorem dX1_account_163 : decode cX1_account 163 = .ok (.ireturn, 1) := dk_172 (dk_at dksX1_account_4 22 rfl rfl)
theorem dX1_account_164 : decode cX1_account 164 = .ok (.aload_n 0, 1) := dk_42 (dk_at dksX1_account_4 23 rfl rfl)
theorem dX1_account_165 : decode cX1_account 165 = .ok (.getfield 64, 3) := dk_180 0 64 (dk_at dksX1_account_5 0 rfl rfl)
theorem dX1_account_168 : decode cX1_account 168 = .ok (.getfield 344, 3) := dk_180 1 88 (dk_at dksX1_account_5 3 rfl rfl)
theorem dX1_account_171 : decode cX1_account 171 = .ok (.ireturn, 1) := dk_172 (dk_at dksX1_account_5 6 rfl rfl)
theorem dX1_account_172 : decode cX1_account 172 = .ok (.aload_n 0, 1) := dk_42 (dk_at dksX1_account_5 7 rfl rfl)
theorem dX1_account_173 : decode cX1_account 173 = .ok (.getfield 64, 3) := dk_180 0 64 (dk_at dksX1_account_5 8 rfl rfl)
theorem dX1_account_176 : decode cX1_account 176 = .ok (.getfield 177, 3) := dk_180 0 177 (dk_at dksX1_account_5 11 rfl rfl)
theorem dX1_account_179 : decode cX1_account 179 = .ok (.getfield 362, 3) := dk_180 1 106 (dk_at dksX1_account_5 14 rfl rfl)
theorem dX1_account_182 : decode cX1_account 182 = .ok (.invokestatic 366, 3) := dk_184 1 110 (dk_at dksX1_account_5 17 rfl rfl)
theorem dX1_account_185 : decode cX1_account 185 = .ok (.ireturn, 1) := dk_172 (dk_at dksX1_account_5 20 rfl rfl)
theorem dX1_account_186 : decode cX1_account 186 = .ok (.aload_n 0, 1) := dk_42 (dk_at dksX1_account_5 21 rfl rfl)
theorem dX1_account_187 : decode cX1_account 187 = .ok (.getfield 64, 3) := dk_180 0 64 (dk_at dksX1_account_6 0 rfl rfl)
theorem dX1_account_190 : decode cX1_account 190 = .ok (.getfield 201, 3) := dk_180 0 201 (dk_at dksX1_account_6 3 rfl rfl)
theorem dX1_account_193 : decode cX1_account 193 = .ok (.getfield 362, 3) := dk_180 1 106 (dk_at dksX1_account_6 6 rfl rfl)
theorem dX1_account_196 : decode cX1_account 196 = .ok (.invokestatic 366, 3) := dk_184 1 110 (dk_at dksX1_account_6 9 rfl rfl)
theorem dX1_account_199 : decode cX1_account 199 = .ok (.ireturn, 1) := dk_172 (dk_at dksX1_account_6 12 rfl rfl)
theorem dX1_account_200 : decode cX1_account 200 = .ok (.aload_n 0, 1) := dk_42 (dk_at dksX1_account_6 13 rfl rfl)
theorem dX1_account_201 : decode cX1_account 201 = .ok (.getfield 64, 3) := dk_180 0 64 (dk_at dksX1_account_6 14 rfl rfl)
theorem dX1_account_204 : decode cX1_account 204 = .ok (.getfield 370, 3) := dk_180 1 114 (dk_at dksX1_account_6 17 rfl rfl)
theorem dX1_account_207 : decode cX1_account 207 = .ok (.ireturn, 1) := dk_172 (dk_at dksX1_account_6 20 rfl rfl)
theorem dX1_account_208 : decode cX1_account 208 = .ok (.aload_n 0, 1) := dk_42 (dk_at dksX1_account_6 21 rfl rfl)
theorem dX1_account_209 : decode cX1_account 209 = .ok (.getfield 64, 3) := dk_180 0 64 (dk_at dksX1_account_7 0 rfl rfl)
theorem dX1_account_212 : decode cX1_account 212 = .ok (.getfield 210, 3) := dk_180 0 210 (dk_at dksX1_account_7 3 rfl rfl)
theorem dX1_account_215 : decode cX1_account 215 = .ok (.getfield 362, 3) := dk_180 1 106 (dk_at dksX1_account_7 6 rfl rfl)
theorem dX1_account_218 : decode cX1_account 218 = .ok (.invokestatic 366, 3) := dk_184 1 110 (dk_at dksX1_account_7 9 rfl rfl)
theorem dX1_account_221 : decode cX1_account 221 = .ok (.ireturn, 1) := dk_172 (dk_at dksX1_account_7 12 rfl rfl)
theorem dX1_account_222 : decode cX1_account 222 = .ok (.aload_n 0, 1) := dk_42 (dk_at dksX1_account_7 13 rfl rfl)
theorem dX1_account_223 : decode cX1_account 223 = .ok (.getfield 64, 3) := dk_180 0 64 (dk_at dksX1_account_7 14 rfl rfl)
theorem dX1_account_226 : decode cX1_account 226 = .ok (.getfield 347, 3) := dk_180 1 91 (dk_at dksX1_account_7 17 rfl rfl)
theorem dX1_account_229 : decode cX1_account 229 = .ok (.ireturn, 1) := dk_172 (dk_at dksX1_account_7 20 rfl rfl)
theorem dX1_account_230 : decode cX1_account 230 = .ok (.aload_n 0, 1) := dk_42 (dk_at dksX1_account_7 21 rfl rfl)
theorem dX1_account_231 : decode cX1_account 231 = .ok (.getfield 64, 3) := dk_180 0 64 (dk_at dksX1_account_8 0 rfl rfl)
theorem dX1_account_234 : decode cX1_account 234 = .ok (.getfield 350, 3) := dk_180 1 94 (dk_at dksX1_account_8 3 rfl rfl)
theorem dX1_account_237 : decode cX1_account 237 = .ok (.ireturn, 1) := dk_172 (dk_at dksX1_account_8 6 rfl rfl)
theorem dX1_account_238 : decode cX1_account 238 = .ok (.aload_n 0, 1) := dk_42 (dk_at dksX1_account_8 7 rfl rfl)
theorem dX1_account_239 : decode cX1_account 239 = .ok (.getfield 64, 3) := dk_180 0 64 (dk_at dksX1_account_8 8 rfl rfl)
theorem dX1_account_242 : decode cX1_account 242 = .ok (.getfield 373, 3) := dk_180 1 117 (dk_at dksX1_account_8 11 rfl rfl)
theorem dX1_account_245 : decode cX1_account 245 = .ok (.ireturn, 1) := dk_172 (dk_at dksX1_account_8 14 rfl rfl)
theorem dX1_account_246 : decode cX1_account 246 = .ok (.aload_n 0, 1) := dk_42 (dk_at dksX1_account_8 15 rfl rfl)
theorem dX1_account_247 : decode cX1_account 247 = .ok (.getfield 64, 3) := dk_180 0 64 (dk_at dksX1_account_8 16 rfl rfl)
theorem dX1_account_250 : decode cX1_account 250 = .ok (.getfield 275, 3) := dk_180 1 19 (dk_at dksX1_account_8 19 rfl rfl)
theorem dX1_account_253 : decode cX1_account 253 = .ok (.ireturn, 1) := dk_172 (dk_at dksX1_account_8 22 rfl rfl)
theorem dX1_account_254 : decode cX1_account 254 = .ok (.aload_n 0, 1) := dk_42 (dk_at dksX1_account_8 23 rfl rfl)
theorem dX1_account_255 : decode cX1_account 255 = .ok (.getfield 64, 3) := dk_180 0 64 (dk_at dksX1_account_9 0 rfl rfl)
theorem dX1_account_258 : decode cX1_account 258 = .ok (.getfield 269, 3) := dk_180 1 13 (dk_at dksX1_account_9 3 rfl rfl)
theorem dX1_account_261 : decode cX1_account 261 = .ok (.ireturn, 1) := dk_172 (dk_at dksX1_account_9 6 rfl rfl)
theorem dX1_account_262 : decode cX1_account 262 = .ok (.aload_n 0, 1) := dk_42 (dk_at dksX1_account_9 7 rfl rfl)
theorem dX1_account_263 : decode cX1_account 263 = .ok (.getfield 64, 3) := dk_180 0 64 (dk_at dksX1_account_9 8 rfl rfl)
theorem dX1_account_266 : decode cX1_account 266 = .ok (.invokevirtual 376, 3) := dk_182 1 120 (dk_at dksX1_account_9 11 rfl rfl)
theorem dX1_account_269 : decode cX1_account 269 = .ok (.ifCond .eq 7, 3) := dk_153 0 7 (dk_at dksX1_account_9 14 rfl rfl)
theorem dX1_account_272 : decode cX1_account 272 = .ok (.iconst 1, 1) := dk_4 (dk_at dksX1_account_9 17 rfl rfl)
theorem dX1_account_273 : decode cX1_account 273 = .ok (.goto 4, 3) := dk_167 0 4 (dk_at dksX1_account_9 18 rfl rfl)
theorem dX1_account_276 : decode cX1_account 276 = .ok (.iconst 0, 1) := dk_3 (dk_at dksX1_account_9 21 rfl rfl)
theorem dX1_account_277 : decode cX1_account 277 = .ok (.ireturn, 1) := dk_172 (dk_at dksX1_account_9 22 rfl rfl)
theorem dX1_account_278 : decode cX1_account 278 = .ok (.aload_n 0, 1) := dk_42 (dk_at dksX1_account_9 23 rfl rfl)
theorem dX1_account_279 : decode cX1_account 279 = .ok (.getfield 78, 3) := dk_180 0 78 (dk_at dksX1_account_10 0 rfl rfl)
theorem dX1_account_282 : decode cX1_account 282 = .ok (.invokevirtual 282, 3) := dk_182 1 26 (dk_at dksX1_account_10 3 rfl rfl)
theorem dX1_account_285 : decode cX1_account 285 = .ok (.ireturn, 1) := dk_172 (dk_at dksX1_account_10 6 rfl rfl)
theorem dX1_account_286 : decode cX1_account 286 = .ok (.aload_n 0, 1) := dk_42 (dk_at dksX1_account_10 7 rfl rfl)
theorem dX1_account_287 : decode cX1_account 287 = .ok (.getfield 71, 3) := dk_180 0 71 (dk_at dksX1_account_10 8 rfl rfl)
theorem dX1_account_290 : decode cX1_account 290 = .ok (.invokeinterface 92 1, 5) := by decide +kernel
theorem dX1_account_295 : decode cX1_account 295 = .ok (.ireturn, 1) := dk_172 (dk_at dksX1_account_10 16 rfl rfl)
theorem dX1_account_296 : decode cX1_account 296 = .ok (.new 7, 3) := dk_187 0 7 (dk_at dksX1_account_10 17 rfl rfl)
theorem dX1_account_299 : decode cX1_account 299 = .ok (.dup, 1) := dk_89 (dk_at dksX1_account_10 20 rfl rfl)
theorem dX1_account_300 : decode cX1_account 300 = .ok (.invokespecial 9, 3) := dk_183 0 9 (dk_at dksX1_account_10 21 rfl rfl)
theorem dX1_account_303 : decode cX1_account 303 = .ok (.athrow, 1) := dk_191 (dk_at dksX1_account_11 0 rfl rfl)
abbrev cX1_undo : ByteArray := prog_1_method_51_code
def yX1_undo : MethodName := ⟨RX1, "undo", "()I"⟩
def dkwX1_undo_1 : List UInt8 := [180, 0, 71, 185, 1, 127, 1, 0, 192, 0, 61, 181, 0, 64, 42, 180, 0, 71, 185, 0, 92, 1, 0, 172]
abbrev dktX1_undo_1 : List UInt8 := dkwX1_undo_1 ++ []
def dkwX1_undo_0 : List UInt8 := [42, 180, 0, 71, 185, 1, 126, 1, 0, 154, 0, 7, 4, 167, 0, 4, 3, 184, 1, 28, 42, 42]
abbrev dktX1_undo_0 : List UInt8 := dkwX1_undo_0 ++ dktX1_undo_1
theorem dksX1_undo_0 : cX1_undo.data.toList.drop 0 = dktX1_undo_0 := by decide +kernel
theorem dksX1_undo_1 : cX1_undo.data.toList.drop 22 = dktX1_undo_1 := dk_seg dksX1_undo_0 22 rfl rfl
theorem dX1_undo_0 : decode cX1_undo 0 = .ok (.aload_n 0, 1) := dk_42 (dk_at dksX1_undo_0 0 rfl rfl)
theorem dX1_undo_1 : decode cX1_undo 1 = .ok (.getfield 71, 3) := dk_180 0 71 (dk_at dksX1_undo_0 1 rfl rfl)
theorem dX1_undo_4 : decode cX1_undo 4 = .ok (.invokeinterface 382 1, 5) := by decide +kernel
theorem dX1_undo_9 : decode cX1_undo 9 = .ok (.ifCond .ne 7, 3) := dk_154 0 7 (dk_at dksX1_undo_0 9 rfl rfl)
theorem dX1_undo_12 : decode cX1_undo 12 = .ok (.iconst 1, 1) := dk_4 (dk_at dksX1_undo_0 12 rfl rfl)
theorem dX1_undo_13 : decode cX1_undo 13 = .ok (.goto 4, 3) := dk_167 0 4 (dk_at dksX1_undo_0 13 rfl rfl)
theorem dX1_undo_16 : decode cX1_undo 16 = .ok (.iconst 0, 1) := dk_3 (dk_at dksX1_undo_0 16 rfl rfl)
theorem dX1_undo_17 : decode cX1_undo 17 = .ok (.invokestatic 284, 3) := dk_184 1 28 (dk_at dksX1_undo_0 17 rfl rfl)
theorem dX1_undo_20 : decode cX1_undo 20 = .ok (.aload_n 0, 1) := dk_42 (dk_at dksX1_undo_0 20 rfl rfl)
theorem dX1_undo_21 : decode cX1_undo 21 = .ok (.aload_n 0, 1) := dk_42 (dk_at dksX1_undo_0 21 rfl rfl)
theorem dX1_undo_22 : decode cX1_undo 22 = .ok (.getfield 71, 3) := dk_180 0 71 (dk_at dksX1_undo_1 0 rfl rfl)
theorem dX1_undo_25 : decode cX1_undo 25 = .ok (.invokeinterface 383 1, 5) := by decide +kernel
theorem dX1_undo_30 : decode cX1_undo 30 = .ok (.checkcast 61, 3) := dk_192 0 61 (dk_at dksX1_undo_1 8 rfl rfl)
theorem dX1_undo_33 : decode cX1_undo 33 = .ok (.putfield 64, 3) := dk_181 0 64 (dk_at dksX1_undo_1 11 rfl rfl)
theorem dX1_undo_36 : decode cX1_undo 36 = .ok (.aload_n 0, 1) := dk_42 (dk_at dksX1_undo_1 14 rfl rfl)
theorem dX1_undo_37 : decode cX1_undo 37 = .ok (.getfield 71, 3) := dk_180 0 71 (dk_at dksX1_undo_1 15 rfl rfl)
theorem dX1_undo_40 : decode cX1_undo 40 = .ok (.invokeinterface 92 1, 5) := by decide +kernel
theorem dX1_undo_45 : decode cX1_undo 45 = .ok (.ireturn, 1) := dk_172 (dk_at dksX1_undo_1 23 rfl rfl)
abbrev cX1_restore : ByteArray := prog_1_method_53_code
def yX1_restore : MethodName := ⟨RX1, "restore", "()I"⟩
def dkwX1_restore_1 : List UInt8 := [180, 0, 71, 185, 1, 133, 1, 0, 42, 180, 0, 64, 180, 1, 19, 172]
abbrev dktX1_restore_1 : List UInt8 := dkwX1_restore_1 ++ []
def dkwX1_restore_0 : List UInt8 := [42, 180, 1, 130, 198, 0, 7, 4, 167, 0, 4, 3, 184, 1, 28, 42, 42, 180, 1, 130, 181, 0, 64, 42]
abbrev dktX1_restore_0 : List UInt8 := dkwX1_restore_0 ++ dktX1_restore_1
theorem dksX1_restore_0 : cX1_restore.data.toList.drop 0 = dktX1_restore_0 := by decide +kernel
theorem dksX1_restore_1 : cX1_restore.data.toList.drop 24 = dktX1_restore_1 := dk_seg dksX1_restore_0 24 rfl rfl
theorem dX1_restore_0 : decode cX1_restore 0 = .ok (.aload_n 0, 1) := dk_42 (dk_at dksX1_restore_0 0 rfl rfl)
theorem dX1_restore_1 : decode cX1_restore 1 = .ok (.getfield 386, 3) := dk_180 1 130 (dk_at dksX1_restore_0 1 rfl rfl)
theorem dX1_restore_4 : decode cX1_restore 4 = .ok (.ifnull 7, 3) := dk_198 0 7 (dk_at dksX1_restore_0 4 rfl rfl)
theorem dX1_restore_7 : decode cX1_restore 7 = .ok (.iconst 1, 1) := dk_4 (dk_at dksX1_restore_0 7 rfl rfl)
theorem dX1_restore_8 : decode cX1_restore 8 = .ok (.goto 4, 3) := dk_167 0 4 (dk_at dksX1_restore_0 8 rfl rfl)
theorem dX1_restore_11 : decode cX1_restore 11 = .ok (.iconst 0, 1) := dk_3 (dk_at dksX1_restore_0 11 rfl rfl)
theorem dX1_restore_12 : decode cX1_restore 12 = .ok (.invokestatic 284, 3) := dk_184 1 28 (dk_at dksX1_restore_0 12 rfl rfl)
theorem dX1_restore_15 : decode cX1_restore 15 = .ok (.aload_n 0, 1) := dk_42 (dk_at dksX1_restore_0 15 rfl rfl)
theorem dX1_restore_16 : decode cX1_restore 16 = .ok (.aload_n 0, 1) := dk_42 (dk_at dksX1_restore_0 16 rfl rfl)
theorem dX1_restore_17 : decode cX1_restore 17 = .ok (.getfield 386, 3) := dk_180 1 130 (dk_at dksX1_restore_0 17 rfl rfl)
theorem dX1_restore_20 : decode cX1_restore 20 = .ok (.putfield 64, 3) := dk_181 0 64 (dk_at dksX1_restore_0 20 rfl rfl)
theorem dX1_restore_23 : decode cX1_restore 23 = .ok (.aload_n 0, 1) := dk_42 (dk_at dksX1_restore_0 23 rfl rfl)
theorem dX1_restore_24 : decode cX1_restore 24 = .ok (.getfield 71, 3) := dk_180 0 71 (dk_at dksX1_restore_1 0 rfl rfl)
theorem dX1_restore_27 : decode cX1_restore 27 = .ok (.invokeinterface 389 1, 5) := by decide +kernel
theorem dX1_restore_32 : decode cX1_restore 32 = .ok (.aload_n 0, 1) := dk_42 (dk_at dksX1_restore_1 8 rfl rfl)
theorem dX1_restore_33 : decode cX1_restore 33 = .ok (.getfield 64, 3) := dk_180 0 64 (dk_at dksX1_restore_1 9 rfl rfl)
theorem dX1_restore_36 : decode cX1_restore 36 = .ok (.getfield 275, 3) := dk_180 1 19 (dk_at dksX1_restore_1 12 rfl rfl)
theorem dX1_restore_39 : decode cX1_restore 39 = .ok (.ireturn, 1) := dk_172 (dk_at dksX1_restore_1 15 rfl rfl)
theorem q67 : (Jvm.Cond.initialized "HorsehairTrade") ∈ lw_all := lw_g (lw_at lw_m1 1 rfl) rfl
theorem q116 : (Jvm.Cond.instantiable "HorsehairTrade" (8 : Nat)) ∈ lw_all := lw_g (lw_at lw_m1 50 rfl) rfl
theorem q118 : (Jvm.Cond.instanceMethod ({ cls := "HorsehairTrade", name := "<init>", desc := "()V" } : Jvm.MethodName)) ∈ lw_all := lw_g (lw_at lw_m1 52 rfl) rfl
theorem q119 : (Jvm.Cond.code ({ cls := "HorsehairTrade", name := "<init>", desc := "()V" } : Jvm.MethodName) prog_1_method_10_code (1 : Nat) (Option.none : Option Jvm.ClassFile.FieldType)) ∈ lw_all := lw_g (lw_at lw_m1 53 rfl) rfl
theorem q120 : (Jvm.Cond.methodLink "HorsehairTrade" (58 : Nat) ({ cls := "java/lang/Object", name := "<init>", desc := "()V" } : Jvm.MethodName)) ∈ lw_all := lw_g (lw_at lw_m1 54 rfl) rfl
theorem q123 : (Jvm.Cond.classLink "HorsehairTrade" (61 : Nat) "HorsehairTrade$Trade") ∈ lw_all := lw_g (lw_at lw_m1 57 rfl) rfl
theorem q125 : (Jvm.Cond.methodLink "HorsehairTrade" (63 : Nat) ({ cls := "HorsehairTrade$Trade", name := "<init>", desc := "()V" } : Jvm.MethodName)) ∈ lw_all := lw_g (lw_at lw_m1 59 rfl) rfl
theorem q167 : (Jvm.Cond.fieldLinkNest "HorsehairTrade" (362 : Nat) "HorsehairTrade$Row" "things" "Ljava/util/List;" "HorsehairTrade") ∈ lw_tbl := lw_at lw_m1 101 rfl
theorem q175 : (Jvm.Cond.fieldLinkNest "HorsehairTrade" (177 : Nat) "HorsehairTrade$Trade" "tails" "LHorsehairTrade$Row;" "HorsehairTrade") ∈ lw_tbl := lw_at lw_m1 109 rfl
theorem q177 : (Jvm.Cond.fieldLinkNest "HorsehairTrade" (201 : Nat) "HorsehairTrade$Trade" "hanks" "LHorsehairTrade$Row;" "HorsehairTrade") ∈ lw_tbl := lw_at lw_m1 111 rfl
theorem q179 : (Jvm.Cond.fieldLinkNest "HorsehairTrade" (210 : Nat) "HorsehairTrade$Trade" "bows" "LHorsehairTrade$Row;" "HorsehairTrade") ∈ lw_tbl := lw_at lw_m1 113 rfl
theorem q181 : (Jvm.Cond.fieldLinkNest "HorsehairTrade" (232 : Nat) "HorsehairTrade$Trade" "cakes" "LHorsehairTrade$Row;" "HorsehairTrade") ∈ lw_tbl := lw_at lw_m1 115 rfl
theorem q183 : (Jvm.Cond.fieldLinkNest "HorsehairTrade" (242 : Nat) "HorsehairTrade$Trade" "sieves" "[I" "HorsehairTrade") ∈ lw_tbl := lw_at lw_m1 117 rfl
theorem q185 : (Jvm.Cond.fieldLinkNest "HorsehairTrade" (272 : Nat) "HorsehairTrade$Trade" "roads" "[I" "HorsehairTrade") ∈ lw_tbl := lw_at lw_m1 119 rfl
theorem q187 : (Jvm.Cond.fieldLinkNest "HorsehairTrade" (359 : Nat) "HorsehairTrade$Trade" "sold" "I" "HorsehairTrade") ∈ lw_tbl := lw_at lw_m1 121 rfl
theorem q189 : (Jvm.Cond.fieldLinkNest "HorsehairTrade" (344 : Nat) "HorsehairTrade$Trade" "came" "I" "HorsehairTrade") ∈ lw_tbl := lw_at lw_m1 123 rfl
theorem q191 : (Jvm.Cond.fieldLinkNest "HorsehairTrade" (370 : Nat) "HorsehairTrade$Trade" "woven" "I" "HorsehairTrade") ∈ lw_tbl := lw_at lw_m1 125 rfl
theorem q193 : (Jvm.Cond.fieldLinkNest "HorsehairTrade" (347 : Nat) "HorsehairTrade$Trade" "lost" "I" "HorsehairTrade") ∈ lw_tbl := lw_at lw_m1 127 rfl
theorem q195 : (Jvm.Cond.fieldLinkNest "HorsehairTrade" (350 : Nat) "HorsehairTrade$Trade" "thrown" "I" "HorsehairTrade") ∈ lw_tbl := lw_at lw_m1 129 rfl
theorem q197 : (Jvm.Cond.fieldLinkNest "HorsehairTrade" (373 : Nat) "HorsehairTrade$Trade" "coins" "I" "HorsehairTrade") ∈ lw_tbl := lw_at lw_m1 131 rfl
theorem q199 : (Jvm.Cond.fieldLinkNest "HorsehairTrade" (275 : Nat) "HorsehairTrade$Trade" "day" "I" "HorsehairTrade") ∈ lw_tbl := lw_at lw_m1 133 rfl
theorem q201 : (Jvm.Cond.fieldLinkNest "HorsehairTrade" (269 : Nat) "HorsehairTrade$Trade" "town" "I" "HorsehairTrade") ∈ lw_tbl := lw_at lw_m1 135 rfl
theorem q231 : (Jvm.Cond.classLink "HorsehairTrade" (68 : Nat) "java/util/ArrayDeque") ∈ lw_all := lw_g (lw_at lw_m1 165 rfl) rfl
theorem q233 : (Jvm.Cond.methodLink "HorsehairTrade" (70 : Nat) ({ cls := "java/util/ArrayDeque", name := "<init>", desc := "()V" } : Jvm.MethodName)) ∈ lw_all := lw_g (lw_at lw_m1 167 rfl) rfl
theorem q251 : (Jvm.Cond.classLink "HorsehairTrade" (75 : Nat) "java/lang/StringBuilder") ∈ lw_all := lw_g (lw_at lw_m1 185 rfl) rfl
theorem q253 : (Jvm.Cond.methodLink "HorsehairTrade" (77 : Nat) ({ cls := "java/lang/StringBuilder", name := "<init>", desc := "()V" } : Jvm.MethodName)) ∈ lw_all := lw_g (lw_at lw_m1 187 rfl) rfl
theorem q284 : (Jvm.Cond.stringRef "HorsehairTrade" (82 : Nat) "") ∈ lw_tbl := lw_at lw_m1 218 rfl
theorem q285 : (Jvm.Cond.fieldLink "HorsehairTrade" (64 : Nat) "HorsehairTrade" "now" "LHorsehairTrade$Trade;") ∈ lw_all := lw_g (lw_at lw_m1 219 rfl) rfl
theorem q286 : (Jvm.Cond.fieldLink "HorsehairTrade" (386 : Nat) "HorsehairTrade" "saved" "LHorsehairTrade$Trade;") ∈ lw_all := lw_g (lw_at lw_m1 220 rfl) rfl
theorem q287 : (Jvm.Cond.fieldLink "HorsehairTrade" (71 : Nat) "HorsehairTrade" "earlier" "Ljava/util/Deque;") ∈ lw_all := lw_g (lw_at lw_m1 221 rfl) rfl
theorem q288 : (Jvm.Cond.fieldLink "HorsehairTrade" (78 : Nat) "HorsehairTrade" "tape" "Ljava/lang/StringBuilder;") ∈ lw_all := lw_g (lw_at lw_m1 222 rfl) rfl
theorem q289 : (Jvm.Cond.fieldLink "HorsehairTrade" (84 : Nat) "HorsehairTrade" "line" "Ljava/lang/String;") ∈ lw_all := lw_g (lw_at lw_m1 223 rfl) rfl
theorem q290 : (Jvm.Cond.fieldLink "HorsehairTrade" (88 : Nat) "HorsehairTrade" "faultPosition" "I") ∈ lw_all := lw_g (lw_at lw_m1 224 rfl) rfl
theorem q291 : (Jvm.Cond.fieldLink "HorsehairTrade" (103 : Nat) "HorsehairTrade" "latest" "LHorsehairTrade$Refused;") ∈ lw_all := lw_g (lw_at lw_m1 225 rfl) rfl
theorem q292 : (Jvm.Cond.fieldLink "HorsehairTrade" (107 : Nat) "HorsehairTrade" "latestPlace" "I") ∈ lw_all := lw_g (lw_at lw_m1 226 rfl) rfl
theorem q293 : (Jvm.Cond.lays "HorsehairTrade" "HorsehairTrade" "now" "LHorsehairTrade$Trade;") ∈ lw_all := lw_g (lw_at lw_m1 227 rfl) rfl
theorem q294 : (Jvm.Cond.soleField "HorsehairTrade" "now") ∈ lw_all := lw_g (lw_at lw_m1 228 rfl) rfl
theorem q295 : (Jvm.Cond.lays "HorsehairTrade" "HorsehairTrade" "saved" "LHorsehairTrade$Trade;") ∈ lw_all := lw_g (lw_at lw_m1 229 rfl) rfl
theorem q296 : (Jvm.Cond.soleField "HorsehairTrade" "saved") ∈ lw_all := lw_g (lw_at lw_m1 230 rfl) rfl
theorem q297 : (Jvm.Cond.laysFinal "HorsehairTrade" "HorsehairTrade" "earlier" "Ljava/util/Deque;") ∈ lw_all := lw_g (lw_at lw_m1 231 rfl) rfl
theorem q298 : (Jvm.Cond.soleField "HorsehairTrade" "earlier") ∈ lw_all := lw_g (lw_at lw_m1 232 rfl) rfl
theorem q299 : (Jvm.Cond.laysFinal "HorsehairTrade" "HorsehairTrade" "tape" "Ljava/lang/StringBuilder;") ∈ lw_all := lw_g (lw_at lw_m1 233 rfl) rfl
theorem q300 : (Jvm.Cond.soleField "HorsehairTrade" "tape") ∈ lw_all := lw_g (lw_at lw_m1 234 rfl) rfl
theorem q301 : (Jvm.Cond.lays "HorsehairTrade" "HorsehairTrade" "line" "Ljava/lang/String;") ∈ lw_all := lw_g (lw_at lw_m1 235 rfl) rfl
theorem q302 : (Jvm.Cond.soleField "HorsehairTrade" "line") ∈ lw_all := lw_g (lw_at lw_m1 236 rfl) rfl
theorem q303 : (Jvm.Cond.lays "HorsehairTrade" "HorsehairTrade" "faultPosition" "I") ∈ lw_all := lw_g (lw_at lw_m1 237 rfl) rfl
theorem q304 : (Jvm.Cond.soleField "HorsehairTrade" "faultPosition") ∈ lw_all := lw_g (lw_at lw_m1 238 rfl) rfl
theorem q305 : (Jvm.Cond.lays "HorsehairTrade" "HorsehairTrade" "latest" "LHorsehairTrade$Refused;") ∈ lw_all := lw_g (lw_at lw_m1 239 rfl) rfl
theorem q306 : (Jvm.Cond.soleField "HorsehairTrade" "latest") ∈ lw_all := lw_g (lw_at lw_m2 0 rfl) rfl
theorem q307 : (Jvm.Cond.lays "HorsehairTrade" "HorsehairTrade" "latestPlace" "I") ∈ lw_all := lw_g (lw_at lw_m2 1 rfl) rfl
theorem q308 : (Jvm.Cond.soleField "HorsehairTrade" "latestPlace") ∈ lw_all := lw_g (lw_at lw_m2 2 rfl) rfl
theorem q309 : (Jvm.Cond.superclass "HorsehairTrade" "java/lang/Object") ∈ lw_all := lw_g (lw_at lw_m2 3 rfl) rfl
theorem q311 : (Jvm.Cond.instanceMethod ({ cls := "HorsehairTrade", name := "fairs", desc := "()I" } : Jvm.MethodName)) ∈ lw_all := lw_g (lw_at lw_m2 5 rfl) rfl
theorem q312 : (Jvm.Cond.selects "HorsehairTrade" ({ cls := "HorsehairTrade", name := "fairs", desc := "()I" } : Jvm.MethodName) ({ cls := "HorsehairTrade", name := "fairs", desc := "()I" } : Jvm.MethodName)) ∈ lw_all := lw_g (lw_at lw_m2 6 rfl) rfl
theorem q313 : (Jvm.Cond.code ({ cls := "HorsehairTrade", name := "fairs", desc := "()I" } : Jvm.MethodName) prog_1_method_38_code (5 : Nat) (Option.some Jvm.ClassFile.FieldType.int)) ∈ lw_all := lw_g (lw_at lw_m2 7 rfl) rfl
theorem q314 : (Jvm.Cond.methodLink "HorsehairTrade" (278 : Nat) ({ cls := "HorsehairTrade$Trade", name := "isFairOn", desc := "(II)Z" } : Jvm.MethodName)) ∈ lw_all := lw_g (lw_at lw_m2 8 rfl) rfl
theorem q318 : (Jvm.Cond.instanceMethod ({ cls := "HorsehairTrade", name := "worth", desc := "(Z)I" } : Jvm.MethodName)) ∈ lw_all := lw_g (lw_at lw_m2 12 rfl) rfl
theorem q319 : (Jvm.Cond.selects "HorsehairTrade" ({ cls := "HorsehairTrade", name := "worth", desc := "(Z)I" } : Jvm.MethodName) ({ cls := "HorsehairTrade", name := "worth", desc := "(Z)I" } : Jvm.MethodName)) ∈ lw_all := lw_g (lw_at lw_m2 13 rfl) rfl
theorem q320 : (Jvm.Cond.code ({ cls := "HorsehairTrade", name := "worth", desc := "(Z)I" } : Jvm.MethodName) prog_1_method_39_code (4 : Nat) (Option.some Jvm.ClassFile.FieldType.int)) ∈ lw_all := lw_g (lw_at lw_m2 14 rfl) rfl
theorem q322 : (Jvm.Cond.instanceMethod ({ cls := "HorsehairTrade", name := "line", desc := "()I" } : Jvm.MethodName)) ∈ lw_all := lw_g (lw_at lw_m2 16 rfl) rfl
theorem q323 : (Jvm.Cond.selects "HorsehairTrade" ({ cls := "HorsehairTrade", name := "line", desc := "()I" } : Jvm.MethodName) ({ cls := "HorsehairTrade", name := "line", desc := "()I" } : Jvm.MethodName)) ∈ lw_all := lw_g (lw_at lw_m2 17 rfl) rfl
theorem q324 : (Jvm.Cond.code ({ cls := "HorsehairTrade", name := "line", desc := "()I" } : Jvm.MethodName) prog_1_method_45_code (3 : Nat) (Option.some Jvm.ClassFile.FieldType.int)) ∈ lw_all := lw_g (lw_at lw_m2 18 rfl) rfl
theorem q325 : (Jvm.Cond.methodLink "HorsehairTrade" (325 : Nat) ({ cls := "HorsehairTrade$Row", name := "size", desc := "()I" } : Jvm.MethodName)) ∈ lw_all := lw_g (lw_at lw_m2 19 rfl) rfl
theorem q339 : (Jvm.Cond.stringRef "HorsehairTrade" (326 : Nat) " ") ∈ lw_tbl := lw_at lw_m2 33 rfl
theorem q340 : (Jvm.Cond.methodLink "HorsehairTrade" (328 : Nat) ({ cls := "java/lang/StringBuilder", name := "append", desc := "(Ljava/lang/String;)Ljava/lang/StringBuilder;" } : Jvm.MethodName)) ∈ lw_all := lw_g (lw_at lw_m2 34 rfl) rfl
theorem q460 : (Jvm.Cond.methodLink "HorsehairTrade" (174 : Nat) ({ cls := "HorsehairTrade$Row", name := "get", desc := "(I)LHorsehairTrade$Copied;" } : Jvm.MethodName)) ∈ lw_all := lw_g (lw_at lw_m2 154 rfl) rfl
theorem q484 : (Jvm.Cond.classLink "HorsehairTrade" (203 : Nat) "HorsehairTrade$Hank") ∈ lw_all := lw_g (lw_at lw_m2 178 rfl) rfl
theorem q485 : (Jvm.Cond.methodLink "HorsehairTrade" (331 : Nat) ({ cls := "HorsehairTrade$Hank", name := "sign", desc := "()Ljava/lang/String;" } : Jvm.MethodName)) ∈ lw_all := lw_g (lw_at lw_m2 179 rfl) rfl
theorem q697 : (Jvm.Cond.methodLink "HorsehairTrade" (293 : Nat) ({ cls := "java/lang/StringBuilder", name := "toString", desc := "()Ljava/lang/String;" } : Jvm.MethodName)) ∈ lw_all := lw_g (lw_at lw_m3 151 rfl) rfl
theorem q698 : (Jvm.Cond.methodLink "HorsehairTrade" (334 : Nat) ({ cls := "java/lang/String", name := "length", desc := "()I" } : Jvm.MethodName)) ∈ lw_all := lw_g (lw_at lw_m3 152 rfl) rfl
theorem q700 : (Jvm.Cond.instanceMethod ({ cls := "HorsehairTrade", name := "hairsAgain", desc := "()I" } : Jvm.MethodName)) ∈ lw_all := lw_g (lw_at lw_m3 154 rfl) rfl
theorem q701 : (Jvm.Cond.selects "HorsehairTrade" ({ cls := "HorsehairTrade", name := "hairsAgain", desc := "()I" } : Jvm.MethodName) ({ cls := "HorsehairTrade", name := "hairsAgain", desc := "()I" } : Jvm.MethodName)) ∈ lw_all := lw_g (lw_at lw_m3 155 rfl) rfl
theorem q702 : (Jvm.Cond.code ({ cls := "HorsehairTrade", name := "hairsAgain", desc := "()I" } : Jvm.MethodName) prog_1_method_50_code (1 : Nat) (Option.some Jvm.ClassFile.FieldType.int)) ∈ lw_all := lw_g (lw_at lw_m3 156 rfl) rfl
theorem q703 : (Jvm.Cond.methodLink "HorsehairTrade" (379 : Nat) ({ cls := "HorsehairTrade$Trade", name := "hairsAgain", desc := "()I" } : Jvm.MethodName)) ∈ lw_all := lw_g (lw_at lw_m3 157 rfl) rfl
theorem q708 : (Jvm.Cond.static ({ cls := "HorsehairTrade", name := "hairsOf", desc := "(Ljava/util/List;)I" } : Jvm.MethodName)) ∈ lw_all := lw_g (lw_at lw_m3 162 rfl) rfl
theorem q709 : (Jvm.Cond.code ({ cls := "HorsehairTrade", name := "hairsOf", desc := "(Ljava/util/List;)I" } : Jvm.MethodName) prog_1_method_8_code (3 : Nat) (Option.some Jvm.ClassFile.FieldType.int)) ∈ lw_all := lw_g (lw_at lw_m3 163 rfl) rfl
theorem q710 : (Jvm.Cond.interfaceEntry "HorsehairTrade" (31 : Nat)) ∈ lw_tbl := lw_at lw_m3 164 rfl
theorem q711 : (Jvm.Cond.methodLink "HorsehairTrade" (31 : Nat) ({ cls := "java/util/List", name := "size", desc := "()I" } : Jvm.MethodName)) ∈ lw_all := lw_g (lw_at lw_m3 165 rfl) rfl
theorem q712 : (Jvm.Cond.interfaceEntry "HorsehairTrade" (37 : Nat)) ∈ lw_tbl := lw_at lw_m3 166 rfl
theorem q713 : (Jvm.Cond.methodLink "HorsehairTrade" (37 : Nat) ({ cls := "java/util/List", name := "get", desc := "(I)Ljava/lang/Object;" } : Jvm.MethodName)) ∈ lw_all := lw_g (lw_at lw_m3 167 rfl) rfl
theorem q714 : (Jvm.Cond.classLink "HorsehairTrade" (41 : Nat) "HorsehairTrade$Haired") ∈ lw_all := lw_g (lw_at lw_m3 168 rfl) rfl
theorem q715 : (Jvm.Cond.interfaceEntry "HorsehairTrade" (43 : Nat)) ∈ lw_tbl := lw_at lw_m3 169 rfl
theorem q716 : (Jvm.Cond.methodLink "HorsehairTrade" (43 : Nat) ({ cls := "HorsehairTrade$Haired", name := "hairs", desc := "()I" } : Jvm.MethodName)) ∈ lw_all := lw_g (lw_at lw_m3 170 rfl) rfl
theorem q738 : (Jvm.Cond.instanceMethod ({ cls := "HorsehairTrade", name := "save", desc := "()I" } : Jvm.MethodName)) ∈ lw_all := lw_g (lw_at lw_m3 192 rfl) rfl
theorem q739 : (Jvm.Cond.selects "HorsehairTrade" ({ cls := "HorsehairTrade", name := "save", desc := "()I" } : Jvm.MethodName) ({ cls := "HorsehairTrade", name := "save", desc := "()I" } : Jvm.MethodName)) ∈ lw_all := lw_g (lw_at lw_m3 193 rfl) rfl
theorem q740 : (Jvm.Cond.code ({ cls := "HorsehairTrade", name := "save", desc := "()I" } : Jvm.MethodName) prog_1_method_52_code (1 : Nat) (Option.some Jvm.ClassFile.FieldType.int)) ∈ lw_all := lw_g (lw_at lw_m3 194 rfl) rfl
theorem q746 : (Jvm.Cond.instanceMethod ({ cls := "HorsehairTrade", name := "tail", desc := "(III)I" } : Jvm.MethodName)) ∈ lw_all := lw_g (lw_at lw_m3 200 rfl) rfl
theorem q747 : (Jvm.Cond.selects "HorsehairTrade" ({ cls := "HorsehairTrade", name := "tail", desc := "(III)I" } : Jvm.MethodName) ({ cls := "HorsehairTrade", name := "tail", desc := "(III)I" } : Jvm.MethodName)) ∈ lw_all := lw_g (lw_at lw_m3 201 rfl) rfl
theorem q748 : (Jvm.Cond.code ({ cls := "HorsehairTrade", name := "tail", desc := "(III)I" } : Jvm.MethodName) prog_1_method_14_code (4 : Nat) (Option.some Jvm.ClassFile.FieldType.int)) ∈ lw_all := lw_g (lw_at lw_m3 202 rfl) rfl
theorem q749 : (Jvm.Cond.classLink "HorsehairTrade" (129 : Nat) "HorsehairTrade$Order") ∈ lw_all := lw_g (lw_at lw_m3 203 rfl) rfl
theorem q751 : (Jvm.Cond.stringRef "HorsehairTrade" (131 : Nat) "tail") ∈ lw_tbl := lw_at lw_m3 205 rfl
theorem q752 : (Jvm.Cond.methodLink "HorsehairTrade" (133 : Nat) ({ cls := "HorsehairTrade$Order", name := "<init>", desc := "(Ljava/lang/String;[I)V" } : Jvm.MethodName)) ∈ lw_all := lw_g (lw_at lw_m3 206 rfl) rfl
theorem q763 : (Jvm.Cond.methodLink "HorsehairTrade" (136 : Nat) ({ cls := "HorsehairTrade", name := "done", desc := "(LHorsehairTrade$Deed;)I" } : Jvm.MethodName)) ∈ lw_all := lw_g (lw_at lw_m3 217 rfl) rfl
theorem q764 : (Jvm.Cond.privateMethod ({ cls := "HorsehairTrade", name := "done", desc := "(LHorsehairTrade$Deed;)I" } : Jvm.MethodName)) ∈ lw_tbl := lw_at lw_m3 218 rfl
theorem q765 : (Jvm.Cond.instanceMethod ({ cls := "HorsehairTrade", name := "done", desc := "(LHorsehairTrade$Deed;)I" } : Jvm.MethodName)) ∈ lw_all := lw_g (lw_at lw_m3 219 rfl) rfl
theorem q766 : (Jvm.Cond.codeWith ({ cls := "HorsehairTrade", name := "done", desc := "(LHorsehairTrade$Deed;)I" } : Jvm.MethodName) prog_1_method_13_code (4 : Nat) (Option.some Jvm.ClassFile.FieldType.int) [((12 : Nat), (26 : Nat), (27 : Nat), (16 : Nat))]) ∈ lw_all := lw_g (lw_at lw_m3 220 rfl) rfl
theorem q767 : (Jvm.Cond.classLink "HorsehairTrade" (16 : Nat) "HorsehairTrade$Refused") ∈ lw_all := lw_g (lw_at lw_m3 221 rfl) rfl
theorem q768 : (Jvm.Cond.methodLink "HorsehairTrade" (113 : Nat) ({ cls := "HorsehairTrade$Trade", name := "<init>", desc := "(LHorsehairTrade$Trade;)V" } : Jvm.MethodName)) ∈ lw_all := lw_g (lw_at lw_m3 222 rfl) rfl
theorem q797 : (Jvm.Cond.fieldLinkNest "HorsehairTrade" (215 : Nat) "HorsehairTrade$Bow" "kind" "I" "HorsehairTrade") ∈ lw_tbl := lw_at lw_m4 11 rfl
theorem q800 : (Jvm.Cond.fieldLinkNest "HorsehairTrade" (218 : Nat) "HorsehairTrade$Bow" "hairs" "I" "HorsehairTrade") ∈ lw_tbl := lw_at lw_m4 14 rfl
theorem q803 : (Jvm.Cond.fieldLinkNest "HorsehairTrade" (219 : Nat) "HorsehairTrade$Bow" "rosin" "I" "HorsehairTrade") ∈ lw_tbl := lw_at lw_m4 17 rfl
theorem q806 : (Jvm.Cond.fieldLinkNest "HorsehairTrade" (221 : Nat) "HorsehairTrade$Bow" "quality" "I" "HorsehairTrade") ∈ lw_tbl := lw_at lw_m4 20 rfl
theorem q809 : (Jvm.Cond.fieldLinkNest "HorsehairTrade" (231 : Nat) "HorsehairTrade$Bow" "tail" "I" "HorsehairTrade") ∈ lw_tbl := lw_at lw_m4 23 rfl
theorem q811 : (Jvm.Cond.fieldLinkNest "HorsehairTrade" (228 : Nat) "HorsehairTrade$Bow" "hours" "I" "HorsehairTrade") ∈ lw_tbl := lw_at lw_m4 25 rfl
theorem q814 : (Jvm.Cond.fieldLinkNest "HorsehairTrade" (224 : Nat) "HorsehairTrade$Bow" "isPaid" "Z" "HorsehairTrade") ∈ lw_tbl := lw_at lw_m4 28 rfl
theorem q848 : (Jvm.Cond.fieldLinkNest "HorsehairTrade" (237 : Nat) "HorsehairTrade$Cake" "size" "I" "HorsehairTrade") ∈ lw_tbl := lw_at lw_m4 62 rfl
theorem q870 : (Jvm.Cond.fieldLinkNest "HorsehairTrade" (205 : Nat) "HorsehairTrade$Hank" "hairs" "I" "HorsehairTrade") ∈ lw_tbl := lw_at lw_m4 84 rfl
theorem q873 : (Jvm.Cond.fieldLinkNest "HorsehairTrade" (206 : Nat) "HorsehairTrade$Hank" "length" "I" "HorsehairTrade") ∈ lw_tbl := lw_at lw_m4 87 rfl
theorem q875 : (Jvm.Cond.fieldLinkNest "HorsehairTrade" (207 : Nat) "HorsehairTrade$Hank" "colour" "I" "HorsehairTrade") ∈ lw_tbl := lw_at lw_m4 89 rfl
theorem q878 : (Jvm.Cond.fieldLinkNest "HorsehairTrade" (208 : Nat) "HorsehairTrade$Hank" "tail" "I" "HorsehairTrade") ∈ lw_tbl := lw_at lw_m4 92 rfl
theorem q906 : (Jvm.Cond.fieldLinkNest "HorsehairTrade" (187 : Nat) "HorsehairTrade$Tail" "colour" "I" "HorsehairTrade") ∈ lw_tbl := lw_at lw_m4 120 rfl
theorem q908 : (Jvm.Cond.fieldLinkNest "HorsehairTrade" (190 : Nat) "HorsehairTrade$Tail" "length" "I" "HorsehairTrade") ∈ lw_tbl := lw_at lw_m4 122 rfl
theorem q911 : (Jvm.Cond.fieldLinkNest "HorsehairTrade" (193 : Nat) "HorsehairTrade$Tail" "hairs" "I" "HorsehairTrade") ∈ lw_tbl := lw_at lw_m4 125 rfl
theorem q914 : (Jvm.Cond.fieldLinkNest "HorsehairTrade" (195 : Nat) "HorsehairTrade$Tail" "hanks" "I" "HorsehairTrade") ∈ lw_tbl := lw_at lw_m4 128 rfl
theorem q952 : (Jvm.Cond.selects "HorsehairTrade" ({ cls := "java/lang/Object", name := "getClass", desc := "()Ljava/lang/Class;" } : Jvm.MethodName) ({ cls := "java/lang/Object", name := "getClass", desc := "()Ljava/lang/Class;" } : Jvm.MethodName)) ∈ lw_all := lw_g (lw_at lw_m4 166 rfl) rfl
theorem q991 : (Jvm.Cond.interfaceEntry "HorsehairTrade" (116 : Nat)) ∈ lw_tbl := lw_at lw_m4 205 rfl
theorem q992 : (Jvm.Cond.methodLink "HorsehairTrade" (116 : Nat) ({ cls := "HorsehairTrade$Deed", name := "does", desc := "(Ljava/lang/Object;)I" } : Jvm.MethodName)) ∈ lw_all := lw_g (lw_at lw_m4 206 rfl) rfl
theorem q1088 : (Jvm.Cond.static ({ cls := "HorsehairTrade", name := "checkRange", desc := "(III)V" } : Jvm.MethodName)) ∈ lw_all := lw_g (lw_at lw_m5 62 rfl) rfl
theorem q1089 : (Jvm.Cond.code ({ cls := "HorsehairTrade", name := "checkRange", desc := "(III)V" } : Jvm.MethodName) prog_1_method_7_code (3 : Nat) (Option.none : Option Jvm.ClassFile.FieldType)) ∈ lw_all := lw_g (lw_at lw_m5 63 rfl) rfl
theorem q1090 : (Jvm.Cond.methodLink "HorsehairTrade" (21 : Nat) ({ cls := "HorsehairTrade", name := "isBetween", desc := "(III)Z" } : Jvm.MethodName)) ∈ lw_all := lw_g (lw_at lw_m5 64 rfl) rfl
theorem q1091 : (Jvm.Cond.static ({ cls := "HorsehairTrade", name := "isBetween", desc := "(III)Z" } : Jvm.MethodName)) ∈ lw_all := lw_g (lw_at lw_m5 65 rfl) rfl
theorem q1092 : (Jvm.Cond.code ({ cls := "HorsehairTrade", name := "isBetween", desc := "(III)Z" } : Jvm.MethodName) prog_1_method_1_code (3 : Nat) (Option.some Jvm.ClassFile.FieldType.boolean)) ∈ lw_all := lw_g (lw_at lw_m5 66 rfl) rfl
theorem q1093 : (Jvm.Cond.methodLink "HorsehairTrade" (27 : Nat) ({ cls := "HorsehairTrade", name := "check", desc := "(ZII)V" } : Jvm.MethodName)) ∈ lw_all := lw_g (lw_at lw_m5 67 rfl) rfl
theorem q1094 : (Jvm.Cond.static ({ cls := "HorsehairTrade", name := "check", desc := "(ZII)V" } : Jvm.MethodName)) ∈ lw_all := lw_g (lw_at lw_m5 68 rfl) rfl
theorem q1095 : (Jvm.Cond.code ({ cls := "HorsehairTrade", name := "check", desc := "(ZII)V" } : Jvm.MethodName) prog_1_method_6_code (3 : Nat) (Option.none : Option Jvm.ClassFile.FieldType)) ∈ lw_all := lw_g (lw_at lw_m5 69 rfl) rfl
theorem q1104 : (Jvm.Cond.methodLink "HorsehairTrade" (18 : Nat) ({ cls := "HorsehairTrade$Refused", name := "<init>", desc := "(II)V" } : Jvm.MethodName)) ∈ lw_all := lw_g (lw_at lw_m5 78 rfl) rfl
theorem q1112 : (Jvm.Cond.fieldLinkNest "HorsehairTrade" (319 : Nat) "HorsehairTrade$Refused" "reason" "I" "HorsehairTrade") ∈ lw_tbl := lw_at lw_m5 86 rfl
theorem q1114 : (Jvm.Cond.fieldLinkNest "HorsehairTrade" (322 : Nat) "HorsehairTrade$Refused" "detail" "I" "HorsehairTrade") ∈ lw_tbl := lw_at lw_m5 88 rfl
theorem q1206 : (Jvm.Cond.laysStatic "HorsehairTrade" "LENGTHS" "[I") ∈ lw_tbl := lw_at lw_m5 180 rfl
theorem q1208 : (Jvm.Cond.laysStatic "HorsehairTrade" "NEEDED" "[I") ∈ lw_tbl := lw_at lw_m5 182 rfl
theorem q1261 : (Jvm.Cond.laysStatic "HorsehairTrade" "PAID" "[I") ∈ lw_tbl := lw_at lw_m5 235 rfl
theorem q1262 : (Jvm.Cond.methodLink "HorsehairTrade" (122 : Nat) ({ cls := "HorsehairTrade", name := "remember", desc := "(LHorsehairTrade$Trade;)V" } : Jvm.MethodName)) ∈ lw_all := lw_g (lw_at lw_m5 236 rfl) rfl
theorem q1263 : (Jvm.Cond.privateMethod ({ cls := "HorsehairTrade", name := "remember", desc := "(LHorsehairTrade$Trade;)V" } : Jvm.MethodName)) ∈ lw_tbl := lw_at lw_m5 237 rfl
theorem q1264 : (Jvm.Cond.instanceMethod ({ cls := "HorsehairTrade", name := "remember", desc := "(LHorsehairTrade$Trade;)V" } : Jvm.MethodName)) ∈ lw_all := lw_g (lw_at lw_m5 238 rfl) rfl
theorem q1265 : (Jvm.Cond.code ({ cls := "HorsehairTrade", name := "remember", desc := "(LHorsehairTrade$Trade;)V" } : Jvm.MethodName) prog_1_method_11_code (2 : Nat) (Option.none : Option Jvm.ClassFile.FieldType)) ∈ lw_all := lw_g (lw_at lw_m5 239 rfl) rfl
theorem q1266 : (Jvm.Cond.interfaceEntry "HorsehairTrade" (92 : Nat)) ∈ lw_tbl := lw_at lw_m6 0 rfl
theorem q1267 : (Jvm.Cond.methodLink "HorsehairTrade" (92 : Nat) ({ cls := "java/util/Deque", name := "size", desc := "()I" } : Jvm.MethodName)) ∈ lw_all := lw_g (lw_at lw_m6 1 rfl) rfl
theorem q1279 : (Jvm.Cond.interfaceEntry "HorsehairTrade" (95 : Nat)) ∈ lw_tbl := lw_at lw_m6 13 rfl
theorem q1280 : (Jvm.Cond.methodLink "HorsehairTrade" (95 : Nat) ({ cls := "java/util/Deque", name := "removeFirst", desc := "()Ljava/lang/Object;" } : Jvm.MethodName)) ∈ lw_all := lw_g (lw_at lw_m6 14 rfl) rfl
theorem q1316 : (Jvm.Cond.interfaceEntry "HorsehairTrade" (99 : Nat)) ∈ lw_tbl := lw_at lw_m6 50 rfl
theorem q1317 : (Jvm.Cond.methodLink "HorsehairTrade" (99 : Nat) ({ cls := "java/util/Deque", name := "addLast", desc := "(Ljava/lang/Object;)V" } : Jvm.MethodName)) ∈ lw_all := lw_g (lw_at lw_m6 51 rfl) rfl
theorem q1353 : (Jvm.Cond.methodLink "HorsehairTrade" (125 : Nat) ({ cls := "HorsehairTrade", name := "kept", desc := "(LHorsehairTrade$Refused;I)Ljava/lang/UnsupportedOperationException;" } : Jvm.MethodName)) ∈ lw_all := lw_g (lw_at lw_m6 87 rfl) rfl
theorem q1354 : (Jvm.Cond.privateMethod ({ cls := "HorsehairTrade", name := "kept", desc := "(LHorsehairTrade$Refused;I)Ljava/lang/UnsupportedOperationException;" } : Jvm.MethodName)) ∈ lw_tbl := lw_at lw_m6 88 rfl
theorem q1355 : (Jvm.Cond.instanceMethod ({ cls := "HorsehairTrade", name := "kept", desc := "(LHorsehairTrade$Refused;I)Ljava/lang/UnsupportedOperationException;" } : Jvm.MethodName)) ∈ lw_all := lw_g (lw_at lw_m6 89 rfl) rfl
theorem q1356 : (Jvm.Cond.code ({ cls := "HorsehairTrade", name := "kept", desc := "(LHorsehairTrade$Refused;I)Ljava/lang/UnsupportedOperationException;" } : Jvm.MethodName) prog_1_method_12_code (3 : Nat) (Option.some (Jvm.ClassFile.FieldType.object "java/lang/UnsupportedOperationException"))) ∈ lw_all := lw_g (lw_at lw_m6 90 rfl) rfl
theorem q1357 : (Jvm.Cond.classLink "HorsehairTrade" (110 : Nat) "java/lang/UnsupportedOperationException") ∈ lw_all := lw_g (lw_at lw_m6 91 rfl) rfl
theorem q1366 : (Jvm.Cond.methodLink "HorsehairTrade" (112 : Nat) ({ cls := "java/lang/UnsupportedOperationException", name := "<init>", desc := "()V" } : Jvm.MethodName)) ∈ lw_all := lw_g (lw_at lw_m6 100 rfl) rfl
theorem q1376 : (Jvm.Cond.instanceMethod ({ cls := "HorsehairTrade", name := "comb", desc := "(II)I" } : Jvm.MethodName)) ∈ lw_all := lw_g (lw_at lw_m6 110 rfl) rfl
theorem q1377 : (Jvm.Cond.selects "HorsehairTrade" ({ cls := "HorsehairTrade", name := "comb", desc := "(II)I" } : Jvm.MethodName) ({ cls := "HorsehairTrade", name := "comb", desc := "(II)I" } : Jvm.MethodName)) ∈ lw_all := lw_g (lw_at lw_m6 111 rfl) rfl
theorem q1378 : (Jvm.Cond.code ({ cls := "HorsehairTrade", name := "comb", desc := "(II)I" } : Jvm.MethodName) prog_1_method_15_code (3 : Nat) (Option.some Jvm.ClassFile.FieldType.int)) ∈ lw_all := lw_g (lw_at lw_m6 112 rfl) rfl
theorem q1379 : (Jvm.Cond.stringRef "HorsehairTrade" (140 : Nat) "comb") ∈ lw_tbl := lw_at lw_m6 113 rfl
theorem q1384 : (Jvm.Cond.instanceMethod ({ cls := "HorsehairTrade", name := "tie", desc := "(II)I" } : Jvm.MethodName)) ∈ lw_all := lw_g (lw_at lw_m6 118 rfl) rfl
theorem q1385 : (Jvm.Cond.selects "HorsehairTrade" ({ cls := "HorsehairTrade", name := "tie", desc := "(II)I" } : Jvm.MethodName) ({ cls := "HorsehairTrade", name := "tie", desc := "(II)I" } : Jvm.MethodName)) ∈ lw_all := lw_g (lw_at lw_m6 119 rfl) rfl
theorem q1386 : (Jvm.Cond.code ({ cls := "HorsehairTrade", name := "tie", desc := "(II)I" } : Jvm.MethodName) prog_1_method_16_code (3 : Nat) (Option.some Jvm.ClassFile.FieldType.int)) ∈ lw_all := lw_g (lw_at lw_m6 120 rfl) rfl
theorem q1387 : (Jvm.Cond.stringRef "HorsehairTrade" (142 : Nat) "tie") ∈ lw_tbl := lw_at lw_m6 121 rfl
theorem q1392 : (Jvm.Cond.instanceMethod ({ cls := "HorsehairTrade", name := "weave", desc := "(II)I" } : Jvm.MethodName)) ∈ lw_all := lw_g (lw_at lw_m6 126 rfl) rfl
theorem q1393 : (Jvm.Cond.selects "HorsehairTrade" ({ cls := "HorsehairTrade", name := "weave", desc := "(II)I" } : Jvm.MethodName) ({ cls := "HorsehairTrade", name := "weave", desc := "(II)I" } : Jvm.MethodName)) ∈ lw_all := lw_g (lw_at lw_m6 127 rfl) rfl
theorem q1394 : (Jvm.Cond.code ({ cls := "HorsehairTrade", name := "weave", desc := "(II)I" } : Jvm.MethodName) prog_1_method_17_code (3 : Nat) (Option.some Jvm.ClassFile.FieldType.int)) ∈ lw_all := lw_g (lw_at lw_m6 128 rfl) rfl
theorem q1395 : (Jvm.Cond.stringRef "HorsehairTrade" (144 : Nat) "weave") ∈ lw_tbl := lw_at lw_m6 129 rfl
theorem q1400 : (Jvm.Cond.instanceMethod ({ cls := "HorsehairTrade", name := "bow", desc := "(I)I" } : Jvm.MethodName)) ∈ lw_all := lw_g (lw_at lw_m6 134 rfl) rfl
theorem q1401 : (Jvm.Cond.selects "HorsehairTrade" ({ cls := "HorsehairTrade", name := "bow", desc := "(I)I" } : Jvm.MethodName) ({ cls := "HorsehairTrade", name := "bow", desc := "(I)I" } : Jvm.MethodName)) ∈ lw_all := lw_g (lw_at lw_m6 135 rfl) rfl
theorem q1402 : (Jvm.Cond.code ({ cls := "HorsehairTrade", name := "bow", desc := "(I)I" } : Jvm.MethodName) prog_1_method_18_code (2 : Nat) (Option.some Jvm.ClassFile.FieldType.int)) ∈ lw_all := lw_g (lw_at lw_m6 136 rfl) rfl
theorem q1403 : (Jvm.Cond.stringRef "HorsehairTrade" (146 : Nat) "bow") ∈ lw_tbl := lw_at lw_m6 137 rfl
theorem q1408 : (Jvm.Cond.instanceMethod ({ cls := "HorsehairTrade", name := "hair", desc := "(II)I" } : Jvm.MethodName)) ∈ lw_all := lw_g (lw_at lw_m6 142 rfl) rfl
theorem q1409 : (Jvm.Cond.selects "HorsehairTrade" ({ cls := "HorsehairTrade", name := "hair", desc := "(II)I" } : Jvm.MethodName) ({ cls := "HorsehairTrade", name := "hair", desc := "(II)I" } : Jvm.MethodName)) ∈ lw_all := lw_g (lw_at lw_m6 143 rfl) rfl
theorem q1410 : (Jvm.Cond.code ({ cls := "HorsehairTrade", name := "hair", desc := "(II)I" } : Jvm.MethodName) prog_1_method_19_code (3 : Nat) (Option.some Jvm.ClassFile.FieldType.int)) ∈ lw_all := lw_g (lw_at lw_m6 144 rfl) rfl
theorem q1411 : (Jvm.Cond.stringRef "HorsehairTrade" (148 : Nat) "hair") ∈ lw_tbl := lw_at lw_m6 145 rfl
theorem q1416 : (Jvm.Cond.instanceMethod ({ cls := "HorsehairTrade", name := "cake", desc := "(I)I" } : Jvm.MethodName)) ∈ lw_all := lw_g (lw_at lw_m6 150 rfl) rfl
theorem q1417 : (Jvm.Cond.selects "HorsehairTrade" ({ cls := "HorsehairTrade", name := "cake", desc := "(I)I" } : Jvm.MethodName) ({ cls := "HorsehairTrade", name := "cake", desc := "(I)I" } : Jvm.MethodName)) ∈ lw_all := lw_g (lw_at lw_m6 151 rfl) rfl
theorem q1418 : (Jvm.Cond.code ({ cls := "HorsehairTrade", name := "cake", desc := "(I)I" } : Jvm.MethodName) prog_1_method_20_code (2 : Nat) (Option.some Jvm.ClassFile.FieldType.int)) ∈ lw_all := lw_g (lw_at lw_m6 152 rfl) rfl
theorem q1419 : (Jvm.Cond.stringRef "HorsehairTrade" (150 : Nat) "cake") ∈ lw_tbl := lw_at lw_m6 153 rfl
theorem q1424 : (Jvm.Cond.instanceMethod ({ cls := "HorsehairTrade", name := "rosin", desc := "(II)I" } : Jvm.MethodName)) ∈ lw_all := lw_g (lw_at lw_m6 158 rfl) rfl
theorem q1425 : (Jvm.Cond.selects "HorsehairTrade" ({ cls := "HorsehairTrade", name := "rosin", desc := "(II)I" } : Jvm.MethodName) ({ cls := "HorsehairTrade", name := "rosin", desc := "(II)I" } : Jvm.MethodName)) ∈ lw_all := lw_g (lw_at lw_m6 159 rfl) rfl
theorem q1426 : (Jvm.Cond.code ({ cls := "HorsehairTrade", name := "rosin", desc := "(II)I" } : Jvm.MethodName) prog_1_method_21_code (3 : Nat) (Option.some Jvm.ClassFile.FieldType.int)) ∈ lw_all := lw_g (lw_at lw_m6 160 rfl) rfl
theorem q1427 : (Jvm.Cond.stringRef "HorsehairTrade" (152 : Nat) "rosin") ∈ lw_tbl := lw_at lw_m6 161 rfl
theorem q1432 : (Jvm.Cond.instanceMethod ({ cls := "HorsehairTrade", name := "play", desc := "(II)I" } : Jvm.MethodName)) ∈ lw_all := lw_g (lw_at lw_m6 166 rfl) rfl
theorem q1433 : (Jvm.Cond.selects "HorsehairTrade" ({ cls := "HorsehairTrade", name := "play", desc := "(II)I" } : Jvm.MethodName) ({ cls := "HorsehairTrade", name := "play", desc := "(II)I" } : Jvm.MethodName)) ∈ lw_all := lw_g (lw_at lw_m6 167 rfl) rfl
theorem q1434 : (Jvm.Cond.code ({ cls := "HorsehairTrade", name := "play", desc := "(II)I" } : Jvm.MethodName) prog_1_method_22_code (3 : Nat) (Option.some Jvm.ClassFile.FieldType.int)) ∈ lw_all := lw_g (lw_at lw_m6 168 rfl) rfl
theorem q1435 : (Jvm.Cond.stringRef "HorsehairTrade" (154 : Nat) "play") ∈ lw_tbl := lw_at lw_m6 169 rfl
theorem q1440 : (Jvm.Cond.instanceMethod ({ cls := "HorsehairTrade", name := "road", desc := "(II)I" } : Jvm.MethodName)) ∈ lw_all := lw_g (lw_at lw_m6 174 rfl) rfl
theorem q1441 : (Jvm.Cond.selects "HorsehairTrade" ({ cls := "HorsehairTrade", name := "road", desc := "(II)I" } : Jvm.MethodName) ({ cls := "HorsehairTrade", name := "road", desc := "(II)I" } : Jvm.MethodName)) ∈ lw_all := lw_g (lw_at lw_m6 175 rfl) rfl
theorem q1442 : (Jvm.Cond.code ({ cls := "HorsehairTrade", name := "road", desc := "(II)I" } : Jvm.MethodName) prog_1_method_23_code (3 : Nat) (Option.some Jvm.ClassFile.FieldType.int)) ∈ lw_all := lw_g (lw_at lw_m6 176 rfl) rfl
theorem q1443 : (Jvm.Cond.stringRef "HorsehairTrade" (156 : Nat) "road") ∈ lw_tbl := lw_at lw_m6 177 rfl
theorem q1448 : (Jvm.Cond.instanceMethod ({ cls := "HorsehairTrade", name := "walk", desc := "(I)I" } : Jvm.MethodName)) ∈ lw_all := lw_g (lw_at lw_m6 182 rfl) rfl
theorem q1449 : (Jvm.Cond.selects "HorsehairTrade" ({ cls := "HorsehairTrade", name := "walk", desc := "(I)I" } : Jvm.MethodName) ({ cls := "HorsehairTrade", name := "walk", desc := "(I)I" } : Jvm.MethodName)) ∈ lw_all := lw_g (lw_at lw_m6 183 rfl) rfl
theorem q1450 : (Jvm.Cond.code ({ cls := "HorsehairTrade", name := "walk", desc := "(I)I" } : Jvm.MethodName) prog_1_method_24_code (2 : Nat) (Option.some Jvm.ClassFile.FieldType.int)) ∈ lw_all := lw_g (lw_at lw_m6 184 rfl) rfl
theorem q1451 : (Jvm.Cond.stringRef "HorsehairTrade" (158 : Nat) "walk") ∈ lw_tbl := lw_at lw_m6 185 rfl
theorem q1456 : (Jvm.Cond.instanceMethod ({ cls := "HorsehairTrade", name := "sell", desc := "(I)I" } : Jvm.MethodName)) ∈ lw_all := lw_g (lw_at lw_m6 190 rfl) rfl
theorem q1457 : (Jvm.Cond.selects "HorsehairTrade" ({ cls := "HorsehairTrade", name := "sell", desc := "(I)I" } : Jvm.MethodName) ({ cls := "HorsehairTrade", name := "sell", desc := "(I)I" } : Jvm.MethodName)) ∈ lw_all := lw_g (lw_at lw_m6 191 rfl) rfl
theorem q1458 : (Jvm.Cond.code ({ cls := "HorsehairTrade", name := "sell", desc := "(I)I" } : Jvm.MethodName) prog_1_method_25_code (2 : Nat) (Option.some Jvm.ClassFile.FieldType.int)) ∈ lw_all := lw_g (lw_at lw_m6 192 rfl) rfl
theorem q1459 : (Jvm.Cond.stringRef "HorsehairTrade" (160 : Nat) "sell") ∈ lw_tbl := lw_at lw_m6 193 rfl
theorem q1464 : (Jvm.Cond.instanceMethod ({ cls := "HorsehairTrade", name := "paid", desc := "(I)I" } : Jvm.MethodName)) ∈ lw_all := lw_g (lw_at lw_m6 198 rfl) rfl
theorem q1465 : (Jvm.Cond.selects "HorsehairTrade" ({ cls := "HorsehairTrade", name := "paid", desc := "(I)I" } : Jvm.MethodName) ({ cls := "HorsehairTrade", name := "paid", desc := "(I)I" } : Jvm.MethodName)) ∈ lw_all := lw_g (lw_at lw_m6 199 rfl) rfl
theorem q1466 : (Jvm.Cond.code ({ cls := "HorsehairTrade", name := "paid", desc := "(I)I" } : Jvm.MethodName) prog_1_method_26_code (2 : Nat) (Option.some Jvm.ClassFile.FieldType.int)) ∈ lw_all := lw_g (lw_at lw_m6 200 rfl) rfl
theorem q1467 : (Jvm.Cond.stringRef "HorsehairTrade" (162 : Nat) "paid") ∈ lw_tbl := lw_at lw_m6 201 rfl
theorem q1492 : (Jvm.Cond.instanceMethod ({ cls := "HorsehairTrade", name := "tailOf", desc := "(II)I" } : Jvm.MethodName)) ∈ lw_all := lw_g (lw_at lw_m6 226 rfl) rfl
theorem q1493 : (Jvm.Cond.selects "HorsehairTrade" ({ cls := "HorsehairTrade", name := "tailOf", desc := "(II)I" } : Jvm.MethodName) ({ cls := "HorsehairTrade", name := "tailOf", desc := "(II)I" } : Jvm.MethodName)) ∈ lw_all := lw_g (lw_at lw_m6 227 rfl) rfl
theorem q1494 : (Jvm.Cond.code ({ cls := "HorsehairTrade", name := "tailOf", desc := "(II)I" } : Jvm.MethodName) prog_1_method_28_code (4 : Nat) (Option.some Jvm.ClassFile.FieldType.int)) ∈ lw_all := lw_g (lw_at lw_m6 228 rfl) rfl
theorem q1495 : (Jvm.Cond.methodLink "HorsehairTrade" (181 : Nat) ({ cls := "HorsehairTrade", name := "required", desc := "(LHorsehairTrade$Row;I)LHorsehairTrade$Copied;" } : Jvm.MethodName)) ∈ lw_all := lw_g (lw_at lw_m6 229 rfl) rfl
theorem q1496 : (Jvm.Cond.static ({ cls := "HorsehairTrade", name := "required", desc := "(LHorsehairTrade$Row;I)LHorsehairTrade$Copied;" } : Jvm.MethodName)) ∈ lw_all := lw_g (lw_at lw_m6 230 rfl) rfl
theorem q1497 : (Jvm.Cond.code ({ cls := "HorsehairTrade", name := "required", desc := "(LHorsehairTrade$Row;I)LHorsehairTrade$Copied;" } : Jvm.MethodName) prog_1_method_27_code (2 : Nat) (Option.some (Jvm.ClassFile.FieldType.object "HorsehairTrade$Copied"))) ∈ lw_all := lw_g (lw_at lw_m6 231 rfl) rfl
theorem q1498 : (Jvm.Cond.methodLink "HorsehairTrade" (164 : Nat) ({ cls := "HorsehairTrade$Row", name := "has", desc := "(I)Z" } : Jvm.MethodName)) ∈ lw_all := lw_g (lw_at lw_m6 232 rfl) rfl
theorem q1499 : (Jvm.Cond.methodLink "HorsehairTrade" (170 : Nat) ({ cls := "HorsehairTrade", name := "requireIndex", desc := "(Z)V" } : Jvm.MethodName)) ∈ lw_all := lw_g (lw_at lw_m6 233 rfl) rfl
theorem q1500 : (Jvm.Cond.static ({ cls := "HorsehairTrade", name := "requireIndex", desc := "(Z)V" } : Jvm.MethodName)) ∈ lw_all := lw_g (lw_at lw_m6 234 rfl) rfl
theorem q1501 : (Jvm.Cond.code ({ cls := "HorsehairTrade", name := "requireIndex", desc := "(Z)V" } : Jvm.MethodName) prog_1_method_2_code (1 : Nat) (Option.none : Option Jvm.ClassFile.FieldType)) ∈ lw_all := lw_g (lw_at lw_m6 235 rfl) rfl
theorem q1502 : (Jvm.Cond.classLink "HorsehairTrade" (1 : Nat) "java/lang/IndexOutOfBoundsException") ∈ lw_all := lw_g (lw_at lw_m6 236 rfl) rfl
theorem q1511 : (Jvm.Cond.methodLink "HorsehairTrade" (3 : Nat) ({ cls := "java/lang/IndexOutOfBoundsException", name := "<init>", desc := "()V" } : Jvm.MethodName)) ∈ lw_all := lw_g (lw_at lw_m7 5 rfl) rfl
theorem q1517 : (Jvm.Cond.classLink "HorsehairTrade" (185 : Nat) "HorsehairTrade$Tail") ∈ lw_all := lw_g (lw_at lw_m7 11 rfl) rfl
theorem q1518 : (Jvm.Cond.methodLink "HorsehairTrade" (198 : Nat) ({ cls := "HorsehairTrade$Tail", name := "nextLength", desc := "()I" } : Jvm.MethodName)) ∈ lw_all := lw_g (lw_at lw_m7 12 rfl) rfl
theorem q1519 : (Jvm.Cond.classLink "HorsehairTrade" (7 : Nat) "java/lang/IllegalArgumentException") ∈ lw_all := lw_g (lw_at lw_m7 13 rfl) rfl
theorem q1520 : (Jvm.Cond.methodLink "HorsehairTrade" (9 : Nat) ({ cls := "java/lang/IllegalArgumentException", name := "<init>", desc := "()V" } : Jvm.MethodName)) ∈ lw_all := lw_g (lw_at lw_m7 14 rfl) rfl
theorem q1528 : (Jvm.Cond.instanceMethod ({ cls := "HorsehairTrade", name := "hankOf", desc := "(II)I" } : Jvm.MethodName)) ∈ lw_all := lw_g (lw_at lw_m7 22 rfl) rfl
theorem q1529 : (Jvm.Cond.selects "HorsehairTrade" ({ cls := "HorsehairTrade", name := "hankOf", desc := "(II)I" } : Jvm.MethodName) ({ cls := "HorsehairTrade", name := "hankOf", desc := "(II)I" } : Jvm.MethodName)) ∈ lw_all := lw_g (lw_at lw_m7 23 rfl) rfl
theorem q1530 : (Jvm.Cond.code ({ cls := "HorsehairTrade", name := "hankOf", desc := "(II)I" } : Jvm.MethodName) prog_1_method_29_code (4 : Nat) (Option.some Jvm.ClassFile.FieldType.int)) ∈ lw_all := lw_g (lw_at lw_m7 24 rfl) rfl
theorem q1535 : (Jvm.Cond.instanceMethod ({ cls := "HorsehairTrade", name := "bowOf", desc := "(II)I" } : Jvm.MethodName)) ∈ lw_all := lw_g (lw_at lw_m7 29 rfl) rfl
theorem q1536 : (Jvm.Cond.selects "HorsehairTrade" ({ cls := "HorsehairTrade", name := "bowOf", desc := "(II)I" } : Jvm.MethodName) ({ cls := "HorsehairTrade", name := "bowOf", desc := "(II)I" } : Jvm.MethodName)) ∈ lw_all := lw_g (lw_at lw_m7 30 rfl) rfl
theorem q1537 : (Jvm.Cond.code ({ cls := "HorsehairTrade", name := "bowOf", desc := "(II)I" } : Jvm.MethodName) prog_1_method_30_code (4 : Nat) (Option.some Jvm.ClassFile.FieldType.int)) ∈ lw_all := lw_g (lw_at lw_m7 31 rfl) rfl
theorem q1538 : (Jvm.Cond.classLink "HorsehairTrade" (213 : Nat) "HorsehairTrade$Bow") ∈ lw_all := lw_g (lw_at lw_m7 32 rfl) rfl
theorem q1543 : (Jvm.Cond.instanceMethod ({ cls := "HorsehairTrade", name := "cakeOf", desc := "(I)I" } : Jvm.MethodName)) ∈ lw_all := lw_g (lw_at lw_m7 37 rfl) rfl
theorem q1544 : (Jvm.Cond.selects "HorsehairTrade" ({ cls := "HorsehairTrade", name := "cakeOf", desc := "(I)I" } : Jvm.MethodName) ({ cls := "HorsehairTrade", name := "cakeOf", desc := "(I)I" } : Jvm.MethodName)) ∈ lw_all := lw_g (lw_at lw_m7 38 rfl) rfl
theorem q1545 : (Jvm.Cond.code ({ cls := "HorsehairTrade", name := "cakeOf", desc := "(I)I" } : Jvm.MethodName) prog_1_method_31_code (2 : Nat) (Option.some Jvm.ClassFile.FieldType.int)) ∈ lw_all := lw_g (lw_at lw_m7 39 rfl) rfl
theorem q1546 : (Jvm.Cond.classLink "HorsehairTrade" (235 : Nat) "HorsehairTrade$Cake") ∈ lw_all := lw_g (lw_at lw_m7 40 rfl) rfl
theorem q1551 : (Jvm.Cond.instanceMethod ({ cls := "HorsehairTrade", name := "sieves", desc := "(I)I" } : Jvm.MethodName)) ∈ lw_all := lw_g (lw_at lw_m7 45 rfl) rfl
theorem q1552 : (Jvm.Cond.selects "HorsehairTrade" ({ cls := "HorsehairTrade", name := "sieves", desc := "(I)I" } : Jvm.MethodName) ({ cls := "HorsehairTrade", name := "sieves", desc := "(I)I" } : Jvm.MethodName)) ∈ lw_all := lw_g (lw_at lw_m7 46 rfl) rfl
theorem q1553 : (Jvm.Cond.code ({ cls := "HorsehairTrade", name := "sieves", desc := "(I)I" } : Jvm.MethodName) prog_1_method_32_code (2 : Nat) (Option.some Jvm.ClassFile.FieldType.int)) ∈ lw_all := lw_g (lw_at lw_m7 47 rfl) rfl
theorem q1554 : (Jvm.Cond.methodLink "HorsehairTrade" (239 : Nat) ({ cls := "HorsehairTrade", name := "require", desc := "(Z)V" } : Jvm.MethodName)) ∈ lw_all := lw_g (lw_at lw_m7 48 rfl) rfl
theorem q1555 : (Jvm.Cond.static ({ cls := "HorsehairTrade", name := "require", desc := "(Z)V" } : Jvm.MethodName)) ∈ lw_all := lw_g (lw_at lw_m7 49 rfl) rfl
theorem q1556 : (Jvm.Cond.code ({ cls := "HorsehairTrade", name := "require", desc := "(Z)V" } : Jvm.MethodName) prog_1_method_3_code (1 : Nat) (Option.none : Option Jvm.ClassFile.FieldType)) ∈ lw_all := lw_g (lw_at lw_m7 50 rfl) rfl
theorem q1562 : (Jvm.Cond.instanceMethod ({ cls := "HorsehairTrade", name := "bestHank", desc := "(I)I" } : Jvm.MethodName)) ∈ lw_all := lw_g (lw_at lw_m7 56 rfl) rfl
theorem q1563 : (Jvm.Cond.selects "HorsehairTrade" ({ cls := "HorsehairTrade", name := "bestHank", desc := "(I)I" } : Jvm.MethodName) ({ cls := "HorsehairTrade", name := "bestHank", desc := "(I)I" } : Jvm.MethodName)) ∈ lw_all := lw_g (lw_at lw_m7 57 rfl) rfl
theorem q1564 : (Jvm.Cond.code ({ cls := "HorsehairTrade", name := "bestHank", desc := "(I)I" } : Jvm.MethodName) prog_1_method_33_code (3 : Nat) (Option.some Jvm.ClassFile.FieldType.int)) ∈ lw_all := lw_g (lw_at lw_m7 58 rfl) rfl
theorem q1565 : (Jvm.Cond.methodLink "HorsehairTrade" (246 : Nat) ({ cls := "HorsehairTrade$Trade", name := "bestHank", desc := "(I)I" } : Jvm.MethodName)) ∈ lw_all := lw_g (lw_at lw_m7 59 rfl) rfl
theorem q1580 : (Jvm.Cond.methodLink "HorsehairTrade" (250 : Nat) ({ cls := "HorsehairTrade", name := "requireElement", desc := "(Z)V" } : Jvm.MethodName)) ∈ lw_all := lw_g (lw_at lw_m7 74 rfl) rfl
theorem q1581 : (Jvm.Cond.static ({ cls := "HorsehairTrade", name := "requireElement", desc := "(Z)V" } : Jvm.MethodName)) ∈ lw_all := lw_g (lw_at lw_m7 75 rfl) rfl
theorem q1582 : (Jvm.Cond.code ({ cls := "HorsehairTrade", name := "requireElement", desc := "(Z)V" } : Jvm.MethodName) prog_1_method_5_code (1 : Nat) (Option.none : Option Jvm.ClassFile.FieldType)) ∈ lw_all := lw_g (lw_at lw_m7 76 rfl) rfl
theorem q1583 : (Jvm.Cond.classLink "HorsehairTrade" (13 : Nat) "java/util/NoSuchElementException") ∈ lw_all := lw_g (lw_at lw_m7 77 rfl) rfl
theorem q1584 : (Jvm.Cond.methodLink "HorsehairTrade" (15 : Nat) ({ cls := "java/util/NoSuchElementException", name := "<init>", desc := "()V" } : Jvm.MethodName)) ∈ lw_all := lw_g (lw_at lw_m7 78 rfl) rfl
theorem q1589 : (Jvm.Cond.instanceMethod ({ cls := "HorsehairTrade", name := "bestAgain", desc := "(I)I" } : Jvm.MethodName)) ∈ lw_all := lw_g (lw_at lw_m7 83 rfl) rfl
theorem q1590 : (Jvm.Cond.selects "HorsehairTrade" ({ cls := "HorsehairTrade", name := "bestAgain", desc := "(I)I" } : Jvm.MethodName) ({ cls := "HorsehairTrade", name := "bestAgain", desc := "(I)I" } : Jvm.MethodName)) ∈ lw_all := lw_g (lw_at lw_m7 84 rfl) rfl
theorem q1591 : (Jvm.Cond.code ({ cls := "HorsehairTrade", name := "bestAgain", desc := "(I)I" } : Jvm.MethodName) prog_1_method_34_code (3 : Nat) (Option.some Jvm.ClassFile.FieldType.int)) ∈ lw_all := lw_g (lw_at lw_m7 85 rfl) rfl
theorem q1592 : (Jvm.Cond.methodLink "HorsehairTrade" (253 : Nat) ({ cls := "HorsehairTrade$Trade", name := "bestAgain", desc := "(I)I" } : Jvm.MethodName)) ∈ lw_all := lw_g (lw_at lw_m7 86 rfl) rfl
theorem q1631 : (Jvm.Cond.static ({ cls := "HorsehairTrade", name := "firstOf", desc := "(Ljava/util/Collection;Ljava/util/Comparator;)Ljava/lang/Object;" } : Jvm.MethodName)) ∈ lw_all := lw_g (lw_at lw_m7 125 rfl) rfl
theorem q1632 : (Jvm.Cond.code ({ cls := "HorsehairTrade", name := "firstOf", desc := "(Ljava/util/Collection;Ljava/util/Comparator;)Ljava/lang/Object;" } : Jvm.MethodName) prog_1_method_9_code (2 : Nat) (Option.some (Jvm.ClassFile.FieldType.object "java/lang/Object"))) ∈ lw_all := lw_g (lw_at lw_m7 126 rfl) rfl
theorem q1633 : (Jvm.Cond.interfaceEntry "HorsehairTrade" (46 : Nat)) ∈ lw_tbl := lw_at lw_m7 127 rfl
theorem q1634 : (Jvm.Cond.methodLink "HorsehairTrade" (46 : Nat) ({ cls := "java/util/Collection", name := "isEmpty", desc := "()Z" } : Jvm.MethodName)) ∈ lw_all := lw_g (lw_at lw_m7 128 rfl) rfl
theorem q1649 : (Jvm.Cond.methodLink "HorsehairTrade" (52 : Nat) ({ cls := "java/util/Collections", name := "min", desc := "(Ljava/util/Collection;Ljava/util/Comparator;)Ljava/lang/Object;" } : Jvm.MethodName)) ∈ lw_all := lw_g (lw_at lw_m7 143 rfl) rfl
theorem q1977 : (Jvm.Cond.instanceMethod ({ cls := "HorsehairTrade", name := "goodFor", desc := "(I)I" } : Jvm.MethodName)) ∈ lw_all := lw_g (lw_at lw_m8 231 rfl) rfl
theorem q1978 : (Jvm.Cond.selects "HorsehairTrade" ({ cls := "HorsehairTrade", name := "goodFor", desc := "(I)I" } : Jvm.MethodName) ({ cls := "HorsehairTrade", name := "goodFor", desc := "(I)I" } : Jvm.MethodName)) ∈ lw_all := lw_g (lw_at lw_m8 232 rfl) rfl
theorem q1979 : (Jvm.Cond.code ({ cls := "HorsehairTrade", name := "goodFor", desc := "(I)I" } : Jvm.MethodName) prog_1_method_35_code (5 : Nat) (Option.some Jvm.ClassFile.FieldType.int)) ∈ lw_all := lw_g (lw_at lw_m8 233 rfl) rfl
theorem q1980 : (Jvm.Cond.methodLink "HorsehairTrade" (256 : Nat) ({ cls := "HorsehairTrade$Hank", name := "suits", desc := "(I)Z" } : Jvm.MethodName)) ∈ lw_all := lw_g (lw_at lw_m8 234 rfl) rfl
theorem q1985 : (Jvm.Cond.instanceMethod ({ cls := "HorsehairTrade", name := "hoursLeft", desc := "(I)I" } : Jvm.MethodName)) ∈ lw_all := lw_g (lw_at lw_m8 239 rfl) rfl
theorem q1986 : (Jvm.Cond.selects "HorsehairTrade" ({ cls := "HorsehairTrade", name := "hoursLeft", desc := "(I)I" } : Jvm.MethodName) ({ cls := "HorsehairTrade", name := "hoursLeft", desc := "(I)I" } : Jvm.MethodName)) ∈ lw_all := lw_g (lw_at lw_m9 0 rfl) rfl
theorem q1987 : (Jvm.Cond.code ({ cls := "HorsehairTrade", name := "hoursLeft", desc := "(I)I" } : Jvm.MethodName) prog_1_method_36_code (5 : Nat) (Option.some Jvm.ClassFile.FieldType.int)) ∈ lw_all := lw_g (lw_at lw_m9 1 rfl) rfl
theorem q1988 : (Jvm.Cond.methodLink "HorsehairTrade" (259 : Nat) ({ cls := "HorsehairTrade$Bow", name := "copy", desc := "()LHorsehairTrade$Bow;" } : Jvm.MethodName)) ∈ lw_all := lw_g (lw_at lw_m9 2 rfl) rfl
theorem q1989 : (Jvm.Cond.methodLink "HorsehairTrade" (263 : Nat) ({ cls := "HorsehairTrade$Bow", name := "canBePlayed", desc := "()Z" } : Jvm.MethodName)) ∈ lw_all := lw_g (lw_at lw_m9 3 rfl) rfl
theorem q1990 : (Jvm.Cond.methodLink "HorsehairTrade" (266 : Nat) ({ cls := "HorsehairTrade$Bow", name := "hour", desc := "()I" } : Jvm.MethodName)) ∈ lw_all := lw_g (lw_at lw_m9 4 rfl) rfl
theorem q1995 : (Jvm.Cond.instanceMethod ({ cls := "HorsehairTrade", name := "daysTo", desc := "(I)I" } : Jvm.MethodName)) ∈ lw_all := lw_g (lw_at lw_m9 9 rfl) rfl
theorem q1996 : (Jvm.Cond.selects "HorsehairTrade" ({ cls := "HorsehairTrade", name := "daysTo", desc := "(I)I" } : Jvm.MethodName) ({ cls := "HorsehairTrade", name := "daysTo", desc := "(I)I" } : Jvm.MethodName)) ∈ lw_all := lw_g (lw_at lw_m9 10 rfl) rfl
theorem q1997 : (Jvm.Cond.code ({ cls := "HorsehairTrade", name := "daysTo", desc := "(I)I" } : Jvm.MethodName) prog_1_method_37_code (4 : Nat) (Option.some Jvm.ClassFile.FieldType.int)) ∈ lw_all := lw_g (lw_at lw_m9 11 rfl) rfl
theorem q2003 : (Jvm.Cond.instanceMethod ({ cls := "HorsehairTrade", name := "feed", desc := "(C)I" } : Jvm.MethodName)) ∈ lw_all := lw_g (lw_at lw_m9 17 rfl) rfl
theorem q2004 : (Jvm.Cond.selects "HorsehairTrade" ({ cls := "HorsehairTrade", name := "feed", desc := "(C)I" } : Jvm.MethodName) ({ cls := "HorsehairTrade", name := "feed", desc := "(C)I" } : Jvm.MethodName)) ∈ lw_all := lw_g (lw_at lw_m9 18 rfl) rfl
theorem q2005 : (Jvm.Cond.code ({ cls := "HorsehairTrade", name := "feed", desc := "(C)I" } : Jvm.MethodName) prog_1_method_40_code (2 : Nat) (Option.some Jvm.ClassFile.FieldType.int)) ∈ lw_all := lw_g (lw_at lw_m9 19 rfl) rfl
theorem q2006 : (Jvm.Cond.methodLink "HorsehairTrade" (282 : Nat) ({ cls := "java/lang/StringBuilder", name := "length", desc := "()I" } : Jvm.MethodName)) ∈ lw_all := lw_g (lw_at lw_m9 20 rfl) rfl
theorem q2007 : (Jvm.Cond.methodLink "HorsehairTrade" (284 : Nat) ({ cls := "HorsehairTrade", name := "requireState", desc := "(Z)V" } : Jvm.MethodName)) ∈ lw_all := lw_g (lw_at lw_m9 21 rfl) rfl
theorem q2008 : (Jvm.Cond.static ({ cls := "HorsehairTrade", name := "requireState", desc := "(Z)V" } : Jvm.MethodName)) ∈ lw_all := lw_g (lw_at lw_m9 22 rfl) rfl
theorem q2009 : (Jvm.Cond.code ({ cls := "HorsehairTrade", name := "requireState", desc := "(Z)V" } : Jvm.MethodName) prog_1_method_4_code (1 : Nat) (Option.none : Option Jvm.ClassFile.FieldType)) ∈ lw_all := lw_g (lw_at lw_m9 23 rfl) rfl
theorem q2010 : (Jvm.Cond.classLink "HorsehairTrade" (10 : Nat) "java/lang/IllegalStateException") ∈ lw_all := lw_g (lw_at lw_m9 24 rfl) rfl
theorem q2011 : (Jvm.Cond.methodLink "HorsehairTrade" (12 : Nat) ({ cls := "java/lang/IllegalStateException", name := "<init>", desc := "()V" } : Jvm.MethodName)) ∈ lw_all := lw_g (lw_at lw_m9 25 rfl) rfl
theorem q2015 : (Jvm.Cond.methodLink "HorsehairTrade" (287 : Nat) ({ cls := "java/lang/StringBuilder", name := "append", desc := "(C)Ljava/lang/StringBuilder;" } : Jvm.MethodName)) ∈ lw_all := lw_g (lw_at lw_m9 29 rfl) rfl
theorem q2020 : (Jvm.Cond.instanceMethod ({ cls := "HorsehairTrade", name := "run", desc := "()I" } : Jvm.MethodName)) ∈ lw_all := lw_g (lw_at lw_m9 34 rfl) rfl
theorem q2021 : (Jvm.Cond.selects "HorsehairTrade" ({ cls := "HorsehairTrade", name := "run", desc := "()I" } : Jvm.MethodName) ({ cls := "HorsehairTrade", name := "run", desc := "()I" } : Jvm.MethodName)) ∈ lw_all := lw_g (lw_at lw_m9 35 rfl) rfl
theorem q2022 : (Jvm.Cond.codeWith ({ cls := "HorsehairTrade", name := "run", desc := "()I" } : Jvm.MethodName) prog_1_method_42_code (5 : Nat) (Option.some Jvm.ClassFile.FieldType.int) [((19 : Nat), (51 : Nat), (54 : Nat), (16 : Nat))]) ∈ lw_all := lw_g (lw_at lw_m9 36 rfl) rfl
theorem q2023 : (Jvm.Cond.methodLink "HorsehairTrade" (313 : Nat) ({ cls := "HorsehairTrade", name := "readOrders", desc := "()Ljava/util/List;" } : Jvm.MethodName)) ∈ lw_all := lw_g (lw_at lw_m9 37 rfl) rfl
theorem q2024 : (Jvm.Cond.privateMethod ({ cls := "HorsehairTrade", name := "readOrders", desc := "()Ljava/util/List;" } : Jvm.MethodName)) ∈ lw_tbl := lw_at lw_m9 38 rfl
theorem q2025 : (Jvm.Cond.instanceMethod ({ cls := "HorsehairTrade", name := "readOrders", desc := "()Ljava/util/List;" } : Jvm.MethodName)) ∈ lw_all := lw_g (lw_at lw_m9 39 rfl) rfl
theorem q2026 : (Jvm.Cond.codeWith ({ cls := "HorsehairTrade", name := "readOrders", desc := "()Ljava/util/List;" } : Jvm.MethodName) prog_1_method_41_code (3 : Nat) (Option.some (Jvm.ClassFile.FieldType.object "java/util/List")) [((23 : Nat), (27 : Nat), (28 : Nat), (308 : Nat))]) ∈ lw_all := lw_g (lw_at lw_m9 40 rfl) rfl
theorem q2027 : (Jvm.Cond.classLink "HorsehairTrade" (308 : Nat) "HorsehairTrade$TextException") ∈ lw_all := lw_g (lw_at lw_m9 41 rfl) rfl
theorem q2028 : (Jvm.Cond.classLink "HorsehairTrade" (291 : Nat) "HorsehairTrade$Reader") ∈ lw_all := lw_g (lw_at lw_m9 42 rfl) rfl
theorem q2030 : (Jvm.Cond.methodLink "HorsehairTrade" (297 : Nat) ({ cls := "HorsehairTrade$Reader", name := "<init>", desc := "(Ljava/lang/String;)V" } : Jvm.MethodName)) ∈ lw_all := lw_g (lw_at lw_m9 44 rfl) rfl
theorem q2041 : (Jvm.Cond.methodLink "HorsehairTrade" (300 : Nat) ({ cls := "java/lang/StringBuilder", name := "setLength", desc := "(I)V" } : Jvm.MethodName)) ∈ lw_all := lw_g (lw_at lw_m9 55 rfl) rfl
theorem q2093 : (Jvm.Cond.methodLink "HorsehairTrade" (304 : Nat) ({ cls := "HorsehairTrade$Reader", name := "whole", desc := "()Ljava/util/List;" } : Jvm.MethodName)) ∈ lw_all := lw_g (lw_at lw_m9 107 rfl) rfl
theorem q2142 : (Jvm.Cond.fieldLinkNest "HorsehairTrade" (310 : Nat) "HorsehairTrade$TextException" "position" "I" "HorsehairTrade") ∈ lw_tbl := lw_at lw_m9 156 rfl
theorem q2182 : (Jvm.Cond.methodLink "HorsehairTrade" (316 : Nat) ({ cls := "HorsehairTrade$Order", name := "does", desc := "(LHorsehairTrade$Trade;)I" } : Jvm.MethodName)) ∈ lw_all := lw_g (lw_at lw_m9 196 rfl) rfl
theorem q2187 : (Jvm.Cond.instanceMethod ({ cls := "HorsehairTrade", name := "faultPosition", desc := "()I" } : Jvm.MethodName)) ∈ lw_all := lw_g (lw_at lw_m9 201 rfl) rfl
theorem q2188 : (Jvm.Cond.selects "HorsehairTrade" ({ cls := "HorsehairTrade", name := "faultPosition", desc := "()I" } : Jvm.MethodName) ({ cls := "HorsehairTrade", name := "faultPosition", desc := "()I" } : Jvm.MethodName)) ∈ lw_all := lw_g (lw_at lw_m9 202 rfl) rfl
theorem q2189 : (Jvm.Cond.code ({ cls := "HorsehairTrade", name := "faultPosition", desc := "()I" } : Jvm.MethodName) prog_1_method_43_code (1 : Nat) (Option.some Jvm.ClassFile.FieldType.int)) ∈ lw_all := lw_g (lw_at lw_m9 203 rfl) rfl
theorem q2194 : (Jvm.Cond.instanceMethod ({ cls := "HorsehairTrade", name := "reason", desc := "(I)I" } : Jvm.MethodName)) ∈ lw_all := lw_g (lw_at lw_m9 208 rfl) rfl
theorem q2195 : (Jvm.Cond.selects "HorsehairTrade" ({ cls := "HorsehairTrade", name := "reason", desc := "(I)I" } : Jvm.MethodName) ({ cls := "HorsehairTrade", name := "reason", desc := "(I)I" } : Jvm.MethodName)) ∈ lw_all := lw_g (lw_at lw_m9 209 rfl) rfl
theorem q2196 : (Jvm.Cond.code ({ cls := "HorsehairTrade", name := "reason", desc := "(I)I" } : Jvm.MethodName) prog_1_method_44_code (2 : Nat) (Option.some Jvm.ClassFile.FieldType.int)) ∈ lw_all := lw_g (lw_at lw_m9 210 rfl) rfl
theorem q2201 : (Jvm.Cond.instanceMethod ({ cls := "HorsehairTrade", name := "character", desc := "(I)C" } : Jvm.MethodName)) ∈ lw_all := lw_g (lw_at lw_m9 215 rfl) rfl
theorem q2202 : (Jvm.Cond.selects "HorsehairTrade" ({ cls := "HorsehairTrade", name := "character", desc := "(I)C" } : Jvm.MethodName) ({ cls := "HorsehairTrade", name := "character", desc := "(I)C" } : Jvm.MethodName)) ∈ lw_all := lw_g (lw_at lw_m9 216 rfl) rfl
theorem q2203 : (Jvm.Cond.code ({ cls := "HorsehairTrade", name := "character", desc := "(I)C" } : Jvm.MethodName) prog_1_method_46_code (2 : Nat) (Option.some Jvm.ClassFile.FieldType.char)) ∈ lw_all := lw_g (lw_at lw_m9 217 rfl) rfl
theorem q2204 : (Jvm.Cond.methodLink "HorsehairTrade" (337 : Nat) ({ cls := "java/lang/String", name := "charAt", desc := "(I)C" } : Jvm.MethodName)) ∈ lw_all := lw_g (lw_at lw_m9 218 rfl) rfl
theorem q2223 : (Jvm.Cond.instanceMethod ({ cls := "HorsehairTrade", name := "meanLength", desc := "()D" } : Jvm.MethodName)) ∈ lw_all := lw_g (lw_at lw_m9 237 rfl) rfl
theorem q2224 : (Jvm.Cond.selects "HorsehairTrade" ({ cls := "HorsehairTrade", name := "meanLength", desc := "()D" } : Jvm.MethodName) ({ cls := "HorsehairTrade", name := "meanLength", desc := "()D" } : Jvm.MethodName)) ∈ lw_all := lw_g (lw_at lw_m9 238 rfl) rfl
theorem q2225 : (Jvm.Cond.code ({ cls := "HorsehairTrade", name := "meanLength", desc := "()D" } : Jvm.MethodName) prog_1_method_47_code (3 : Nat) (Option.some Jvm.ClassFile.FieldType.double)) ∈ lw_all := lw_g (lw_at lw_m9 239 rfl) rfl
theorem q2226 : (Jvm.Cond.classLink "HorsehairTrade" (341 : Nat) "java/lang/ArithmeticException") ∈ lw_all := lw_g (lw_at lw_m10 0 rfl) rfl
theorem q2227 : (Jvm.Cond.methodLink "HorsehairTrade" (343 : Nat) ({ cls := "java/lang/ArithmeticException", name := "<init>", desc := "()V" } : Jvm.MethodName)) ∈ lw_all := lw_g (lw_at lw_m10 1 rfl) rfl
theorem q2235 : (Jvm.Cond.instanceMethod ({ cls := "HorsehairTrade", name := "lostShare", desc := "()F" } : Jvm.MethodName)) ∈ lw_all := lw_g (lw_at lw_m10 9 rfl) rfl
theorem q2236 : (Jvm.Cond.selects "HorsehairTrade" ({ cls := "HorsehairTrade", name := "lostShare", desc := "()F" } : Jvm.MethodName) ({ cls := "HorsehairTrade", name := "lostShare", desc := "()F" } : Jvm.MethodName)) ∈ lw_all := lw_g (lw_at lw_m10 10 rfl) rfl
theorem q2237 : (Jvm.Cond.code ({ cls := "HorsehairTrade", name := "lostShare", desc := "()F" } : Jvm.MethodName) prog_1_method_48_code (1 : Nat) (Option.some Jvm.ClassFile.FieldType.float)) ∈ lw_all := lw_g (lw_at lw_m10 11 rfl) rfl
theorem q2242 : (Jvm.Cond.instanceMethod ({ cls := "HorsehairTrade", name := "account", desc := "(I)I" } : Jvm.MethodName)) ∈ lw_all := lw_g (lw_at lw_m10 16 rfl) rfl
theorem q2243 : (Jvm.Cond.selects "HorsehairTrade" ({ cls := "HorsehairTrade", name := "account", desc := "(I)I" } : Jvm.MethodName) ({ cls := "HorsehairTrade", name := "account", desc := "(I)I" } : Jvm.MethodName)) ∈ lw_all := lw_g (lw_at lw_m10 17 rfl) rfl
theorem q2244 : (Jvm.Cond.code ({ cls := "HorsehairTrade", name := "account", desc := "(I)I" } : Jvm.MethodName) prog_1_method_49_code (2 : Nat) (Option.some Jvm.ClassFile.FieldType.int)) ∈ lw_all := lw_g (lw_at lw_m10 18 rfl) rfl
theorem q2245 : (Jvm.Cond.methodLink "HorsehairTrade" (353 : Nat) ({ cls := "HorsehairTrade$Trade", name := "countMixed", desc := "()I" } : Jvm.MethodName)) ∈ lw_all := lw_g (lw_at lw_m10 19 rfl) rfl
theorem q2249 : (Jvm.Cond.methodLink "HorsehairTrade" (356 : Nat) ({ cls := "HorsehairTrade$Trade", name := "countSieves", desc := "()I" } : Jvm.MethodName)) ∈ lw_all := lw_g (lw_at lw_m10 23 rfl) rfl
theorem q2253 : (Jvm.Cond.methodLink "HorsehairTrade" (366 : Nat) ({ cls := "HorsehairTrade", name := "hairsOf", desc := "(Ljava/util/List;)I" } : Jvm.MethodName)) ∈ lw_all := lw_g (lw_at lw_m10 27 rfl) rfl
theorem q2254 : (Jvm.Cond.methodLink "HorsehairTrade" (376 : Nat) ({ cls := "HorsehairTrade$Trade", name := "isFair", desc := "()Z" } : Jvm.MethodName)) ∈ lw_all := lw_g (lw_at lw_m10 28 rfl) rfl
theorem q2259 : (Jvm.Cond.instanceMethod ({ cls := "HorsehairTrade", name := "undo", desc := "()I" } : Jvm.MethodName)) ∈ lw_all := lw_g (lw_at lw_m10 33 rfl) rfl
theorem q2260 : (Jvm.Cond.selects "HorsehairTrade" ({ cls := "HorsehairTrade", name := "undo", desc := "()I" } : Jvm.MethodName) ({ cls := "HorsehairTrade", name := "undo", desc := "()I" } : Jvm.MethodName)) ∈ lw_all := lw_g (lw_at lw_m10 34 rfl) rfl
theorem q2261 : (Jvm.Cond.code ({ cls := "HorsehairTrade", name := "undo", desc := "()I" } : Jvm.MethodName) prog_1_method_51_code (1 : Nat) (Option.some Jvm.ClassFile.FieldType.int)) ∈ lw_all := lw_g (lw_at lw_m10 35 rfl) rfl
theorem q2262 : (Jvm.Cond.interfaceEntry "HorsehairTrade" (382 : Nat)) ∈ lw_tbl := lw_at lw_m10 36 rfl
theorem q2264 : (Jvm.Cond.interfaceEntry "HorsehairTrade" (383 : Nat)) ∈ lw_tbl := lw_at lw_m10 38 rfl
theorem q2265 : (Jvm.Cond.methodLink "HorsehairTrade" (383 : Nat) ({ cls := "java/util/Deque", name := "removeLast", desc := "()Ljava/lang/Object;" } : Jvm.MethodName)) ∈ lw_all := lw_g (lw_at lw_m10 39 rfl) rfl
theorem q2284 : (Jvm.Cond.instanceMethod ({ cls := "HorsehairTrade", name := "restore", desc := "()I" } : Jvm.MethodName)) ∈ lw_all := lw_g (lw_at lw_m10 58 rfl) rfl
theorem q2285 : (Jvm.Cond.selects "HorsehairTrade" ({ cls := "HorsehairTrade", name := "restore", desc := "()I" } : Jvm.MethodName) ({ cls := "HorsehairTrade", name := "restore", desc := "()I" } : Jvm.MethodName)) ∈ lw_all := lw_g (lw_at lw_m10 59 rfl) rfl
theorem q2286 : (Jvm.Cond.code ({ cls := "HorsehairTrade", name := "restore", desc := "()I" } : Jvm.MethodName) prog_1_method_53_code (1 : Nat) (Option.some Jvm.ClassFile.FieldType.int)) ∈ lw_all := lw_g (lw_at lw_m10 60 rfl) rfl
theorem q2287 : (Jvm.Cond.interfaceEntry "HorsehairTrade" (389 : Nat)) ∈ lw_tbl := lw_at lw_m10 61 rfl
theorem q2767 : (Jvm.Cond.castable "HorsehairTrade" "java/lang/Object") ∈ lw_tbl := lw_at lw_m12 61 rfl
theorem in_X1 : ∀ w ∈ wsX10, w ∈ lw_all := lw_in wsX10 [293, 295, 297, 299, 301, 303, 305, 307] (by decide +kernel) (by decide +kernel)
/-! HorsehairTrade$Trade -/
set_option maxRecDepth 100000
def RX2 : String := "HorsehairTrade$Trade"
def TX2 : u_T := fun k => match k with
  | 0 => ("HorsehairTrade$Trade", "tails", "LHorsehairTrade$Row;", true)
  | 1 => ("HorsehairTrade$Trade", "hanks", "LHorsehairTrade$Row;", true)
  | 2 => ("HorsehairTrade$Trade", "bows", "LHorsehairTrade$Row;", true)
  | 3 => ("HorsehairTrade$Trade", "cakes", "LHorsehairTrade$Row;", true)
  | 4 => ("HorsehairTrade$Trade", "sieves", "[I", true)
  | 5 => ("HorsehairTrade$Trade", "roads", "[I", true)
  | 6 => ("HorsehairTrade$Trade", "sold", "I", false)
  | 7 => ("HorsehairTrade$Trade", "came", "I", false)
  | 8 => ("HorsehairTrade$Trade", "woven", "I", false)
  | 9 => ("HorsehairTrade$Trade", "lost", "I", false)
  | 10 => ("HorsehairTrade$Trade", "thrown", "I", false)
  | 11 => ("HorsehairTrade$Trade", "coins", "I", false)
  | 12 => ("HorsehairTrade$Trade", "day", "I", false)
  | _ => ("HorsehairTrade$Trade", "town", "I", false)
def tyX2 : Nat → FieldType := fun k => match k with
  | 0 => .object "HorsehairTrade$Row"
  | 1 => .object "HorsehairTrade$Row"
  | 2 => .object "HorsehairTrade$Row"
  | 3 => .object "HorsehairTrade$Row"
  | 4 => .array .int
  | 5 => .array .int
  | 6 => .int
  | 7 => .int
  | 8 => .int
  | 9 => .int
  | 10 => .int
  | 11 => .int
  | 12 => .int
  | _ => .int
abbrev wsX20 : List Cond := u_ws RX2 TX2 14
set_option maxRecDepth 100000 in
theorem nmX2 : ∀ a, a < 14 → ∀ b, b < 14 → a ≠ b → (TX2 a).2.1 ≠ (TX2 b).2.1 := by decide +kernel
set_option maxRecDepth 100000 in
theorem tyX2_ok : ∀ k, k < 14 → parseFieldDescriptor (TX2 k).2.2.1 = some (tyX2 k) := by decide +kernel
abbrev cX2_init : ByteArray := prog_14_method_1_code
def yX2_init : MethodName := ⟨RX2, "<init>", "()V"⟩
def dkwX2_init_4 : List UInt8 := [8, 183, 0, 24, 181, 0, 37, 177]
abbrev dktX2_init_4 : List UInt8 := dkwX2_init_4 ++ []
def dkwX2_init_3 : List UInt8 := [183, 0, 24, 181, 0, 31, 42, 187, 0, 22, 89, 16, 6, 183, 0, 24, 181, 0, 34, 42, 187, 0, 22, 89]
abbrev dktX2_init_3 : List UInt8 := dkwX2_init_3 ++ dktX2_init_4
def dkwX2_init_2 : List UInt8 := [181, 0, 18, 42, 187, 0, 22, 89, 16, 10, 183, 0, 24, 181, 0, 27, 42, 187, 0, 22, 89, 16, 20]
abbrev dktX2_init_2 : List UInt8 := dkwX2_init_2 ++ dktX2_init_3
def dkwX2_init_1 : List UInt8 := [79, 89, 5, 4, 79, 89, 6, 4, 79, 89, 7, 4, 79, 89, 8, 4, 79, 181, 0, 15, 42, 16, 40]
abbrev dktX2_init_1 : List UInt8 := dkwX2_init_1 ++ dktX2_init_2
def dkwX2_init_0 : List UInt8 := [42, 183, 0, 3, 42, 16, 10, 188, 10, 181, 0, 9, 42, 16, 6, 188, 10, 89, 3, 4, 79, 89, 4, 4]
abbrev dktX2_init_0 : List UInt8 := dkwX2_init_0 ++ dktX2_init_1
theorem dksX2_init_0 : cX2_init.data.toList.drop 0 = dktX2_init_0 := by decide +kernel
theorem dksX2_init_1 : cX2_init.data.toList.drop 24 = dktX2_init_1 := dk_seg dksX2_init_0 24 rfl rfl
theorem dksX2_init_2 : cX2_init.data.toList.drop 47 = dktX2_init_2 := dk_seg dksX2_init_1 23 rfl rfl
theorem dksX2_init_3 : cX2_init.data.toList.drop 70 = dktX2_init_3 := dk_seg dksX2_init_2 23 rfl rfl
theorem dksX2_init_4 : cX2_init.data.toList.drop 94 = dktX2_init_4 := dk_seg dksX2_init_3 24 rfl rfl
theorem dX2_init_0 : decode cX2_init 0 = .ok (.aload_n 0, 1) := dk_42 (dk_at dksX2_init_0 0 rfl rfl)
theorem dX2_init_1 : decode cX2_init 1 = .ok (.invokespecial 3, 3) := dk_183 0 3 (dk_at dksX2_init_0 1 rfl rfl)
theorem dX2_init_4 : decode cX2_init 4 = .ok (.aload_n 0, 1) := dk_42 (dk_at dksX2_init_0 4 rfl rfl)
theorem dX2_init_5 : decode cX2_init 5 = .ok (.bipush 10, 2) := dk_16 10 (dk_at dksX2_init_0 5 rfl rfl)
theorem dX2_init_7 : decode cX2_init 7 = .ok (.newarray .int, 2) := dk_188_10 (dk_at dksX2_init_0 7 rfl rfl)
theorem dX2_init_9 : decode cX2_init 9 = .ok (.putfield 9, 3) := dk_181 0 9 (dk_at dksX2_init_0 9 rfl rfl)
theorem dX2_init_12 : decode cX2_init 12 = .ok (.aload_n 0, 1) := dk_42 (dk_at dksX2_init_0 12 rfl rfl)
theorem dX2_init_13 : decode cX2_init 13 = .ok (.bipush 6, 2) := dk_16 6 (dk_at dksX2_init_0 13 rfl rfl)
theorem dX2_init_15 : decode cX2_init 15 = .ok (.newarray .int, 2) := dk_188_10 (dk_at dksX2_init_0 15 rfl rfl)
theorem dX2_init_17 : decode cX2_init 17 = .ok (.dup, 1) := dk_89 (dk_at dksX2_init_0 17 rfl rfl)
theorem dX2_init_18 : decode cX2_init 18 = .ok (.iconst 0, 1) := dk_3 (dk_at dksX2_init_0 18 rfl rfl)
theorem dX2_init_19 : decode cX2_init 19 = .ok (.iconst 1, 1) := dk_4 (dk_at dksX2_init_0 19 rfl rfl)
theorem dX2_init_20 : decode cX2_init 20 = .ok (.iastore, 1) := dk_79 (dk_at dksX2_init_0 20 rfl rfl)
theorem dX2_init_21 : decode cX2_init 21 = .ok (.dup, 1) := dk_89 (dk_at dksX2_init_0 21 rfl rfl)
theorem dX2_init_22 : decode cX2_init 22 = .ok (.iconst 1, 1) := dk_4 (dk_at dksX2_init_0 22 rfl rfl)
theorem dX2_init_23 : decode cX2_init 23 = .ok (.iconst 1, 1) := dk_4 (dk_at dksX2_init_0 23 rfl rfl)
theorem dX2_init_24 : decode cX2_init 24 = .ok (.iastore, 1) := dk_79 (dk_at dksX2_init_1 0 rfl rfl)
theorem dX2_init_25 : decode cX2_init 25 = .ok (.dup, 1) := dk_89 (dk_at dksX2_init_1 1 rfl rfl)
theorem dX2_init_26 : decode cX2_init 26 = .ok (.iconst 2, 1) := dk_5 (dk_at dksX2_init_1 2 rfl rfl)
theorem dX2_init_27 : decode cX2_init 27 = .ok (.iconst 1, 1) := dk_4 (dk_at dksX2_init_1 3 rfl rfl)
theorem dX2_init_28 : decode cX2_init 28 = .ok (.iastore, 1) := dk_79 (dk_at dksX2_init_1 4 rfl rfl)
theorem dX2_init_29 : decode cX2_init 29 = .ok (.dup, 1) := dk_89 (dk_at dksX2_init_1 5 rfl rfl)
theorem dX2_init_30 : decode cX2_init 30 = .ok (.iconst 3, 1) := dk_6 (dk_at dksX2_init_1 6 rfl rfl)
theorem dX2_init_31 : decode cX2_init 31 = .ok (.iconst 1, 1) := dk_4 (dk_at dksX2_init_1 7 rfl rfl)
theorem dX2_init_32 : decode cX2_init 32 = .ok (.iastore, 1) := dk_79 (dk_at dksX2_init_1 8 rfl rfl)
theorem dX2_init_33 : decode cX2_init 33 = .ok (.dup, 1) := dk_89 (dk_at dksX2_init_1 9 rfl rfl)
theorem dX2_init_34 : decode cX2_init 34 = .ok (.iconst 4, 1) := dk_7 (dk_at dksX2_init_1 10 rfl rfl)
theorem dX2_init_35 : decode cX2_init 35 = .ok (.iconst 1, 1) := dk_4 (dk_at dksX2_init_1 11 rfl rfl)
theorem dX2_init_36 : decode cX2_init 36 = .ok (.iastore, 1) := dk_79 (dk_at dksX2_init_1 12 rfl rfl)
theorem dX2_init_37 : decode cX2_init 37 = .ok (.dup, 1) := dk_89 (dk_at dksX2_init_1 13 rfl rfl)
theorem dX2_init_38 : decode cX2_init 38 = .ok (.iconst 5, 1) := dk_8 (dk_at dksX2_init_1 14 rfl rfl)
theorem dX2_init_39 : decode cX2_init 39 = .ok (.iconst 1, 1) := dk_4 (dk_at dksX2_init_1 15 rfl rfl)
theorem dX2_init_40 : decode cX2_init 40 = .ok (.iastore, 1) := dk_79 (dk_at dksX2_init_1 16 rfl rfl)
theorem dX2_init_41 : decode cX2_init 41 = .ok (.putfield 15, 3) := dk_181 0 15 (dk_at dksX2_init_1 17 rfl rfl)
theorem dX2_init_44 : decode cX2_init 44 = .ok (.aload_n 0, 1) := dk_42 (dk_at dksX2_init_1 20 rfl rfl)
theorem dX2_init_45 : decode cX2_init 45 = .ok (.bipush 40, 2) := dk_16 40 (dk_at dksX2_init_1 21 rfl rfl)
theorem dX2_init_47 : decode cX2_init 47 = .ok (.putfield 18, 3) := dk_181 0 18 (dk_at dksX2_init_2 0 rfl rfl)
theorem dX2_init_50 : decode cX2_init 50 = .ok (.aload_n 0, 1) := dk_42 (dk_at dksX2_init_2 3 rfl rfl)
theorem dX2_init_51 : decode cX2_init 51 = .ok (.new 22, 3) := dk_187 0 22 (dk_at dksX2_init_2 4 rfl rfl)
theorem dX2_init_54 : decode cX2_init 54 = .ok (.dup, 1) := dk_89 (dk_at dksX2_init_2 7 rfl rfl)
theorem dX2_init_55 : decode cX2_init 55 = .ok (.bipush 10, 2) := dk_16 10 (dk_at dksX2_init_2 8 rfl rfl)
theorem dX2_init_57 : decode cX2_init 57 = .ok (.invokespecial 24, 3) := dk_183 0 24 (dk_at dksX2_init_2 10 rfl rfl)
theorem dX2_init_60 : decode cX2_init 60 = .ok (.putfield 27, 3) := dk_181 0 27 (dk_at dksX2_init_2 13 rfl rfl)
theorem dX2_init_63 : decode cX2_init 63 = .ok (.aload_n 0, 1) := dk_42 (dk_at dksX2_init_2 16 rfl rfl)
theorem dX2_init_64 : decode cX2_init 64 = .ok (.new 22, 3) := dk_187 0 22 (dk_at dksX2_init_2 17 rfl rfl)
theorem dX2_init_67 : decode cX2_init 67 = .ok (.dup, 1) := dk_89 (dk_at dksX2_init_2 20 rfl rfl)
theorem dX2_init_68 : decode cX2_init 68 = .ok (.bipush 20, 2) := dk_16 20 (dk_at dksX2_init_2 21 rfl rfl)
theorem dX2_init_70 : decode cX2_init 70 = .ok (.invokespecial 24, 3) := dk_183 0 24 (dk_at dksX2_init_3 0 rfl rfl)
theorem dX2_init_73 : decode cX2_init 73 = .ok (.putfield 31, 3) := dk_181 0 31 (dk_at dksX2_init_3 3 rfl rfl)
theorem dX2_init_76 : decode cX2_init 76 = .ok (.aload_n 0, 1) := dk_42 (dk_at dksX2_init_3 6 rfl rfl)
theorem dX2_init_77 : decode cX2_init 77 = .ok (.new 22, 3) := dk_187 0 22 (dk_at dksX2_init_3 7 rfl rfl)
theorem dX2_init_80 : decode cX2_init 80 = .ok (.dup, 1) := dk_89 (dk_at dksX2_init_3 10 rfl rfl)
theorem dX2_init_81 : decode cX2_init 81 = .ok (.bipush 6, 2) := dk_16 6 (dk_at dksX2_init_3 11 rfl rfl)
theorem dX2_init_83 : decode cX2_init 83 = .ok (.invokespecial 24, 3) := dk_183 0 24 (dk_at dksX2_init_3 13 rfl rfl)
theorem dX2_init_86 : decode cX2_init 86 = .ok (.putfield 34, 3) := dk_181 0 34 (dk_at dksX2_init_3 16 rfl rfl)
theorem dX2_init_89 : decode cX2_init 89 = .ok (.aload_n 0, 1) := dk_42 (dk_at dksX2_init_3 19 rfl rfl)
theorem dX2_init_90 : decode cX2_init 90 = .ok (.new 22, 3) := dk_187 0 22 (dk_at dksX2_init_3 20 rfl rfl)
theorem dX2_init_93 : decode cX2_init 93 = .ok (.dup, 1) := dk_89 (dk_at dksX2_init_3 23 rfl rfl)
theorem dX2_init_94 : decode cX2_init 94 = .ok (.iconst 5, 1) := dk_8 (dk_at dksX2_init_4 0 rfl rfl)
theorem dX2_init_95 : decode cX2_init 95 = .ok (.invokespecial 24, 3) := dk_183 0 24 (dk_at dksX2_init_4 1 rfl rfl)
theorem dX2_init_98 : decode cX2_init 98 = .ok (.putfield 37, 3) := dk_181 0 37 (dk_at dksX2_init_4 4 rfl rfl)
theorem dX2_init_101 : decode cX2_init 101 = .ok (.return_, 1) := dk_177 (dk_at dksX2_init_4 7 rfl rfl)
abbrev cX2_isFairOn : ByteArray := prog_14_method_3_code
def yX2_isFairOn : MethodName := ⟨RX2, "isFairOn", "(II)Z"⟩
def dkwX2_isFairOn_0 : List UInt8 := [26, 16, 7, 112, 27, 160, 0, 7, 4, 167, 0, 4, 3, 172]
abbrev dktX2_isFairOn_0 : List UInt8 := dkwX2_isFairOn_0 ++ []
theorem dksX2_isFairOn_0 : cX2_isFairOn.data.toList.drop 0 = dktX2_isFairOn_0 := by decide +kernel
theorem dX2_isFairOn_0 : decode cX2_isFairOn 0 = .ok (.iload_n 0, 1) := dk_26 (dk_at dksX2_isFairOn_0 0 rfl rfl)
theorem dX2_isFairOn_1 : decode cX2_isFairOn 1 = .ok (.bipush 7, 2) := dk_16 7 (dk_at dksX2_isFairOn_0 1 rfl rfl)
theorem dX2_isFairOn_3 : decode cX2_isFairOn 3 = .ok (.irem, 1) := dk_112 (dk_at dksX2_isFairOn_0 3 rfl rfl)
theorem dX2_isFairOn_4 : decode cX2_isFairOn 4 = .ok (.iload_n 1, 1) := dk_27 (dk_at dksX2_isFairOn_0 4 rfl rfl)
theorem dX2_isFairOn_5 : decode cX2_isFairOn 5 = .ok (.if_icmp .ne 7, 3) := dk_160 0 7 (dk_at dksX2_isFairOn_0 5 rfl rfl)
theorem dX2_isFairOn_8 : decode cX2_isFairOn 8 = .ok (.iconst 1, 1) := dk_4 (dk_at dksX2_isFairOn_0 8 rfl rfl)
theorem dX2_isFairOn_9 : decode cX2_isFairOn 9 = .ok (.goto 4, 3) := dk_167 0 4 (dk_at dksX2_isFairOn_0 9 rfl rfl)
theorem dX2_isFairOn_12 : decode cX2_isFairOn 12 = .ok (.iconst 0, 1) := dk_3 (dk_at dksX2_isFairOn_0 12 rfl rfl)
theorem dX2_isFairOn_13 : decode cX2_isFairOn 13 = .ok (.ireturn, 1) := dk_172 (dk_at dksX2_isFairOn_0 13 rfl rfl)
abbrev cX2_hairsAgain : ByteArray := prog_14_method_25_code
def yX2_hairsAgain : MethodName := ⟨RX2, "hairsAgain", "()I"⟩
def dkwX2_hairsAgain_2 : List UInt8 := [96, 172]
abbrev dktX2_hairsAgain_2 : List UInt8 := dkwX2_hairsAgain_2 ++ []
def dkwX2_hairsAgain_1 : List UInt8 := [180, 0, 34, 180, 0, 231, 184, 0, 235, 96, 42, 180, 0, 55, 96, 42, 180, 0, 58, 96, 42, 180, 0, 61]
abbrev dktX2_hairsAgain_1 : List UInt8 := dkwX2_hairsAgain_1 ++ dktX2_hairsAgain_2
def dkwX2_hairsAgain_0 : List UInt8 := [42, 180, 0, 27, 180, 0, 231, 184, 0, 235, 42, 180, 0, 31, 180, 0, 231, 184, 0, 235, 96, 42]
abbrev dktX2_hairsAgain_0 : List UInt8 := dkwX2_hairsAgain_0 ++ dktX2_hairsAgain_1
theorem dksX2_hairsAgain_0 : cX2_hairsAgain.data.toList.drop 0 = dktX2_hairsAgain_0 := by decide +kernel
theorem dksX2_hairsAgain_1 : cX2_hairsAgain.data.toList.drop 22 = dktX2_hairsAgain_1 := dk_seg dksX2_hairsAgain_0 22 rfl rfl
theorem dksX2_hairsAgain_2 : cX2_hairsAgain.data.toList.drop 46 = dktX2_hairsAgain_2 := dk_seg dksX2_hairsAgain_1 24 rfl rfl
theorem dX2_hairsAgain_0 : decode cX2_hairsAgain 0 = .ok (.aload_n 0, 1) := dk_42 (dk_at dksX2_hairsAgain_0 0 rfl rfl)
theorem dX2_hairsAgain_1 : decode cX2_hairsAgain 1 = .ok (.getfield 27, 3) := dk_180 0 27 (dk_at dksX2_hairsAgain_0 1 rfl rfl)
theorem dX2_hairsAgain_4 : decode cX2_hairsAgain 4 = .ok (.getfield 231, 3) := dk_180 0 231 (dk_at dksX2_hairsAgain_0 4 rfl rfl)
theorem dX2_hairsAgain_7 : decode cX2_hairsAgain 7 = .ok (.invokestatic 235, 3) := dk_184 0 235 (dk_at dksX2_hairsAgain_0 7 rfl rfl)
theorem dX2_hairsAgain_10 : decode cX2_hairsAgain 10 = .ok (.aload_n 0, 1) := dk_42 (dk_at dksX2_hairsAgain_0 10 rfl rfl)
theorem dX2_hairsAgain_11 : decode cX2_hairsAgain 11 = .ok (.getfield 31, 3) := dk_180 0 31 (dk_at dksX2_hairsAgain_0 11 rfl rfl)
theorem dX2_hairsAgain_14 : decode cX2_hairsAgain 14 = .ok (.getfield 231, 3) := dk_180 0 231 (dk_at dksX2_hairsAgain_0 14 rfl rfl)
theorem dX2_hairsAgain_17 : decode cX2_hairsAgain 17 = .ok (.invokestatic 235, 3) := dk_184 0 235 (dk_at dksX2_hairsAgain_0 17 rfl rfl)
theorem dX2_hairsAgain_20 : decode cX2_hairsAgain 20 = .ok (.iadd, 1) := dk_96 (dk_at dksX2_hairsAgain_0 20 rfl rfl)
theorem dX2_hairsAgain_21 : decode cX2_hairsAgain 21 = .ok (.aload_n 0, 1) := dk_42 (dk_at dksX2_hairsAgain_0 21 rfl rfl)
theorem dX2_hairsAgain_22 : decode cX2_hairsAgain 22 = .ok (.getfield 34, 3) := dk_180 0 34 (dk_at dksX2_hairsAgain_1 0 rfl rfl)
theorem dX2_hairsAgain_25 : decode cX2_hairsAgain 25 = .ok (.getfield 231, 3) := dk_180 0 231 (dk_at dksX2_hairsAgain_1 3 rfl rfl)
theorem dX2_hairsAgain_28 : decode cX2_hairsAgain 28 = .ok (.invokestatic 235, 3) := dk_184 0 235 (dk_at dksX2_hairsAgain_1 6 rfl rfl)
theorem dX2_hairsAgain_31 : decode cX2_hairsAgain 31 = .ok (.iadd, 1) := dk_96 (dk_at dksX2_hairsAgain_1 9 rfl rfl)
theorem dX2_hairsAgain_32 : decode cX2_hairsAgain 32 = .ok (.aload_n 0, 1) := dk_42 (dk_at dksX2_hairsAgain_1 10 rfl rfl)
theorem dX2_hairsAgain_33 : decode cX2_hairsAgain 33 = .ok (.getfield 55, 3) := dk_180 0 55 (dk_at dksX2_hairsAgain_1 11 rfl rfl)
theorem dX2_hairsAgain_36 : decode cX2_hairsAgain 36 = .ok (.iadd, 1) := dk_96 (dk_at dksX2_hairsAgain_1 14 rfl rfl)
theorem dX2_hairsAgain_37 : decode cX2_hairsAgain 37 = .ok (.aload_n 0, 1) := dk_42 (dk_at dksX2_hairsAgain_1 15 rfl rfl)
theorem dX2_hairsAgain_38 : decode cX2_hairsAgain 38 = .ok (.getfield 58, 3) := dk_180 0 58 (dk_at dksX2_hairsAgain_1 16 rfl rfl)
theorem dX2_hairsAgain_41 : decode cX2_hairsAgain 41 = .ok (.iadd, 1) := dk_96 (dk_at dksX2_hairsAgain_1 19 rfl rfl)
theorem dX2_hairsAgain_42 : decode cX2_hairsAgain 42 = .ok (.aload_n 0, 1) := dk_42 (dk_at dksX2_hairsAgain_1 20 rfl rfl)
theorem dX2_hairsAgain_43 : decode cX2_hairsAgain 43 = .ok (.getfield 61, 3) := dk_180 0 61 (dk_at dksX2_hairsAgain_1 21 rfl rfl)
theorem dX2_hairsAgain_46 : decode cX2_hairsAgain 46 = .ok (.iadd, 1) := dk_96 (dk_at dksX2_hairsAgain_2 0 rfl rfl)
theorem dX2_hairsAgain_47 : decode cX2_hairsAgain 47 = .ok (.ireturn, 1) := dk_172 (dk_at dksX2_hairsAgain_2 1 rfl rfl)
abbrev cX2_init_2 : ByteArray := prog_14_method_2_code
def yX2_init_2 : MethodName := ⟨RX2, "<init>", "(LHorsehairTrade$Trade;)V"⟩
def dkwX2_init_2_8 : List UInt8 := [180, 0, 64, 181, 0, 64, 42, 43, 180, 0, 67, 181, 0, 67, 177]
abbrev dktX2_init_2_8 : List UInt8 := dkwX2_init_2_8 ++ []
def dkwX2_init_2_7 : List UInt8 := [180, 0, 58, 181, 0, 58, 42, 43, 180, 0, 61, 181, 0, 61, 42, 43, 180, 0, 18, 181, 0, 18, 42, 43]
abbrev dktX2_init_2_7 : List UInt8 := dkwX2_init_2_7 ++ dktX2_init_2_8
def dkwX2_init_2_6 : List UInt8 := [180, 0, 49, 181, 0, 49, 42, 43, 180, 0, 52, 181, 0, 52, 42, 43, 180, 0, 55, 181, 0, 55, 42, 43]
abbrev dktX2_init_2_6 : List UInt8 := dkwX2_init_2_6 ++ dktX2_init_2_7
def dkwX2_init_2_5 : List UInt8 := [3, 16, 10, 184, 0, 43, 43, 180, 0, 15, 3, 42, 180, 0, 15, 3, 16, 6, 184, 0, 43, 42, 43]
abbrev dktX2_init_2_5 : List UInt8 := dkwX2_init_2_5 ++ dktX2_init_2_6
def dkwX2_init_2_4 : List UInt8 := [42, 187, 0, 22, 89, 43, 180, 0, 37, 183, 0, 40, 181, 0, 37, 43, 180, 0, 9, 3, 42, 180, 0, 9]
abbrev dktX2_init_2_4 : List UInt8 := dkwX2_init_2_4 ++ dktX2_init_2_5
def dkwX2_init_2_3 : List UInt8 := [180, 0, 31, 183, 0, 40, 181, 0, 31, 42, 187, 0, 22, 89, 43, 180, 0, 34, 183, 0, 40, 181, 0, 34]
abbrev dktX2_init_2_3 : List UInt8 := dkwX2_init_2_3 ++ dktX2_init_2_4
def dkwX2_init_2_2 : List UInt8 := [181, 0, 18, 42, 187, 0, 22, 89, 43, 180, 0, 27, 183, 0, 40, 181, 0, 27, 42, 187, 0, 22, 89, 43]
abbrev dktX2_init_2_2 : List UInt8 := dkwX2_init_2_2 ++ dktX2_init_2_3
def dkwX2_init_2_1 : List UInt8 := [79, 89, 5, 4, 79, 89, 6, 4, 79, 89, 7, 4, 79, 89, 8, 4, 79, 181, 0, 15, 42, 16, 40]
abbrev dktX2_init_2_1 : List UInt8 := dkwX2_init_2_1 ++ dktX2_init_2_2
def dkwX2_init_2_0 : List UInt8 := [42, 183, 0, 3, 42, 16, 10, 188, 10, 181, 0, 9, 42, 16, 6, 188, 10, 89, 3, 4, 79, 89, 4, 4]
abbrev dktX2_init_2_0 : List UInt8 := dkwX2_init_2_0 ++ dktX2_init_2_1
theorem dksX2_init_2_0 : cX2_init_2.data.toList.drop 0 = dktX2_init_2_0 := by decide +kernel
theorem dksX2_init_2_1 : cX2_init_2.data.toList.drop 24 = dktX2_init_2_1 := dk_seg dksX2_init_2_0 24 rfl rfl
theorem dksX2_init_2_2 : cX2_init_2.data.toList.drop 47 = dktX2_init_2_2 := dk_seg dksX2_init_2_1 23 rfl rfl
theorem dksX2_init_2_3 : cX2_init_2.data.toList.drop 71 = dktX2_init_2_3 := dk_seg dksX2_init_2_2 24 rfl rfl
theorem dksX2_init_2_4 : cX2_init_2.data.toList.drop 95 = dktX2_init_2_4 := dk_seg dksX2_init_2_3 24 rfl rfl
theorem dksX2_init_2_5 : cX2_init_2.data.toList.drop 119 = dktX2_init_2_5 := dk_seg dksX2_init_2_4 24 rfl rfl
theorem dksX2_init_2_6 : cX2_init_2.data.toList.drop 142 = dktX2_init_2_6 := dk_seg dksX2_init_2_5 23 rfl rfl
theorem dksX2_init_2_7 : cX2_init_2.data.toList.drop 166 = dktX2_init_2_7 := dk_seg dksX2_init_2_6 24 rfl rfl
theorem dksX2_init_2_8 : cX2_init_2.data.toList.drop 190 = dktX2_init_2_8 := dk_seg dksX2_init_2_7 24 rfl rfl
theorem dX2_init_2_0 : decode cX2_init_2 0 = .ok (.aload_n 0, 1) := dk_42 (dk_at dksX2_init_2_0 0 rfl rfl)
theorem dX2_init_2_1 : decode cX2_init_2 1 = .ok (.invokespecial 3, 3) := dk_183 0 3 (dk_at dksX2_init_2_0 1 rfl rfl)
theorem dX2_init_2_4 : decode cX2_init_2 4 = .ok (.aload_n 0, 1) := dk_42 (dk_at dksX2_init_2_0 4 rfl rfl)
theorem dX2_init_2_5 : decode cX2_init_2 5 = .ok (.bipush 10, 2) := dk_16 10 (dk_at dksX2_init_2_0 5 rfl rfl)
theorem dX2_init_2_7 : decode cX2_init_2 7 = .ok (.newarray .int, 2) := dk_188_10 (dk_at dksX2_init_2_0 7 rfl rfl)
theorem dX2_init_2_9 : decode cX2_init_2 9 = .ok (.putfield 9, 3) := dk_181 0 9 (dk_at dksX2_init_2_0 9 rfl rfl)
theorem dX2_init_2_12 : decode cX2_init_2 12 = .ok (.aload_n 0, 1) := dk_42 (dk_at dksX2_init_2_0 12 rfl rfl)
theorem dX2_init_2_13 : decode cX2_init_2 13 = .ok (.bipush 6, 2) := dk_16 6 (dk_at dksX2_init_2_0 13 rfl rfl)
theorem dX2_init_2_15 : decode cX2_init_2 15 = .ok (.newarray .int, 2) := dk_188_10 (dk_at dksX2_init_2_0 15 rfl rfl)
theorem dX2_init_2_17 : decode cX2_init_2 17 = .ok (.dup, 1) := dk_89 (dk_at dksX2_init_2_0 17 rfl rfl)
theorem dX2_init_2_18 : decode cX2_init_2 18 = .ok (.iconst 0, 1) := dk_3 (dk_at dksX2_init_2_0 18 rfl rfl)
theorem dX2_init_2_19 : decode cX2_init_2 19 = .ok (.iconst 1, 1) := dk_4 (dk_at dksX2_init_2_0 19 rfl rfl)
theorem dX2_init_2_20 : decode cX2_init_2 20 = .ok (.iastore, 1) := dk_79 (dk_at dksX2_init_2_0 20 rfl rfl)
theorem dX2_init_2_21 : decode cX2_init_2 21 = .ok (.dup, 1) := dk_89 (dk_at dksX2_init_2_0 21 rfl rfl)
theorem dX2_init_2_22 : decode cX2_init_2 22 = .ok (.iconst 1, 1) := dk_4 (dk_at dksX2_init_2_0 22 rfl rfl)
theorem dX2_init_2_23 : decode cX2_init_2 23 = .ok (.iconst 1, 1) := dk_4 (dk_at dksX2_init_2_0 23 rfl rfl)
theorem dX2_init_2_24 : decode cX2_init_2 24 = .ok (.iastore, 1) := dk_79 (dk_at dksX2_init_2_1 0 rfl rfl)
theorem dX2_init_2_25 : decode cX2_init_2 25 = .ok (.dup, 1) := dk_89 (dk_at dksX2_init_2_1 1 rfl rfl)
theorem dX2_init_2_26 : decode cX2_init_2 26 = .ok (.iconst 2, 1) := dk_5 (dk_at dksX2_init_2_1 2 rfl rfl)
theorem dX2_init_2_27 : decode cX2_init_2 27 = .ok (.iconst 1, 1) := dk_4 (dk_at dksX2_init_2_1 3 rfl rfl)
theorem dX2_init_2_28 : decode cX2_init_2 28 = .ok (.iastore, 1) := dk_79 (dk_at dksX2_init_2_1 4 rfl rfl)
theorem dX2_init_2_29 : decode cX2_init_2 29 = .ok (.dup, 1) := dk_89 (dk_at dksX2_init_2_1 5 rfl rfl)
theorem dX2_init_2_30 : decode cX2_init_2 30 = .ok (.iconst 3, 1) := dk_6 (dk_at dksX2_init_2_1 6 rfl rfl)
theorem dX2_init_2_31 : decode cX2_init_2 31 = .ok (.iconst 1, 1) := dk_4 (dk_at dksX2_init_2_1 7 rfl rfl)
theorem dX2_init_2_32 : decode cX2_init_2 32 = .ok (.iastore, 1) := dk_79 (dk_at dksX2_init_2_1 8 rfl rfl)
theorem dX2_init_2_33 : decode cX2_init_2 33 = .ok (.dup, 1) := dk_89 (dk_at dksX2_init_2_1 9 rfl rfl)
theorem dX2_init_2_34 : decode cX2_init_2 34 = .ok (.iconst 4, 1) := dk_7 (dk_at dksX2_init_2_1 10 rfl rfl)
theorem dX2_init_2_35 : decode cX2_init_2 35 = .ok (.iconst 1, 1) := dk_4 (dk_at dksX2_init_2_1 11 rfl rfl)
theorem dX2_init_2_36 : decode cX2_init_2 36 = .ok (.iastore, 1) := dk_79 (dk_at dksX2_init_2_1 12 rfl rfl)
theorem dX2_init_2_37 : decode cX2_init_2 37 = .ok (.dup, 1) := dk_89 (dk_at dksX2_init_2_1 13 rfl rfl)
theorem dX2_init_2_38 : decode cX2_init_2 38 = .ok (.iconst 5, 1) := dk_8 (dk_at dksX2_init_2_1 14 rfl rfl)
theorem dX2_init_2_39 : decode cX2_init_2 39 = .ok (.iconst 1, 1) := dk_4 (dk_at dksX2_init_2_1 15 rfl rfl)
theorem dX2_init_2_40 : decode cX2_init_2 40 = .ok (.iastore, 1) := dk_79 (dk_at dksX2_init_2_1 16 rfl rfl)
theorem dX2_init_2_41 : decode cX2_init_2 41 = .ok (.putfield 15, 3) := dk_181 0 15 (dk_at dksX2_init_2_1 17 rfl rfl)
theorem dX2_init_2_44 : decode cX2_init_2 44 = .ok (.aload_n 0, 1) := dk_42 (dk_at dksX2_init_2_1 20 rfl rfl)
theorem dX2_init_2_45 : decode cX2_init_2 45 = .ok (.bipush 40, 2) := dk_16 40 (dk_at dksX2_init_2_1 21 rfl rfl)
theorem dX2_init_2_47 : decode cX2_init_2 47 = .ok (.putfield 18, 3) := dk_181 0 18 (dk_at dksX2_init_2_2 0 rfl rfl)
theorem dX2_init_2_50 : decode cX2_init_2 50 = .ok (.aload_n 0, 1) := dk_42 (dk_at dksX2_init_2_2 3 rfl rfl)
theorem dX2_init_2_51 : decode cX2_init_2 51 = .ok (.new 22, 3) := dk_187 0 22 (dk_at dksX2_init_2_2 4 rfl rfl)
theorem dX2_init_2_54 : decode cX2_init_2 54 = .ok (.dup, 1) := dk_89 (dk_at dksX2_init_2_2 7 rfl rfl)
theorem dX2_init_2_55 : decode cX2_init_2 55 = .ok (.aload_n 1, 1) := dk_43 (dk_at dksX2_init_2_2 8 rfl rfl)
theorem dX2_init_2_56 : decode cX2_init_2 56 = .ok (.getfield 27, 3) := dk_180 0 27 (dk_at dksX2_init_2_2 9 rfl rfl)
theorem dX2_init_2_59 : decode cX2_init_2 59 = .ok (.invokespecial 40, 3) := dk_183 0 40 (dk_at dksX2_init_2_2 12 rfl rfl)
theorem dX2_init_2_62 : decode cX2_init_2 62 = .ok (.putfield 27, 3) := dk_181 0 27 (dk_at dksX2_init_2_2 15 rfl rfl)
theorem dX2_init_2_65 : decode cX2_init_2 65 = .ok (.aload_n 0, 1) := dk_42 (dk_at dksX2_init_2_2 18 rfl rfl)
theorem dX2_init_2_66 : decode cX2_init_2 66 = .ok (.new 22, 3) := dk_187 0 22 (dk_at dksX2_init_2_2 19 rfl rfl)
theorem dX2_init_2_69 : decode cX2_init_2 69 = .ok (.dup, 1) := dk_89 (dk_at dksX2_init_2_2 22 rfl rfl)
theorem dX2_init_2_70 : decode cX2_init_2 70 = .ok (.aload_n 1, 1) := dk_43 (dk_at dksX2_init_2_2 23 rfl rfl)
theorem dX2_init_2_71 : decode cX2_init_2 71 = .ok (.getfield 31, 3) := dk_180 0 31 (dk_at dksX2_init_2_3 0 rfl rfl)
theorem dX2_init_2_74 : decode cX2_init_2 74 = .ok (.invokespecial 40, 3) := dk_183 0 40 (dk_at dksX2_init_2_3 3 rfl rfl)
theorem dX2_init_2_77 : decode cX2_init_2 77 = .ok (.putfield 31, 3) := dk_181 0 31 (dk_at dksX2_init_2_3 6 rfl rfl)
theorem dX2_init_2_80 : decode cX2_init_2 80 = .ok (.aload_n 0, 1) := dk_42 (dk_at dksX2_init_2_3 9 rfl rfl)
theorem dX2_init_2_81 : decode cX2_init_2 81 = .ok (.new 22, 3) := dk_187 0 22 (dk_at dksX2_init_2_3 10 rfl rfl)
theorem dX2_init_2_84 : decode cX2_init_2 84 = .ok (.dup, 1) := dk_89 (dk_at dksX2_init_2_3 13 rfl rfl)
theorem dX2_init_2_85 : decode cX2_init_2 85 = .ok (.aload_n 1, 1) := dk_43 (dk_at dksX2_init_2_3 14 rfl rfl)
theorem dX2_init_2_86 : decode cX2_init_2 86 = .ok (.getfield 34, 3) := dk_180 0 34 (dk_at dksX2_init_2_3 15 rfl rfl)
theorem dX2_init_2_89 : decode cX2_init_2 89 = .ok (.invokespecial 40, 3) := dk_183 0 40 (dk_at dksX2_init_2_3 18 rfl rfl)
theorem dX2_init_2_92 : decode cX2_init_2 92 = .ok (.putfield 34, 3) := dk_181 0 34 (dk_at dksX2_init_2_3 21 rfl rfl)
theorem dX2_init_2_95 : decode cX2_init_2 95 = .ok (.aload_n 0, 1) := dk_42 (dk_at dksX2_init_2_4 0 rfl rfl)
theorem dX2_init_2_96 : decode cX2_init_2 96 = .ok (.new 22, 3) := dk_187 0 22 (dk_at dksX2_init_2_4 1 rfl rfl)
theorem dX2_init_2_99 : decode cX2_init_2 99 = .ok (.dup, 1) := dk_89 (dk_at dksX2_init_2_4 4 rfl rfl)
theorem dX2_init_2_100 : decode cX2_init_2 100 = .ok (.aload_n 1, 1) := dk_43 (dk_at dksX2_init_2_4 5 rfl rfl)
theorem dX2_init_2_101 : decode cX2_init_2 101 = .ok (.getfield 37, 3) := dk_180 0 37 (dk_at dksX2_init_2_4 6 rfl rfl)
theorem dX2_init_2_104 : decode cX2_init_2 104 = .ok (.invokespecial 40, 3) := dk_183 0 40 (dk_at dksX2_init_2_4 9 rfl rfl)
theorem dX2_init_2_107 : decode cX2_init_2 107 = .ok (.putfield 37, 3) := dk_181 0 37 (dk_at dksX2_init_2_4 12 rfl rfl)
theorem dX2_init_2_110 : decode cX2_init_2 110 = .ok (.aload_n 1, 1) := dk_43 (dk_at dksX2_init_2_4 15 rfl rfl)
theorem dX2_init_2_111 : decode cX2_init_2 111 = .ok (.getfield 9, 3) := dk_180 0 9 (dk_at dksX2_init_2_4 16 rfl rfl)
theorem dX2_init_2_114 : decode cX2_init_2 114 = .ok (.iconst 0, 1) := dk_3 (dk_at dksX2_init_2_4 19 rfl rfl)
theorem dX2_init_2_115 : decode cX2_init_2 115 = .ok (.aload_n 0, 1) := dk_42 (dk_at dksX2_init_2_4 20 rfl rfl)
theorem dX2_init_2_116 : decode cX2_init_2 116 = .ok (.getfield 9, 3) := dk_180 0 9 (dk_at dksX2_init_2_4 21 rfl rfl)
theorem dX2_init_2_119 : decode cX2_init_2 119 = .ok (.iconst 0, 1) := dk_3 (dk_at dksX2_init_2_5 0 rfl rfl)
theorem dX2_init_2_120 : decode cX2_init_2 120 = .ok (.bipush 10, 2) := dk_16 10 (dk_at dksX2_init_2_5 1 rfl rfl)
theorem dX2_init_2_122 : decode cX2_init_2 122 = .ok (.invokestatic 43, 3) := dk_184 0 43 (dk_at dksX2_init_2_5 3 rfl rfl)
theorem dX2_init_2_125 : decode cX2_init_2 125 = .ok (.aload_n 1, 1) := dk_43 (dk_at dksX2_init_2_5 6 rfl rfl)
theorem dX2_init_2_126 : decode cX2_init_2 126 = .ok (.getfield 15, 3) := dk_180 0 15 (dk_at dksX2_init_2_5 7 rfl rfl)
theorem dX2_init_2_129 : decode cX2_init_2 129 = .ok (.iconst 0, 1) := dk_3 (dk_at dksX2_init_2_5 10 rfl rfl)
theorem dX2_init_2_130 : decode cX2_init_2 130 = .ok (.aload_n 0, 1) := dk_42 (dk_at dksX2_init_2_5 11 rfl rfl)
theorem dX2_init_2_131 : decode cX2_init_2 131 = .ok (.getfield 15, 3) := dk_180 0 15 (dk_at dksX2_init_2_5 12 rfl rfl)
theorem dX2_init_2_134 : decode cX2_init_2 134 = .ok (.iconst 0, 1) := dk_3 (dk_at dksX2_init_2_5 15 rfl rfl)
theorem dX2_init_2_135 : decode cX2_init_2 135 = .ok (.bipush 6, 2) := dk_16 6 (dk_at dksX2_init_2_5 16 rfl rfl)
theorem dX2_init_2_137 : decode cX2_init_2 137 = .ok (.invokestatic 43, 3) := dk_184 0 43 (dk_at dksX2_init_2_5 18 rfl rfl)
theorem dX2_init_2_140 : decode cX2_init_2 140 = .ok (.aload_n 0, 1) := dk_42 (dk_at dksX2_init_2_5 21 rfl rfl)
theorem dX2_init_2_141 : decode cX2_init_2 141 = .ok (.aload_n 1, 1) := dk_43 (dk_at dksX2_init_2_5 22 rfl rfl)
theorem dX2_init_2_142 : decode cX2_init_2 142 = .ok (.getfield 49, 3) := dk_180 0 49 (dk_at dksX2_init_2_6 0 rfl rfl)
theorem dX2_init_2_145 : decode cX2_init_2 145 = .ok (.putfield 49, 3) := dk_181 0 49 (dk_at dksX2_init_2_6 3 rfl rfl)
theorem dX2_init_2_148 : decode cX2_init_2 148 = .ok (.aload_n 0, 1) := dk_42 (dk_at dksX2_init_2_6 6 rfl rfl)
theorem dX2_init_2_149 : decode cX2_init_2 149 = .ok (.aload_n 1, 1) := dk_43 (dk_at dksX2_init_2_6 7 rfl rfl)
theorem dX2_init_2_150 : decode cX2_init_2 150 = .ok (.getfield 52, 3) := dk_180 0 52 (dk_at dksX2_init_2_6 8 rfl rfl)
theorem dX2_init_2_153 : decode cX2_init_2 153 = .ok (.putfield 52, 3) := dk_181 0 52 (dk_at dksX2_init_2_6 11 rfl rfl)
theorem dX2_init_2_156 : decode cX2_init_2 156 = .ok (.aload_n 0, 1) := dk_42 (dk_at dksX2_init_2_6 14 rfl rfl)
theorem dX2_init_2_157 : decode cX2_init_2 157 = .ok (.aload_n 1, 1) := dk_43 (dk_at dksX2_init_2_6 15 rfl rfl)
theorem dX2_init_2_158 : decode cX2_init_2 158 = .ok (.getfield 55, 3) := dk_180 0 55 (dk_at dksX2_init_2_6 16 rfl rfl)
theorem dX2_init_2_161 : decode cX2_init_2 161 = .ok (.putfield 55, 3) := dk_181 0 55 (dk_at dksX2_init_2_6 19 rfl rfl)
theorem dX2_init_2_164 : decode cX2_init_2 164 = .ok (.aload_n 0, 1) := dk_42 (dk_at dksX2_init_2_6 22 rfl rfl)
theorem dX2_init_2_165 : decode cX2_init_2 165 = .ok (.aload_n 1, 1) := dk_43 (dk_at dksX2_init_2_6 23 rfl rfl)
theorem dX2_init_2_166 : decode cX2_init_2 166 = .ok (.getfield 58, 3) := dk_180 0 58 (dk_at dksX2_init_2_7 0 rfl rfl)
theorem dX2_init_2_169 : decode cX2_init_2 169 = .ok (.putfield 58, 3) := dk_181 0 58 (dk_at dksX2_init_2_7 3 rfl rfl)
theorem dX2_init_2_172 : decode cX2_init_2 172 = .ok (.aload_n 0, 1) := dk_42 (dk_at dksX2_init_2_7 6 rfl rfl)
theorem dX2_init_2_173 : decode cX2_init_2 173 = .ok (.aload_n 1, 1) := dk_43 (dk_at dksX2_init_2_7 7 rfl rfl)
theorem dX2_init_2_174 : decode cX2_init_2 174 = .ok (.getfield 61, 3) := dk_180 0 61 (dk_at dksX2_init_2_7 8 rfl rfl)
theorem dX2_init_2_177 : decode cX2_init_2 177 = .ok (.putfield 61, 3) := dk_181 0 61 (dk_at dksX2_init_2_7 11 rfl rfl)
theorem dX2_init_2_180 : decode cX2_init_2 180 = .ok (.aload_n 0, 1) := dk_42 (dk_at dksX2_init_2_7 14 rfl rfl)
theorem dX2_init_2_181 : decode cX2_init_2 181 = .ok (.aload_n 1, 1) := dk_43 (dk_at dksX2_init_2_7 15 rfl rfl)
theorem dX2_init_2_182 : decode cX2_init_2 182 = .ok (.getfield 18, 3) := dk_180 0 18 (dk_at dksX2_init_2_7 16 rfl rfl)
theorem dX2_init_2_185 : decode cX2_init_2 185 = .ok (.putfield 18, 3) := dk_181 0 18 (dk_at dksX2_init_2_7 19 rfl rfl)
theorem dX2_init_2_188 : decode cX2_init_2 188 = .ok (.aload_n 0, 1) := dk_42 (dk_at dksX2_init_2_7 22 rfl rfl)
theorem dX2_init_2_189 : decode cX2_init_2 189 = .ok (.aload_n 1, 1) := dk_43 (dk_at dksX2_init_2_7 23 rfl rfl)
theorem dX2_init_2_190 : decode cX2_init_2 190 = .ok (.getfield 64, 3) := dk_180 0 64 (dk_at dksX2_init_2_8 0 rfl rfl)
theorem dX2_init_2_193 : decode cX2_init_2 193 = .ok (.putfield 64, 3) := dk_181 0 64 (dk_at dksX2_init_2_8 3 rfl rfl)
theorem dX2_init_2_196 : decode cX2_init_2 196 = .ok (.aload_n 0, 1) := dk_42 (dk_at dksX2_init_2_8 6 rfl rfl)
theorem dX2_init_2_197 : decode cX2_init_2 197 = .ok (.aload_n 1, 1) := dk_43 (dk_at dksX2_init_2_8 7 rfl rfl)
theorem dX2_init_2_198 : decode cX2_init_2 198 = .ok (.getfield 67, 3) := dk_180 0 67 (dk_at dksX2_init_2_8 8 rfl rfl)
theorem dX2_init_2_201 : decode cX2_init_2 201 = .ok (.putfield 67, 3) := dk_181 0 67 (dk_at dksX2_init_2_8 11 rfl rfl)
theorem dX2_init_2_204 : decode cX2_init_2 204 = .ok (.return_, 1) := dk_177 (dk_at dksX2_init_2_8 14 rfl rfl)
abbrev cX2_buys : ByteArray := prog_14_method_7_code
def yX2_buys : MethodName := ⟨RX2, "buys", "(III)I"⟩
def dkwX2_buys_3 : List UInt8 := [183, 0, 102, 182, 0, 104, 172]
abbrev dktX2_buys_3 : List UInt8 := dkwX2_buys_3 ++ []
def dkwX2_buys_2 : List UInt8 := [182, 0, 97, 42, 89, 180, 0, 52, 29, 96, 181, 0, 52, 42, 180, 0, 27, 187, 0, 100, 89, 27, 28, 29]
abbrev dktX2_buys_2 : List UInt8 := dkwX2_buys_2 ++ dktX2_buys_3
def dkwX2_buys_1 : List UInt8 := [180, 0, 27, 182, 0, 94, 42, 29, 16, 99, 96, 16, 100, 108, 27, 154, 0, 7, 4, 167, 0, 4, 3, 96]
abbrev dktX2_buys_1 : List UInt8 := dkwX2_buys_1 ++ dktX2_buys_2
def dkwX2_buys_0 : List UInt8 := [27, 3, 5, 184, 0, 90, 28, 16, 40, 16, 100, 184, 0, 90, 29, 16, 50, 17, 3, 132, 184, 0, 90, 42]
abbrev dktX2_buys_0 : List UInt8 := dkwX2_buys_0 ++ dktX2_buys_1
theorem dksX2_buys_0 : cX2_buys.data.toList.drop 0 = dktX2_buys_0 := by decide +kernel
theorem dksX2_buys_1 : cX2_buys.data.toList.drop 24 = dktX2_buys_1 := dk_seg dksX2_buys_0 24 rfl rfl
theorem dksX2_buys_2 : cX2_buys.data.toList.drop 48 = dktX2_buys_2 := dk_seg dksX2_buys_1 24 rfl rfl
theorem dksX2_buys_3 : cX2_buys.data.toList.drop 72 = dktX2_buys_3 := dk_seg dksX2_buys_2 24 rfl rfl
theorem dX2_buys_0 : decode cX2_buys 0 = .ok (.iload_n 1, 1) := dk_27 (dk_at dksX2_buys_0 0 rfl rfl)
theorem dX2_buys_1 : decode cX2_buys 1 = .ok (.iconst 0, 1) := dk_3 (dk_at dksX2_buys_0 1 rfl rfl)
theorem dX2_buys_2 : decode cX2_buys 2 = .ok (.iconst 2, 1) := dk_5 (dk_at dksX2_buys_0 2 rfl rfl)
theorem dX2_buys_3 : decode cX2_buys 3 = .ok (.invokestatic 90, 3) := dk_184 0 90 (dk_at dksX2_buys_0 3 rfl rfl)
theorem dX2_buys_6 : decode cX2_buys 6 = .ok (.iload_n 2, 1) := dk_28 (dk_at dksX2_buys_0 6 rfl rfl)
theorem dX2_buys_7 : decode cX2_buys 7 = .ok (.bipush 40, 2) := dk_16 40 (dk_at dksX2_buys_0 7 rfl rfl)
theorem dX2_buys_9 : decode cX2_buys 9 = .ok (.bipush 100, 2) := dk_16 100 (dk_at dksX2_buys_0 9 rfl rfl)
theorem dX2_buys_11 : decode cX2_buys 11 = .ok (.invokestatic 90, 3) := dk_184 0 90 (dk_at dksX2_buys_0 11 rfl rfl)
theorem dX2_buys_14 : decode cX2_buys 14 = .ok (.iload_n 3, 1) := dk_29 (dk_at dksX2_buys_0 14 rfl rfl)
theorem dX2_buys_15 : decode cX2_buys 15 = .ok (.bipush 50, 2) := dk_16 50 (dk_at dksX2_buys_0 15 rfl rfl)
theorem dX2_buys_17 : decode cX2_buys 17 = .ok (.sipush 900, 3) := dk_17 3 132 (dk_at dksX2_buys_0 17 rfl rfl)
theorem dX2_buys_20 : decode cX2_buys 20 = .ok (.invokestatic 90, 3) := dk_184 0 90 (dk_at dksX2_buys_0 20 rfl rfl)
theorem dX2_buys_23 : decode cX2_buys 23 = .ok (.aload_n 0, 1) := dk_42 (dk_at dksX2_buys_0 23 rfl rfl)
theorem dX2_buys_24 : decode cX2_buys 24 = .ok (.getfield 27, 3) := dk_180 0 27 (dk_at dksX2_buys_1 0 rfl rfl)
theorem dX2_buys_27 : decode cX2_buys 27 = .ok (.invokevirtual 94, 3) := dk_182 0 94 (dk_at dksX2_buys_1 3 rfl rfl)
theorem dX2_buys_30 : decode cX2_buys 30 = .ok (.aload_n 0, 1) := dk_42 (dk_at dksX2_buys_1 6 rfl rfl)
theorem dX2_buys_31 : decode cX2_buys 31 = .ok (.iload_n 3, 1) := dk_29 (dk_at dksX2_buys_1 7 rfl rfl)
theorem dX2_buys_32 : decode cX2_buys 32 = .ok (.bipush 99, 2) := dk_16 99 (dk_at dksX2_buys_1 8 rfl rfl)
theorem dX2_buys_34 : decode cX2_buys 34 = .ok (.iadd, 1) := dk_96 (dk_at dksX2_buys_1 10 rfl rfl)
theorem dX2_buys_35 : decode cX2_buys 35 = .ok (.bipush 100, 2) := dk_16 100 (dk_at dksX2_buys_1 11 rfl rfl)
theorem dX2_buys_37 : decode cX2_buys 37 = .ok (.idiv, 1) := dk_108 (dk_at dksX2_buys_1 13 rfl rfl)
theorem dX2_buys_38 : decode cX2_buys 38 = .ok (.iload_n 1, 1) := dk_27 (dk_at dksX2_buys_1 14 rfl rfl)
theorem dX2_buys_39 : decode cX2_buys 39 = .ok (.ifCond .ne 7, 3) := dk_154 0 7 (dk_at dksX2_buys_1 15 rfl rfl)
theorem dX2_buys_42 : decode cX2_buys 42 = .ok (.iconst 1, 1) := dk_4 (dk_at dksX2_buys_1 18 rfl rfl)
theorem dX2_buys_43 : decode cX2_buys 43 = .ok (.goto 4, 3) := dk_167 0 4 (dk_at dksX2_buys_1 19 rfl rfl)
theorem dX2_buys_46 : decode cX2_buys 46 = .ok (.iconst 0, 1) := dk_3 (dk_at dksX2_buys_1 22 rfl rfl)
theorem dX2_buys_47 : decode cX2_buys 47 = .ok (.iadd, 1) := dk_96 (dk_at dksX2_buys_1 23 rfl rfl)
theorem dX2_buys_48 : decode cX2_buys 48 = .ok (.invokevirtual 97, 3) := dk_182 0 97 (dk_at dksX2_buys_2 0 rfl rfl)
theorem dX2_buys_51 : decode cX2_buys 51 = .ok (.aload_n 0, 1) := dk_42 (dk_at dksX2_buys_2 3 rfl rfl)
theorem dX2_buys_52 : decode cX2_buys 52 = .ok (.dup, 1) := dk_89 (dk_at dksX2_buys_2 4 rfl rfl)
theorem dX2_buys_53 : decode cX2_buys 53 = .ok (.getfield 52, 3) := dk_180 0 52 (dk_at dksX2_buys_2 5 rfl rfl)
theorem dX2_buys_56 : decode cX2_buys 56 = .ok (.iload_n 3, 1) := dk_29 (dk_at dksX2_buys_2 8 rfl rfl)
theorem dX2_buys_57 : decode cX2_buys 57 = .ok (.iadd, 1) := dk_96 (dk_at dksX2_buys_2 9 rfl rfl)
theorem dX2_buys_58 : decode cX2_buys 58 = .ok (.putfield 52, 3) := dk_181 0 52 (dk_at dksX2_buys_2 10 rfl rfl)
theorem dX2_buys_61 : decode cX2_buys 61 = .ok (.aload_n 0, 1) := dk_42 (dk_at dksX2_buys_2 13 rfl rfl)
theorem dX2_buys_62 : decode cX2_buys 62 = .ok (.getfield 27, 3) := dk_180 0 27 (dk_at dksX2_buys_2 14 rfl rfl)
theorem dX2_buys_65 : decode cX2_buys 65 = .ok (.new 100, 3) := dk_187 0 100 (dk_at dksX2_buys_2 17 rfl rfl)
theorem dX2_buys_68 : decode cX2_buys 68 = .ok (.dup, 1) := dk_89 (dk_at dksX2_buys_2 20 rfl rfl)
theorem dX2_buys_69 : decode cX2_buys 69 = .ok (.iload_n 1, 1) := dk_27 (dk_at dksX2_buys_2 21 rfl rfl)
theorem dX2_buys_70 : decode cX2_buys 70 = .ok (.iload_n 2, 1) := dk_28 (dk_at dksX2_buys_2 22 rfl rfl)
theorem dX2_buys_71 : decode cX2_buys 71 = .ok (.iload_n 3, 1) := dk_29 (dk_at dksX2_buys_2 23 rfl rfl)
theorem dX2_buys_72 : decode cX2_buys 72 = .ok (.invokespecial 102, 3) := dk_183 0 102 (dk_at dksX2_buys_3 0 rfl rfl)
theorem dX2_buys_75 : decode cX2_buys 75 = .ok (.invokevirtual 104, 3) := dk_182 0 104 (dk_at dksX2_buys_3 3 rfl rfl)
theorem dX2_buys_78 : decode cX2_buys 78 = .ok (.ireturn, 1) := dk_172 (dk_at dksX2_buys_3 6 rfl rfl)
abbrev cX2_pays : ByteArray := prog_14_method_5_code
def yX2_pays : MethodName := ⟨RX2, "pays", "(I)V"⟩
def dkwX2_pays_1 : List UInt8 := [89, 180, 0, 18, 27, 100, 181, 0, 18, 177]
abbrev dktX2_pays_1 : List UInt8 := dkwX2_pays_1 ++ []
def dkwX2_pays_0 : List UInt8 := [42, 180, 0, 18, 27, 161, 0, 7, 4, 167, 0, 4, 3, 7, 27, 42, 180, 0, 18, 100, 184, 0, 74, 42]
abbrev dktX2_pays_0 : List UInt8 := dkwX2_pays_0 ++ dktX2_pays_1
theorem dksX2_pays_0 : cX2_pays.data.toList.drop 0 = dktX2_pays_0 := by decide +kernel
theorem dksX2_pays_1 : cX2_pays.data.toList.drop 24 = dktX2_pays_1 := dk_seg dksX2_pays_0 24 rfl rfl
theorem dX2_pays_0 : decode cX2_pays 0 = .ok (.aload_n 0, 1) := dk_42 (dk_at dksX2_pays_0 0 rfl rfl)
theorem dX2_pays_1 : decode cX2_pays 1 = .ok (.getfield 18, 3) := dk_180 0 18 (dk_at dksX2_pays_0 1 rfl rfl)
theorem dX2_pays_4 : decode cX2_pays 4 = .ok (.iload_n 1, 1) := dk_27 (dk_at dksX2_pays_0 4 rfl rfl)
theorem dX2_pays_5 : decode cX2_pays 5 = .ok (.if_icmp .lt 7, 3) := dk_161 0 7 (dk_at dksX2_pays_0 5 rfl rfl)
theorem dX2_pays_8 : decode cX2_pays 8 = .ok (.iconst 1, 1) := dk_4 (dk_at dksX2_pays_0 8 rfl rfl)
theorem dX2_pays_9 : decode cX2_pays 9 = .ok (.goto 4, 3) := dk_167 0 4 (dk_at dksX2_pays_0 9 rfl rfl)
theorem dX2_pays_12 : decode cX2_pays 12 = .ok (.iconst 0, 1) := dk_3 (dk_at dksX2_pays_0 12 rfl rfl)
theorem dX2_pays_13 : decode cX2_pays 13 = .ok (.iconst 4, 1) := dk_7 (dk_at dksX2_pays_0 13 rfl rfl)
theorem dX2_pays_14 : decode cX2_pays 14 = .ok (.iload_n 1, 1) := dk_27 (dk_at dksX2_pays_0 14 rfl rfl)
theorem dX2_pays_15 : decode cX2_pays 15 = .ok (.aload_n 0, 1) := dk_42 (dk_at dksX2_pays_0 15 rfl rfl)
theorem dX2_pays_16 : decode cX2_pays 16 = .ok (.getfield 18, 3) := dk_180 0 18 (dk_at dksX2_pays_0 16 rfl rfl)
theorem dX2_pays_19 : decode cX2_pays 19 = .ok (.isub, 1) := dk_100 (dk_at dksX2_pays_0 19 rfl rfl)
theorem dX2_pays_20 : decode cX2_pays 20 = .ok (.invokestatic 74, 3) := dk_184 0 74 (dk_at dksX2_pays_0 20 rfl rfl)
theorem dX2_pays_23 : decode cX2_pays 23 = .ok (.aload_n 0, 1) := dk_42 (dk_at dksX2_pays_0 23 rfl rfl)
theorem dX2_pays_24 : decode cX2_pays 24 = .ok (.dup, 1) := dk_89 (dk_at dksX2_pays_1 0 rfl rfl)
theorem dX2_pays_25 : decode cX2_pays 25 = .ok (.getfield 18, 3) := dk_180 0 18 (dk_at dksX2_pays_1 1 rfl rfl)
theorem dX2_pays_28 : decode cX2_pays 28 = .ok (.iload_n 1, 1) := dk_27 (dk_at dksX2_pays_1 4 rfl rfl)
theorem dX2_pays_29 : decode cX2_pays 29 = .ok (.isub, 1) := dk_100 (dk_at dksX2_pays_1 5 rfl rfl)
theorem dX2_pays_30 : decode cX2_pays 30 = .ok (.putfield 18, 3) := dk_181 0 18 (dk_at dksX2_pays_1 6 rfl rfl)
theorem dX2_pays_33 : decode cX2_pays 33 = .ok (.return_, 1) := dk_177 (dk_at dksX2_pays_1 9 rfl rfl)
abbrev cX2_combs : ByteArray := prog_14_method_8_code
def yX2_combs : MethodName := ⟨RX2, "combs", "(II)I"⟩
def dkwX2_combs_4 : List UInt8 := [182, 0, 104, 172]
abbrev dktX2_combs_4 : List UInt8 := dkwX2_combs_4 ++ []
def dkwX2_combs_3 : List UInt8 := [181, 0, 116, 42, 180, 0, 31, 187, 0, 82, 89, 28, 21, 4, 45, 180, 0, 118, 27, 183, 0, 121]
abbrev dktX2_combs_3 : List UInt8 := dkwX2_combs_3 ++ dktX2_combs_4
def dkwX2_combs_2 : List UInt8 := [45, 182, 0, 112, 54, 4, 45, 89, 180, 0, 111, 28, 100, 181, 0, 111, 45, 89, 180, 0, 116, 4, 96]
abbrev dktX2_combs_2 : List UInt8 := dkwX2_combs_2 ++ dktX2_combs_3
def dkwX2_combs_1 : List UInt8 := [28, 161, 0, 7, 4, 167, 0, 4, 3, 8, 45, 180, 0, 111, 184, 0, 74, 42, 180, 0, 31, 182, 0, 94]
abbrev dktX2_combs_1 : List UInt8 := dkwX2_combs_1 ++ dktX2_combs_2
def dkwX2_combs_0 : List UInt8 := [42, 180, 0, 27, 27, 182, 0, 108, 192, 0, 100, 78, 28, 4, 17, 2, 88, 184, 0, 90, 45, 180, 0, 111]
abbrev dktX2_combs_0 : List UInt8 := dkwX2_combs_0 ++ dktX2_combs_1
theorem dksX2_combs_0 : cX2_combs.data.toList.drop 0 = dktX2_combs_0 := by decide +kernel
theorem dksX2_combs_1 : cX2_combs.data.toList.drop 24 = dktX2_combs_1 := dk_seg dksX2_combs_0 24 rfl rfl
theorem dksX2_combs_2 : cX2_combs.data.toList.drop 48 = dktX2_combs_2 := dk_seg dksX2_combs_1 24 rfl rfl
theorem dksX2_combs_3 : cX2_combs.data.toList.drop 71 = dktX2_combs_3 := dk_seg dksX2_combs_2 23 rfl rfl
theorem dksX2_combs_4 : cX2_combs.data.toList.drop 93 = dktX2_combs_4 := dk_seg dksX2_combs_3 22 rfl rfl
theorem dX2_combs_0 : decode cX2_combs 0 = .ok (.aload_n 0, 1) := dk_42 (dk_at dksX2_combs_0 0 rfl rfl)
theorem dX2_combs_1 : decode cX2_combs 1 = .ok (.getfield 27, 3) := dk_180 0 27 (dk_at dksX2_combs_0 1 rfl rfl)
theorem dX2_combs_4 : decode cX2_combs 4 = .ok (.iload_n 1, 1) := dk_27 (dk_at dksX2_combs_0 4 rfl rfl)
theorem dX2_combs_5 : decode cX2_combs 5 = .ok (.invokevirtual 108, 3) := dk_182 0 108 (dk_at dksX2_combs_0 5 rfl rfl)
theorem dX2_combs_8 : decode cX2_combs 8 = .ok (.checkcast 100, 3) := dk_192 0 100 (dk_at dksX2_combs_0 8 rfl rfl)
theorem dX2_combs_11 : decode cX2_combs 11 = .ok (.astore_n 3, 1) := dk_78 (dk_at dksX2_combs_0 11 rfl rfl)
theorem dX2_combs_12 : decode cX2_combs 12 = .ok (.iload_n 2, 1) := dk_28 (dk_at dksX2_combs_0 12 rfl rfl)
theorem dX2_combs_13 : decode cX2_combs 13 = .ok (.iconst 1, 1) := dk_4 (dk_at dksX2_combs_0 13 rfl rfl)
theorem dX2_combs_14 : decode cX2_combs 14 = .ok (.sipush 600, 3) := dk_17 2 88 (dk_at dksX2_combs_0 14 rfl rfl)
theorem dX2_combs_17 : decode cX2_combs 17 = .ok (.invokestatic 90, 3) := dk_184 0 90 (dk_at dksX2_combs_0 17 rfl rfl)
theorem dX2_combs_20 : decode cX2_combs 20 = .ok (.aload_n 3, 1) := dk_45 (dk_at dksX2_combs_0 20 rfl rfl)
theorem dX2_combs_21 : decode cX2_combs 21 = .ok (.getfield 111, 3) := dk_180 0 111 (dk_at dksX2_combs_0 21 rfl rfl)
theorem dX2_combs_24 : decode cX2_combs 24 = .ok (.iload_n 2, 1) := dk_28 (dk_at dksX2_combs_1 0 rfl rfl)
theorem dX2_combs_25 : decode cX2_combs 25 = .ok (.if_icmp .lt 7, 3) := dk_161 0 7 (dk_at dksX2_combs_1 1 rfl rfl)
theorem dX2_combs_28 : decode cX2_combs 28 = .ok (.iconst 1, 1) := dk_4 (dk_at dksX2_combs_1 4 rfl rfl)
theorem dX2_combs_29 : decode cX2_combs 29 = .ok (.goto 4, 3) := dk_167 0 4 (dk_at dksX2_combs_1 5 rfl rfl)
theorem dX2_combs_32 : decode cX2_combs 32 = .ok (.iconst 0, 1) := dk_3 (dk_at dksX2_combs_1 8 rfl rfl)
theorem dX2_combs_33 : decode cX2_combs 33 = .ok (.iconst 5, 1) := dk_8 (dk_at dksX2_combs_1 9 rfl rfl)
theorem dX2_combs_34 : decode cX2_combs 34 = .ok (.aload_n 3, 1) := dk_45 (dk_at dksX2_combs_1 10 rfl rfl)
theorem dX2_combs_35 : decode cX2_combs 35 = .ok (.getfield 111, 3) := dk_180 0 111 (dk_at dksX2_combs_1 11 rfl rfl)
theorem dX2_combs_38 : decode cX2_combs 38 = .ok (.invokestatic 74, 3) := dk_184 0 74 (dk_at dksX2_combs_1 14 rfl rfl)
theorem dX2_combs_41 : decode cX2_combs 41 = .ok (.aload_n 0, 1) := dk_42 (dk_at dksX2_combs_1 17 rfl rfl)
theorem dX2_combs_42 : decode cX2_combs 42 = .ok (.getfield 31, 3) := dk_180 0 31 (dk_at dksX2_combs_1 18 rfl rfl)
theorem dX2_combs_45 : decode cX2_combs 45 = .ok (.invokevirtual 94, 3) := dk_182 0 94 (dk_at dksX2_combs_1 21 rfl rfl)
theorem dX2_combs_48 : decode cX2_combs 48 = .ok (.aload_n 3, 1) := dk_45 (dk_at dksX2_combs_2 0 rfl rfl)
theorem dX2_combs_49 : decode cX2_combs 49 = .ok (.invokevirtual 112, 3) := dk_182 0 112 (dk_at dksX2_combs_2 1 rfl rfl)
theorem dX2_combs_52 : decode cX2_combs 52 = .ok (.istore 4, 2) := dk_54 4 (dk_at dksX2_combs_2 4 rfl rfl)
theorem dX2_combs_54 : decode cX2_combs 54 = .ok (.aload_n 3, 1) := dk_45 (dk_at dksX2_combs_2 6 rfl rfl)
theorem dX2_combs_55 : decode cX2_combs 55 = .ok (.dup, 1) := dk_89 (dk_at dksX2_combs_2 7 rfl rfl)
theorem dX2_combs_56 : decode cX2_combs 56 = .ok (.getfield 111, 3) := dk_180 0 111 (dk_at dksX2_combs_2 8 rfl rfl)
theorem dX2_combs_59 : decode cX2_combs 59 = .ok (.iload_n 2, 1) := dk_28 (dk_at dksX2_combs_2 11 rfl rfl)
theorem dX2_combs_60 : decode cX2_combs 60 = .ok (.isub, 1) := dk_100 (dk_at dksX2_combs_2 12 rfl rfl)
theorem dX2_combs_61 : decode cX2_combs 61 = .ok (.putfield 111, 3) := dk_181 0 111 (dk_at dksX2_combs_2 13 rfl rfl)
theorem dX2_combs_64 : decode cX2_combs 64 = .ok (.aload_n 3, 1) := dk_45 (dk_at dksX2_combs_2 16 rfl rfl)
theorem dX2_combs_65 : decode cX2_combs 65 = .ok (.dup, 1) := dk_89 (dk_at dksX2_combs_2 17 rfl rfl)
theorem dX2_combs_66 : decode cX2_combs 66 = .ok (.getfield 116, 3) := dk_180 0 116 (dk_at dksX2_combs_2 18 rfl rfl)
theorem dX2_combs_69 : decode cX2_combs 69 = .ok (.iconst 1, 1) := dk_4 (dk_at dksX2_combs_2 21 rfl rfl)
theorem dX2_combs_70 : decode cX2_combs 70 = .ok (.iadd, 1) := dk_96 (dk_at dksX2_combs_2 22 rfl rfl)
theorem dX2_combs_71 : decode cX2_combs 71 = .ok (.putfield 116, 3) := dk_181 0 116 (dk_at dksX2_combs_3 0 rfl rfl)
theorem dX2_combs_74 : decode cX2_combs 74 = .ok (.aload_n 0, 1) := dk_42 (dk_at dksX2_combs_3 3 rfl rfl)
theorem dX2_combs_75 : decode cX2_combs 75 = .ok (.getfield 31, 3) := dk_180 0 31 (dk_at dksX2_combs_3 4 rfl rfl)
theorem dX2_combs_78 : decode cX2_combs 78 = .ok (.new 82, 3) := dk_187 0 82 (dk_at dksX2_combs_3 7 rfl rfl)
theorem dX2_combs_81 : decode cX2_combs 81 = .ok (.dup, 1) := dk_89 (dk_at dksX2_combs_3 10 rfl rfl)
theorem dX2_combs_82 : decode cX2_combs 82 = .ok (.iload_n 2, 1) := dk_28 (dk_at dksX2_combs_3 11 rfl rfl)
theorem dX2_combs_83 : decode cX2_combs 83 = .ok (.iload 4, 2) := dk_21 4 (dk_at dksX2_combs_3 12 rfl rfl)
theorem dX2_combs_85 : decode cX2_combs 85 = .ok (.aload_n 3, 1) := dk_45 (dk_at dksX2_combs_3 14 rfl rfl)
theorem dX2_combs_86 : decode cX2_combs 86 = .ok (.getfield 118, 3) := dk_180 0 118 (dk_at dksX2_combs_3 15 rfl rfl)
theorem dX2_combs_89 : decode cX2_combs 89 = .ok (.iload_n 1, 1) := dk_27 (dk_at dksX2_combs_3 18 rfl rfl)
theorem dX2_combs_90 : decode cX2_combs 90 = .ok (.invokespecial 121, 3) := dk_183 0 121 (dk_at dksX2_combs_3 19 rfl rfl)
theorem dX2_combs_93 : decode cX2_combs 93 = .ok (.invokevirtual 104, 3) := dk_182 0 104 (dk_at dksX2_combs_4 0 rfl rfl)
theorem dX2_combs_96 : decode cX2_combs 96 = .ok (.ireturn, 1) := dk_172 (dk_at dksX2_combs_4 3 rfl rfl)
abbrev cX2_ties : ByteArray := prog_14_method_9_code
def yX2_ties : MethodName := ⟨RX2, "ties", "(II)I"⟩
def dkwX2_ties_5 : List UInt8 := [184, 0, 130, 182, 0, 87, 27, 28, 184, 0, 124, 172]
abbrev dktX2_ties_5 : List UInt8 := dkwX2_ties_5 ++ []
def dkwX2_ties_4 : List UInt8 := [180, 0, 31, 27, 28, 184, 0, 130, 182, 0, 78, 192, 0, 82, 182, 0, 133, 42, 180, 0, 31, 27, 28]
abbrev dktX2_ties_4 : List UInt8 := dkwX2_ties_4 ++ dktX2_ties_5
def dkwX2_ties_3 : List UInt8 := [184, 0, 74, 42, 180, 0, 31, 27, 28, 184, 0, 124, 182, 0, 78, 192, 0, 82, 58, 6, 25, 6, 42]
abbrev dktX2_ties_3 : List UInt8 := dkwX2_ties_3 ++ dktX2_ties_4
def dkwX2_ties_2 : List UInt8 := [180, 0, 84, 96, 17, 2, 88, 100, 54, 5, 21, 5, 157, 0, 7, 4, 167, 0, 4, 3, 16, 7, 21, 5]
abbrev dktX2_ties_2 : List UInt8 := dkwX2_ties_2 ++ dktX2_ties_3
def dkwX2_ties_1 : List UInt8 := [58, 4, 27, 28, 159, 0, 7, 4, 167, 0, 4, 3, 16, 8, 27, 184, 0, 74, 45, 180, 0, 84, 25, 4]
abbrev dktX2_ties_1 : List UInt8 := dkwX2_ties_1 ++ dktX2_ties_2
def dkwX2_ties_0 : List UInt8 := [42, 180, 0, 31, 27, 182, 0, 108, 192, 0, 82, 78, 42, 180, 0, 31, 28, 182, 0, 108, 192, 0, 82]
abbrev dktX2_ties_0 : List UInt8 := dkwX2_ties_0 ++ dktX2_ties_1
theorem dksX2_ties_0 : cX2_ties.data.toList.drop 0 = dktX2_ties_0 := by decide +kernel
theorem dksX2_ties_1 : cX2_ties.data.toList.drop 23 = dktX2_ties_1 := dk_seg dksX2_ties_0 23 rfl rfl
theorem dksX2_ties_2 : cX2_ties.data.toList.drop 47 = dktX2_ties_2 := dk_seg dksX2_ties_1 24 rfl rfl
theorem dksX2_ties_3 : cX2_ties.data.toList.drop 71 = dktX2_ties_3 := dk_seg dksX2_ties_2 24 rfl rfl
theorem dksX2_ties_4 : cX2_ties.data.toList.drop 94 = dktX2_ties_4 := dk_seg dksX2_ties_3 23 rfl rfl
theorem dksX2_ties_5 : cX2_ties.data.toList.drop 117 = dktX2_ties_5 := dk_seg dksX2_ties_4 23 rfl rfl
theorem dX2_ties_0 : decode cX2_ties 0 = .ok (.aload_n 0, 1) := dk_42 (dk_at dksX2_ties_0 0 rfl rfl)
theorem dX2_ties_1 : decode cX2_ties 1 = .ok (.getfield 31, 3) := dk_180 0 31 (dk_at dksX2_ties_0 1 rfl rfl)
theorem dX2_ties_4 : decode cX2_ties 4 = .ok (.iload_n 1, 1) := dk_27 (dk_at dksX2_ties_0 4 rfl rfl)
theorem dX2_ties_5 : decode cX2_ties 5 = .ok (.invokevirtual 108, 3) := dk_182 0 108 (dk_at dksX2_ties_0 5 rfl rfl)
theorem dX2_ties_8 : decode cX2_ties 8 = .ok (.checkcast 82, 3) := dk_192 0 82 (dk_at dksX2_ties_0 8 rfl rfl)
theorem dX2_ties_11 : decode cX2_ties 11 = .ok (.astore_n 3, 1) := dk_78 (dk_at dksX2_ties_0 11 rfl rfl)
theorem dX2_ties_12 : decode cX2_ties 12 = .ok (.aload_n 0, 1) := dk_42 (dk_at dksX2_ties_0 12 rfl rfl)
theorem dX2_ties_13 : decode cX2_ties 13 = .ok (.getfield 31, 3) := dk_180 0 31 (dk_at dksX2_ties_0 13 rfl rfl)
theorem dX2_ties_16 : decode cX2_ties 16 = .ok (.iload_n 2, 1) := dk_28 (dk_at dksX2_ties_0 16 rfl rfl)
theorem dX2_ties_17 : decode cX2_ties 17 = .ok (.invokevirtual 108, 3) := dk_182 0 108 (dk_at dksX2_ties_0 17 rfl rfl)
theorem dX2_ties_20 : decode cX2_ties 20 = .ok (.checkcast 82, 3) := dk_192 0 82 (dk_at dksX2_ties_0 20 rfl rfl)
theorem dX2_ties_23 : decode cX2_ties 23 = .ok (.astore 4, 2) := dk_58 4 (dk_at dksX2_ties_1 0 rfl rfl)
theorem dX2_ties_25 : decode cX2_ties 25 = .ok (.iload_n 1, 1) := dk_27 (dk_at dksX2_ties_1 2 rfl rfl)
theorem dX2_ties_26 : decode cX2_ties 26 = .ok (.iload_n 2, 1) := dk_28 (dk_at dksX2_ties_1 3 rfl rfl)
theorem dX2_ties_27 : decode cX2_ties 27 = .ok (.if_icmp .eq 7, 3) := dk_159 0 7 (dk_at dksX2_ties_1 4 rfl rfl)
theorem dX2_ties_30 : decode cX2_ties 30 = .ok (.iconst 1, 1) := dk_4 (dk_at dksX2_ties_1 7 rfl rfl)
theorem dX2_ties_31 : decode cX2_ties 31 = .ok (.goto 4, 3) := dk_167 0 4 (dk_at dksX2_ties_1 8 rfl rfl)
theorem dX2_ties_34 : decode cX2_ties 34 = .ok (.iconst 0, 1) := dk_3 (dk_at dksX2_ties_1 11 rfl rfl)
theorem dX2_ties_35 : decode cX2_ties 35 = .ok (.bipush 8, 2) := dk_16 8 (dk_at dksX2_ties_1 12 rfl rfl)
theorem dX2_ties_37 : decode cX2_ties 37 = .ok (.iload_n 1, 1) := dk_27 (dk_at dksX2_ties_1 14 rfl rfl)
theorem dX2_ties_38 : decode cX2_ties 38 = .ok (.invokestatic 74, 3) := dk_184 0 74 (dk_at dksX2_ties_1 15 rfl rfl)
theorem dX2_ties_41 : decode cX2_ties 41 = .ok (.aload_n 3, 1) := dk_45 (dk_at dksX2_ties_1 18 rfl rfl)
theorem dX2_ties_42 : decode cX2_ties 42 = .ok (.getfield 84, 3) := dk_180 0 84 (dk_at dksX2_ties_1 19 rfl rfl)
theorem dX2_ties_45 : decode cX2_ties 45 = .ok (.aload 4, 2) := dk_25 4 (dk_at dksX2_ties_1 22 rfl rfl)
theorem dX2_ties_47 : decode cX2_ties 47 = .ok (.getfield 84, 3) := dk_180 0 84 (dk_at dksX2_ties_2 0 rfl rfl)
theorem dX2_ties_50 : decode cX2_ties 50 = .ok (.iadd, 1) := dk_96 (dk_at dksX2_ties_2 3 rfl rfl)
theorem dX2_ties_51 : decode cX2_ties 51 = .ok (.sipush 600, 3) := dk_17 2 88 (dk_at dksX2_ties_2 4 rfl rfl)
theorem dX2_ties_54 : decode cX2_ties 54 = .ok (.isub, 1) := dk_100 (dk_at dksX2_ties_2 7 rfl rfl)
theorem dX2_ties_55 : decode cX2_ties 55 = .ok (.istore 5, 2) := dk_54 5 (dk_at dksX2_ties_2 8 rfl rfl)
theorem dX2_ties_57 : decode cX2_ties 57 = .ok (.iload 5, 2) := dk_21 5 (dk_at dksX2_ties_2 10 rfl rfl)
theorem dX2_ties_59 : decode cX2_ties 59 = .ok (.ifCond .gt 7, 3) := dk_157 0 7 (dk_at dksX2_ties_2 12 rfl rfl)
theorem dX2_ties_62 : decode cX2_ties 62 = .ok (.iconst 1, 1) := dk_4 (dk_at dksX2_ties_2 15 rfl rfl)
theorem dX2_ties_63 : decode cX2_ties 63 = .ok (.goto 4, 3) := dk_167 0 4 (dk_at dksX2_ties_2 16 rfl rfl)
theorem dX2_ties_66 : decode cX2_ties 66 = .ok (.iconst 0, 1) := dk_3 (dk_at dksX2_ties_2 19 rfl rfl)
theorem dX2_ties_67 : decode cX2_ties 67 = .ok (.bipush 7, 2) := dk_16 7 (dk_at dksX2_ties_2 20 rfl rfl)
theorem dX2_ties_69 : decode cX2_ties 69 = .ok (.iload 5, 2) := dk_21 5 (dk_at dksX2_ties_2 22 rfl rfl)
theorem dX2_ties_71 : decode cX2_ties 71 = .ok (.invokestatic 74, 3) := dk_184 0 74 (dk_at dksX2_ties_3 0 rfl rfl)
theorem dX2_ties_74 : decode cX2_ties 74 = .ok (.aload_n 0, 1) := dk_42 (dk_at dksX2_ties_3 3 rfl rfl)
theorem dX2_ties_75 : decode cX2_ties 75 = .ok (.getfield 31, 3) := dk_180 0 31 (dk_at dksX2_ties_3 4 rfl rfl)
theorem dX2_ties_78 : decode cX2_ties 78 = .ok (.iload_n 1, 1) := dk_27 (dk_at dksX2_ties_3 7 rfl rfl)
theorem dX2_ties_79 : decode cX2_ties 79 = .ok (.iload_n 2, 1) := dk_28 (dk_at dksX2_ties_3 8 rfl rfl)
theorem dX2_ties_80 : decode cX2_ties 80 = .ok (.invokestatic 124, 3) := dk_184 0 124 (dk_at dksX2_ties_3 9 rfl rfl)
theorem dX2_ties_83 : decode cX2_ties 83 = .ok (.invokevirtual 78, 3) := dk_182 0 78 (dk_at dksX2_ties_3 12 rfl rfl)
theorem dX2_ties_86 : decode cX2_ties 86 = .ok (.checkcast 82, 3) := dk_192 0 82 (dk_at dksX2_ties_3 15 rfl rfl)
theorem dX2_ties_89 : decode cX2_ties 89 = .ok (.astore 6, 2) := dk_58 6 (dk_at dksX2_ties_3 18 rfl rfl)
theorem dX2_ties_91 : decode cX2_ties 91 = .ok (.aload 6, 2) := dk_25 6 (dk_at dksX2_ties_3 20 rfl rfl)
theorem dX2_ties_93 : decode cX2_ties 93 = .ok (.aload_n 0, 1) := dk_42 (dk_at dksX2_ties_3 22 rfl rfl)
theorem dX2_ties_94 : decode cX2_ties 94 = .ok (.getfield 31, 3) := dk_180 0 31 (dk_at dksX2_ties_4 0 rfl rfl)
theorem dX2_ties_97 : decode cX2_ties 97 = .ok (.iload_n 1, 1) := dk_27 (dk_at dksX2_ties_4 3 rfl rfl)
theorem dX2_ties_98 : decode cX2_ties 98 = .ok (.iload_n 2, 1) := dk_28 (dk_at dksX2_ties_4 4 rfl rfl)
theorem dX2_ties_99 : decode cX2_ties 99 = .ok (.invokestatic 130, 3) := dk_184 0 130 (dk_at dksX2_ties_4 5 rfl rfl)
theorem dX2_ties_102 : decode cX2_ties 102 = .ok (.invokevirtual 78, 3) := dk_182 0 78 (dk_at dksX2_ties_4 8 rfl rfl)
theorem dX2_ties_105 : decode cX2_ties 105 = .ok (.checkcast 82, 3) := dk_192 0 82 (dk_at dksX2_ties_4 11 rfl rfl)
theorem dX2_ties_108 : decode cX2_ties 108 = .ok (.invokevirtual 133, 3) := dk_182 0 133 (dk_at dksX2_ties_4 14 rfl rfl)
theorem dX2_ties_111 : decode cX2_ties 111 = .ok (.aload_n 0, 1) := dk_42 (dk_at dksX2_ties_4 17 rfl rfl)
theorem dX2_ties_112 : decode cX2_ties 112 = .ok (.getfield 31, 3) := dk_180 0 31 (dk_at dksX2_ties_4 18 rfl rfl)
theorem dX2_ties_115 : decode cX2_ties 115 = .ok (.iload_n 1, 1) := dk_27 (dk_at dksX2_ties_4 21 rfl rfl)
theorem dX2_ties_116 : decode cX2_ties 116 = .ok (.iload_n 2, 1) := dk_28 (dk_at dksX2_ties_4 22 rfl rfl)
theorem dX2_ties_117 : decode cX2_ties 117 = .ok (.invokestatic 130, 3) := dk_184 0 130 (dk_at dksX2_ties_5 0 rfl rfl)
theorem dX2_ties_120 : decode cX2_ties 120 = .ok (.invokevirtual 87, 3) := dk_182 0 87 (dk_at dksX2_ties_5 3 rfl rfl)
theorem dX2_ties_123 : decode cX2_ties 123 = .ok (.iload_n 1, 1) := dk_27 (dk_at dksX2_ties_5 6 rfl rfl)
theorem dX2_ties_124 : decode cX2_ties 124 = .ok (.iload_n 2, 1) := dk_28 (dk_at dksX2_ties_5 7 rfl rfl)
theorem dX2_ties_125 : decode cX2_ties 125 = .ok (.invokestatic 124, 3) := dk_184 0 124 (dk_at dksX2_ties_5 8 rfl rfl)
theorem dX2_ties_128 : decode cX2_ties 128 = .ok (.ireturn, 1) := dk_172 (dk_at dksX2_ties_5 11 rfl rfl)
abbrev cX2_weaves : ByteArray := prog_14_method_10_code
def yX2_weaves : MethodName := ⟨RX2, "weaves", "(II)I"⟩
def dkwX2_weaves_5 : List UInt8 := [28, 92, 46, 4, 96, 79, 42, 180, 0, 9, 28, 46, 172]
abbrev dktX2_weaves_5 : List UInt8 := dkwX2_weaves_5 ++ []
def dkwX2_weaves_4 : List UInt8 := [16, 40, 28, 104, 182, 0, 140, 42, 89, 180, 0, 55, 16, 40, 28, 104, 96, 181, 0, 55, 42, 180, 0, 9]
abbrev dktX2_weaves_4 : List UInt8 := dkwX2_weaves_4 ++ dktX2_weaves_5
def dkwX2_weaves_3 : List UInt8 := [180, 0, 9, 28, 46, 16, 20, 162, 0, 7, 4, 167, 0, 4, 3, 4, 16, 20, 184, 0, 74, 42, 27]
abbrev dktX2_weaves_3 : List UInt8 := dkwX2_weaves_3 ++ dktX2_weaves_4
def dkwX2_weaves_2 : List UInt8 := [180, 0, 84, 16, 40, 28, 104, 161, 0, 7, 4, 167, 0, 4, 3, 8, 45, 180, 0, 84, 184, 0, 74, 42]
abbrev dktX2_weaves_2 : List UInt8 := dkwX2_weaves_2 ++ dktX2_weaves_3
def dkwX2_weaves_1 : List UInt8 := [16, 50, 161, 0, 7, 4, 167, 0, 4, 3, 16, 6, 16, 50, 45, 180, 0, 137, 100, 184, 0, 74, 45]
abbrev dktX2_weaves_1 : List UInt8 := dkwX2_weaves_1 ++ dktX2_weaves_2
def dkwX2_weaves_0 : List UInt8 := [42, 180, 0, 31, 27, 182, 0, 108, 192, 0, 82, 78, 28, 4, 16, 9, 184, 0, 90, 45, 180, 0, 137]
abbrev dktX2_weaves_0 : List UInt8 := dkwX2_weaves_0 ++ dktX2_weaves_1
theorem dksX2_weaves_0 : cX2_weaves.data.toList.drop 0 = dktX2_weaves_0 := by decide +kernel
theorem dksX2_weaves_1 : cX2_weaves.data.toList.drop 23 = dktX2_weaves_1 := dk_seg dksX2_weaves_0 23 rfl rfl
theorem dksX2_weaves_2 : cX2_weaves.data.toList.drop 46 = dktX2_weaves_2 := dk_seg dksX2_weaves_1 23 rfl rfl
theorem dksX2_weaves_3 : cX2_weaves.data.toList.drop 70 = dktX2_weaves_3 := dk_seg dksX2_weaves_2 24 rfl rfl
theorem dksX2_weaves_4 : cX2_weaves.data.toList.drop 93 = dktX2_weaves_4 := dk_seg dksX2_weaves_3 23 rfl rfl
theorem dksX2_weaves_5 : cX2_weaves.data.toList.drop 117 = dktX2_weaves_5 := dk_seg dksX2_weaves_4 24 rfl rfl
theorem dX2_weaves_0 : decode cX2_weaves 0 = .ok (.aload_n 0, 1) := dk_42 (dk_at dksX2_weaves_0 0 rfl rfl)
theorem dX2_weaves_1 : decode cX2_weaves 1 = .ok (.getfield 31, 3) := dk_180 0 31 (dk_at dksX2_weaves_0 1 rfl rfl)
theorem dX2_weaves_4 : decode cX2_weaves 4 = .ok (.iload_n 1, 1) := dk_27 (dk_at dksX2_weaves_0 4 rfl rfl)
theorem dX2_weaves_5 : decode cX2_weaves 5 = .ok (.invokevirtual 108, 3) := dk_182 0 108 (dk_at dksX2_weaves_0 5 rfl rfl)
theorem dX2_weaves_8 : decode cX2_weaves 8 = .ok (.checkcast 82, 3) := dk_192 0 82 (dk_at dksX2_weaves_0 8 rfl rfl)
theorem dX2_weaves_11 : decode cX2_weaves 11 = .ok (.astore_n 3, 1) := dk_78 (dk_at dksX2_weaves_0 11 rfl rfl)
theorem dX2_weaves_12 : decode cX2_weaves 12 = .ok (.iload_n 2, 1) := dk_28 (dk_at dksX2_weaves_0 12 rfl rfl)
theorem dX2_weaves_13 : decode cX2_weaves 13 = .ok (.iconst 1, 1) := dk_4 (dk_at dksX2_weaves_0 13 rfl rfl)
theorem dX2_weaves_14 : decode cX2_weaves 14 = .ok (.bipush 9, 2) := dk_16 9 (dk_at dksX2_weaves_0 14 rfl rfl)
theorem dX2_weaves_16 : decode cX2_weaves 16 = .ok (.invokestatic 90, 3) := dk_184 0 90 (dk_at dksX2_weaves_0 16 rfl rfl)
theorem dX2_weaves_19 : decode cX2_weaves 19 = .ok (.aload_n 3, 1) := dk_45 (dk_at dksX2_weaves_0 19 rfl rfl)
theorem dX2_weaves_20 : decode cX2_weaves 20 = .ok (.getfield 137, 3) := dk_180 0 137 (dk_at dksX2_weaves_0 20 rfl rfl)
theorem dX2_weaves_23 : decode cX2_weaves 23 = .ok (.bipush 50, 2) := dk_16 50 (dk_at dksX2_weaves_1 0 rfl rfl)
theorem dX2_weaves_25 : decode cX2_weaves 25 = .ok (.if_icmp .lt 7, 3) := dk_161 0 7 (dk_at dksX2_weaves_1 2 rfl rfl)
theorem dX2_weaves_28 : decode cX2_weaves 28 = .ok (.iconst 1, 1) := dk_4 (dk_at dksX2_weaves_1 5 rfl rfl)
theorem dX2_weaves_29 : decode cX2_weaves 29 = .ok (.goto 4, 3) := dk_167 0 4 (dk_at dksX2_weaves_1 6 rfl rfl)
theorem dX2_weaves_32 : decode cX2_weaves 32 = .ok (.iconst 0, 1) := dk_3 (dk_at dksX2_weaves_1 9 rfl rfl)
theorem dX2_weaves_33 : decode cX2_weaves 33 = .ok (.bipush 6, 2) := dk_16 6 (dk_at dksX2_weaves_1 10 rfl rfl)
theorem dX2_weaves_35 : decode cX2_weaves 35 = .ok (.bipush 50, 2) := dk_16 50 (dk_at dksX2_weaves_1 12 rfl rfl)
theorem dX2_weaves_37 : decode cX2_weaves 37 = .ok (.aload_n 3, 1) := dk_45 (dk_at dksX2_weaves_1 14 rfl rfl)
theorem dX2_weaves_38 : decode cX2_weaves 38 = .ok (.getfield 137, 3) := dk_180 0 137 (dk_at dksX2_weaves_1 15 rfl rfl)
theorem dX2_weaves_41 : decode cX2_weaves 41 = .ok (.isub, 1) := dk_100 (dk_at dksX2_weaves_1 18 rfl rfl)
theorem dX2_weaves_42 : decode cX2_weaves 42 = .ok (.invokestatic 74, 3) := dk_184 0 74 (dk_at dksX2_weaves_1 19 rfl rfl)
theorem dX2_weaves_45 : decode cX2_weaves 45 = .ok (.aload_n 3, 1) := dk_45 (dk_at dksX2_weaves_1 22 rfl rfl)
theorem dX2_weaves_46 : decode cX2_weaves 46 = .ok (.getfield 84, 3) := dk_180 0 84 (dk_at dksX2_weaves_2 0 rfl rfl)
theorem dX2_weaves_49 : decode cX2_weaves 49 = .ok (.bipush 40, 2) := dk_16 40 (dk_at dksX2_weaves_2 3 rfl rfl)
theorem dX2_weaves_51 : decode cX2_weaves 51 = .ok (.iload_n 2, 1) := dk_28 (dk_at dksX2_weaves_2 5 rfl rfl)
theorem dX2_weaves_52 : decode cX2_weaves 52 = .ok (.imul, 1) := dk_104 (dk_at dksX2_weaves_2 6 rfl rfl)
theorem dX2_weaves_53 : decode cX2_weaves 53 = .ok (.if_icmp .lt 7, 3) := dk_161 0 7 (dk_at dksX2_weaves_2 7 rfl rfl)
theorem dX2_weaves_56 : decode cX2_weaves 56 = .ok (.iconst 1, 1) := dk_4 (dk_at dksX2_weaves_2 10 rfl rfl)
theorem dX2_weaves_57 : decode cX2_weaves 57 = .ok (.goto 4, 3) := dk_167 0 4 (dk_at dksX2_weaves_2 11 rfl rfl)
theorem dX2_weaves_60 : decode cX2_weaves 60 = .ok (.iconst 0, 1) := dk_3 (dk_at dksX2_weaves_2 14 rfl rfl)
theorem dX2_weaves_61 : decode cX2_weaves 61 = .ok (.iconst 5, 1) := dk_8 (dk_at dksX2_weaves_2 15 rfl rfl)
theorem dX2_weaves_62 : decode cX2_weaves 62 = .ok (.aload_n 3, 1) := dk_45 (dk_at dksX2_weaves_2 16 rfl rfl)
theorem dX2_weaves_63 : decode cX2_weaves 63 = .ok (.getfield 84, 3) := dk_180 0 84 (dk_at dksX2_weaves_2 17 rfl rfl)
theorem dX2_weaves_66 : decode cX2_weaves 66 = .ok (.invokestatic 74, 3) := dk_184 0 74 (dk_at dksX2_weaves_2 20 rfl rfl)
theorem dX2_weaves_69 : decode cX2_weaves 69 = .ok (.aload_n 0, 1) := dk_42 (dk_at dksX2_weaves_2 23 rfl rfl)
theorem dX2_weaves_70 : decode cX2_weaves 70 = .ok (.getfield 9, 3) := dk_180 0 9 (dk_at dksX2_weaves_3 0 rfl rfl)
theorem dX2_weaves_73 : decode cX2_weaves 73 = .ok (.iload_n 2, 1) := dk_28 (dk_at dksX2_weaves_3 3 rfl rfl)
theorem dX2_weaves_74 : decode cX2_weaves 74 = .ok (.iaload, 1) := dk_46 (dk_at dksX2_weaves_3 4 rfl rfl)
theorem dX2_weaves_75 : decode cX2_weaves 75 = .ok (.bipush 20, 2) := dk_16 20 (dk_at dksX2_weaves_3 5 rfl rfl)
theorem dX2_weaves_77 : decode cX2_weaves 77 = .ok (.if_icmp .ge 7, 3) := dk_162 0 7 (dk_at dksX2_weaves_3 7 rfl rfl)
theorem dX2_weaves_80 : decode cX2_weaves 80 = .ok (.iconst 1, 1) := dk_4 (dk_at dksX2_weaves_3 10 rfl rfl)
theorem dX2_weaves_81 : decode cX2_weaves 81 = .ok (.goto 4, 3) := dk_167 0 4 (dk_at dksX2_weaves_3 11 rfl rfl)
theorem dX2_weaves_84 : decode cX2_weaves 84 = .ok (.iconst 0, 1) := dk_3 (dk_at dksX2_weaves_3 14 rfl rfl)
theorem dX2_weaves_85 : decode cX2_weaves 85 = .ok (.iconst 1, 1) := dk_4 (dk_at dksX2_weaves_3 15 rfl rfl)
theorem dX2_weaves_86 : decode cX2_weaves 86 = .ok (.bipush 20, 2) := dk_16 20 (dk_at dksX2_weaves_3 16 rfl rfl)
theorem dX2_weaves_88 : decode cX2_weaves 88 = .ok (.invokestatic 74, 3) := dk_184 0 74 (dk_at dksX2_weaves_3 18 rfl rfl)
theorem dX2_weaves_91 : decode cX2_weaves 91 = .ok (.aload_n 0, 1) := dk_42 (dk_at dksX2_weaves_3 21 rfl rfl)
theorem dX2_weaves_92 : decode cX2_weaves 92 = .ok (.iload_n 1, 1) := dk_27 (dk_at dksX2_weaves_3 22 rfl rfl)
theorem dX2_weaves_93 : decode cX2_weaves 93 = .ok (.bipush 40, 2) := dk_16 40 (dk_at dksX2_weaves_4 0 rfl rfl)
theorem dX2_weaves_95 : decode cX2_weaves 95 = .ok (.iload_n 2, 1) := dk_28 (dk_at dksX2_weaves_4 2 rfl rfl)
theorem dX2_weaves_96 : decode cX2_weaves 96 = .ok (.imul, 1) := dk_104 (dk_at dksX2_weaves_4 3 rfl rfl)
theorem dX2_weaves_97 : decode cX2_weaves 97 = .ok (.invokevirtual 140, 3) := dk_182 0 140 (dk_at dksX2_weaves_4 4 rfl rfl)
theorem dX2_weaves_100 : decode cX2_weaves 100 = .ok (.aload_n 0, 1) := dk_42 (dk_at dksX2_weaves_4 7 rfl rfl)
theorem dX2_weaves_101 : decode cX2_weaves 101 = .ok (.dup, 1) := dk_89 (dk_at dksX2_weaves_4 8 rfl rfl)
theorem dX2_weaves_102 : decode cX2_weaves 102 = .ok (.getfield 55, 3) := dk_180 0 55 (dk_at dksX2_weaves_4 9 rfl rfl)
theorem dX2_weaves_105 : decode cX2_weaves 105 = .ok (.bipush 40, 2) := dk_16 40 (dk_at dksX2_weaves_4 12 rfl rfl)
theorem dX2_weaves_107 : decode cX2_weaves 107 = .ok (.iload_n 2, 1) := dk_28 (dk_at dksX2_weaves_4 14 rfl rfl)
theorem dX2_weaves_108 : decode cX2_weaves 108 = .ok (.imul, 1) := dk_104 (dk_at dksX2_weaves_4 15 rfl rfl)
theorem dX2_weaves_109 : decode cX2_weaves 109 = .ok (.iadd, 1) := dk_96 (dk_at dksX2_weaves_4 16 rfl rfl)
theorem dX2_weaves_110 : decode cX2_weaves 110 = .ok (.putfield 55, 3) := dk_181 0 55 (dk_at dksX2_weaves_4 17 rfl rfl)
theorem dX2_weaves_113 : decode cX2_weaves 113 = .ok (.aload_n 0, 1) := dk_42 (dk_at dksX2_weaves_4 20 rfl rfl)
theorem dX2_weaves_114 : decode cX2_weaves 114 = .ok (.getfield 9, 3) := dk_180 0 9 (dk_at dksX2_weaves_4 21 rfl rfl)
theorem dX2_weaves_117 : decode cX2_weaves 117 = .ok (.iload_n 2, 1) := dk_28 (dk_at dksX2_weaves_5 0 rfl rfl)
theorem dX2_weaves_118 : decode cX2_weaves 118 = .ok (.dup2, 1) := dk_92 (dk_at dksX2_weaves_5 1 rfl rfl)
theorem dX2_weaves_119 : decode cX2_weaves 119 = .ok (.iaload, 1) := dk_46 (dk_at dksX2_weaves_5 2 rfl rfl)
theorem dX2_weaves_120 : decode cX2_weaves 120 = .ok (.iconst 1, 1) := dk_4 (dk_at dksX2_weaves_5 3 rfl rfl)
theorem dX2_weaves_121 : decode cX2_weaves 121 = .ok (.iadd, 1) := dk_96 (dk_at dksX2_weaves_5 4 rfl rfl)
theorem dX2_weaves_122 : decode cX2_weaves 122 = .ok (.iastore, 1) := dk_79 (dk_at dksX2_weaves_5 5 rfl rfl)
theorem dX2_weaves_123 : decode cX2_weaves 123 = .ok (.aload_n 0, 1) := dk_42 (dk_at dksX2_weaves_5 6 rfl rfl)
theorem dX2_weaves_124 : decode cX2_weaves 124 = .ok (.getfield 9, 3) := dk_180 0 9 (dk_at dksX2_weaves_5 7 rfl rfl)
theorem dX2_weaves_127 : decode cX2_weaves 127 = .ok (.iload_n 2, 1) := dk_28 (dk_at dksX2_weaves_5 10 rfl rfl)
theorem dX2_weaves_128 : decode cX2_weaves 128 = .ok (.iaload, 1) := dk_46 (dk_at dksX2_weaves_5 11 rfl rfl)
theorem dX2_weaves_129 : decode cX2_weaves 129 = .ok (.ireturn, 1) := dk_172 (dk_at dksX2_weaves_5 12 rfl rfl)
abbrev cX2_takes : ByteArray := prog_14_method_6_code
def yX2_takes : MethodName := ⟨RX2, "takes", "(II)V"⟩
def dkwX2_takes_1 : List UInt8 := [180, 0, 84, 154, 0, 11, 42, 180, 0, 31, 27, 182, 0, 87, 177]
abbrev dktX2_takes_1 : List UInt8 := dkwX2_takes_1 ++ []
def dkwX2_takes_0 : List UInt8 := [42, 180, 0, 31, 27, 182, 0, 78, 192, 0, 82, 78, 45, 89, 180, 0, 84, 28, 100, 181, 0, 84, 45]
abbrev dktX2_takes_0 : List UInt8 := dkwX2_takes_0 ++ dktX2_takes_1
theorem dksX2_takes_0 : cX2_takes.data.toList.drop 0 = dktX2_takes_0 := by decide +kernel
theorem dksX2_takes_1 : cX2_takes.data.toList.drop 23 = dktX2_takes_1 := dk_seg dksX2_takes_0 23 rfl rfl
theorem dX2_takes_0 : decode cX2_takes 0 = .ok (.aload_n 0, 1) := dk_42 (dk_at dksX2_takes_0 0 rfl rfl)
theorem dX2_takes_1 : decode cX2_takes 1 = .ok (.getfield 31, 3) := dk_180 0 31 (dk_at dksX2_takes_0 1 rfl rfl)
theorem dX2_takes_4 : decode cX2_takes 4 = .ok (.iload_n 1, 1) := dk_27 (dk_at dksX2_takes_0 4 rfl rfl)
theorem dX2_takes_5 : decode cX2_takes 5 = .ok (.invokevirtual 78, 3) := dk_182 0 78 (dk_at dksX2_takes_0 5 rfl rfl)
theorem dX2_takes_8 : decode cX2_takes 8 = .ok (.checkcast 82, 3) := dk_192 0 82 (dk_at dksX2_takes_0 8 rfl rfl)
theorem dX2_takes_11 : decode cX2_takes 11 = .ok (.astore_n 3, 1) := dk_78 (dk_at dksX2_takes_0 11 rfl rfl)
theorem dX2_takes_12 : decode cX2_takes 12 = .ok (.aload_n 3, 1) := dk_45 (dk_at dksX2_takes_0 12 rfl rfl)
theorem dX2_takes_13 : decode cX2_takes 13 = .ok (.dup, 1) := dk_89 (dk_at dksX2_takes_0 13 rfl rfl)
theorem dX2_takes_14 : decode cX2_takes 14 = .ok (.getfield 84, 3) := dk_180 0 84 (dk_at dksX2_takes_0 14 rfl rfl)
theorem dX2_takes_17 : decode cX2_takes 17 = .ok (.iload_n 2, 1) := dk_28 (dk_at dksX2_takes_0 17 rfl rfl)
theorem dX2_takes_18 : decode cX2_takes 18 = .ok (.isub, 1) := dk_100 (dk_at dksX2_takes_0 18 rfl rfl)
theorem dX2_takes_19 : decode cX2_takes 19 = .ok (.putfield 84, 3) := dk_181 0 84 (dk_at dksX2_takes_0 19 rfl rfl)
theorem dX2_takes_22 : decode cX2_takes 22 = .ok (.aload_n 3, 1) := dk_45 (dk_at dksX2_takes_0 22 rfl rfl)
theorem dX2_takes_23 : decode cX2_takes 23 = .ok (.getfield 84, 3) := dk_180 0 84 (dk_at dksX2_takes_1 0 rfl rfl)
theorem dX2_takes_26 : decode cX2_takes 26 = .ok (.ifCond .ne 11, 3) := dk_154 0 11 (dk_at dksX2_takes_1 3 rfl rfl)
theorem dX2_takes_29 : decode cX2_takes 29 = .ok (.aload_n 0, 1) := dk_42 (dk_at dksX2_takes_1 6 rfl rfl)
theorem dX2_takes_30 : decode cX2_takes 30 = .ok (.getfield 31, 3) := dk_180 0 31 (dk_at dksX2_takes_1 7 rfl rfl)
theorem dX2_takes_33 : decode cX2_takes 33 = .ok (.iload_n 1, 1) := dk_27 (dk_at dksX2_takes_1 10 rfl rfl)
theorem dX2_takes_34 : decode cX2_takes 34 = .ok (.invokevirtual 87, 3) := dk_182 0 87 (dk_at dksX2_takes_1 11 rfl rfl)
theorem dX2_takes_37 : decode cX2_takes 37 = .ok (.return_, 1) := dk_177 (dk_at dksX2_takes_1 14 rfl rfl)
abbrev cX2_brings : ByteArray := prog_14_method_11_code
def yX2_brings : MethodName := ⟨RX2, "brings", "(I)I"⟩
def dkwX2_brings_1 : List UInt8 := [183, 0, 146, 182, 0, 104, 172]
abbrev dktX2_brings_1 : List UInt8 := dkwX2_brings_1 ++ []
def dkwX2_brings_0 : List UInt8 := [27, 3, 6, 184, 0, 90, 42, 180, 0, 34, 182, 0, 94, 42, 180, 0, 34, 187, 0, 144, 89, 27]
abbrev dktX2_brings_0 : List UInt8 := dkwX2_brings_0 ++ dktX2_brings_1
theorem dksX2_brings_0 : cX2_brings.data.toList.drop 0 = dktX2_brings_0 := by decide +kernel
theorem dksX2_brings_1 : cX2_brings.data.toList.drop 22 = dktX2_brings_1 := dk_seg dksX2_brings_0 22 rfl rfl
theorem dX2_brings_0 : decode cX2_brings 0 = .ok (.iload_n 1, 1) := dk_27 (dk_at dksX2_brings_0 0 rfl rfl)
theorem dX2_brings_1 : decode cX2_brings 1 = .ok (.iconst 0, 1) := dk_3 (dk_at dksX2_brings_0 1 rfl rfl)
theorem dX2_brings_2 : decode cX2_brings 2 = .ok (.iconst 3, 1) := dk_6 (dk_at dksX2_brings_0 2 rfl rfl)
theorem dX2_brings_3 : decode cX2_brings 3 = .ok (.invokestatic 90, 3) := dk_184 0 90 (dk_at dksX2_brings_0 3 rfl rfl)
theorem dX2_brings_6 : decode cX2_brings 6 = .ok (.aload_n 0, 1) := dk_42 (dk_at dksX2_brings_0 6 rfl rfl)
theorem dX2_brings_7 : decode cX2_brings 7 = .ok (.getfield 34, 3) := dk_180 0 34 (dk_at dksX2_brings_0 7 rfl rfl)
theorem dX2_brings_10 : decode cX2_brings 10 = .ok (.invokevirtual 94, 3) := dk_182 0 94 (dk_at dksX2_brings_0 10 rfl rfl)
theorem dX2_brings_13 : decode cX2_brings 13 = .ok (.aload_n 0, 1) := dk_42 (dk_at dksX2_brings_0 13 rfl rfl)
theorem dX2_brings_14 : decode cX2_brings 14 = .ok (.getfield 34, 3) := dk_180 0 34 (dk_at dksX2_brings_0 14 rfl rfl)
theorem dX2_brings_17 : decode cX2_brings 17 = .ok (.new 144, 3) := dk_187 0 144 (dk_at dksX2_brings_0 17 rfl rfl)
theorem dX2_brings_20 : decode cX2_brings 20 = .ok (.dup, 1) := dk_89 (dk_at dksX2_brings_0 20 rfl rfl)
theorem dX2_brings_21 : decode cX2_brings 21 = .ok (.iload_n 1, 1) := dk_27 (dk_at dksX2_brings_0 21 rfl rfl)
theorem dX2_brings_22 : decode cX2_brings 22 = .ok (.invokespecial 146, 3) := dk_183 0 146 (dk_at dksX2_brings_1 0 rfl rfl)
theorem dX2_brings_25 : decode cX2_brings 25 = .ok (.invokevirtual 104, 3) := dk_182 0 104 (dk_at dksX2_brings_1 3 rfl rfl)
theorem dX2_brings_28 : decode cX2_brings 28 = .ok (.ireturn, 1) := dk_172 (dk_at dksX2_brings_1 6 rfl rfl)
abbrev cX2_hairs : ByteArray := prog_14_method_12_code
def yX2_hairs : MethodName := ⟨RX2, "hairs", "(II)I"⟩
def dkwX2_hairs_6 : List UInt8 := [181, 0, 168, 42, 28, 178, 0, 153, 45, 180, 0, 150, 46, 182, 0, 140, 45, 180, 0, 163, 172]
abbrev dktX2_hairs_6 : List UInt8 := dkwX2_hairs_6 ++ []
def dkwX2_hairs_5 : List UInt8 := [46, 181, 0, 156, 45, 3, 181, 0, 157, 45, 25, 4, 182, 0, 160, 181, 0, 163, 45, 25, 4, 180, 0, 165]
abbrev dktX2_hairs_5 : List UInt8 := dkwX2_hairs_5 ++ dktX2_hairs_6
def dkwX2_hairs_4 : List UInt8 := [184, 0, 74, 42, 89, 180, 0, 61, 45, 180, 0, 156, 96, 181, 0, 61, 45, 178, 0, 153, 45, 180, 0, 150]
abbrev dktX2_hairs_4 : List UInt8 := dkwX2_hairs_4 ++ dktX2_hairs_5
def dkwX2_hairs_3 : List UInt8 := [178, 0, 153, 45, 180, 0, 150, 46, 161, 0, 7, 4, 167, 0, 4, 3, 8, 25, 4, 180, 0, 84]
abbrev dktX2_hairs_3 : List UInt8 := dkwX2_hairs_3 ++ dktX2_hairs_4
def dkwX2_hairs_2 : List UInt8 := [16, 6, 178, 0, 147, 45, 180, 0, 150, 46, 25, 4, 180, 0, 137, 100, 184, 0, 74, 25, 4, 180, 0, 84]
abbrev dktX2_hairs_2 : List UInt8 := dkwX2_hairs_2 ++ dktX2_hairs_3
def dkwX2_hairs_1 : List UInt8 := [58, 4, 25, 4, 180, 0, 137, 178, 0, 147, 45, 180, 0, 150, 46, 161, 0, 7, 4, 167, 0, 4, 3]
abbrev dktX2_hairs_1 : List UInt8 := dkwX2_hairs_1 ++ dktX2_hairs_2
def dkwX2_hairs_0 : List UInt8 := [42, 180, 0, 34, 27, 182, 0, 108, 192, 0, 144, 78, 42, 180, 0, 31, 28, 182, 0, 108, 192, 0, 82]
abbrev dktX2_hairs_0 : List UInt8 := dkwX2_hairs_0 ++ dktX2_hairs_1
theorem dksX2_hairs_0 : cX2_hairs.data.toList.drop 0 = dktX2_hairs_0 := by decide +kernel
theorem dksX2_hairs_1 : cX2_hairs.data.toList.drop 23 = dktX2_hairs_1 := dk_seg dksX2_hairs_0 23 rfl rfl
theorem dksX2_hairs_2 : cX2_hairs.data.toList.drop 46 = dktX2_hairs_2 := dk_seg dksX2_hairs_1 23 rfl rfl
theorem dksX2_hairs_3 : cX2_hairs.data.toList.drop 70 = dktX2_hairs_3 := dk_seg dksX2_hairs_2 24 rfl rfl
theorem dksX2_hairs_4 : cX2_hairs.data.toList.drop 92 = dktX2_hairs_4 := dk_seg dksX2_hairs_3 22 rfl rfl
theorem dksX2_hairs_5 : cX2_hairs.data.toList.drop 116 = dktX2_hairs_5 := dk_seg dksX2_hairs_4 24 rfl rfl
theorem dksX2_hairs_6 : cX2_hairs.data.toList.drop 140 = dktX2_hairs_6 := dk_seg dksX2_hairs_5 24 rfl rfl
theorem dX2_hairs_0 : decode cX2_hairs 0 = .ok (.aload_n 0, 1) := dk_42 (dk_at dksX2_hairs_0 0 rfl rfl)
theorem dX2_hairs_1 : decode cX2_hairs 1 = .ok (.getfield 34, 3) := dk_180 0 34 (dk_at dksX2_hairs_0 1 rfl rfl)
theorem dX2_hairs_4 : decode cX2_hairs 4 = .ok (.iload_n 1, 1) := dk_27 (dk_at dksX2_hairs_0 4 rfl rfl)
theorem dX2_hairs_5 : decode cX2_hairs 5 = .ok (.invokevirtual 108, 3) := dk_182 0 108 (dk_at dksX2_hairs_0 5 rfl rfl)
theorem dX2_hairs_8 : decode cX2_hairs 8 = .ok (.checkcast 144, 3) := dk_192 0 144 (dk_at dksX2_hairs_0 8 rfl rfl)
theorem dX2_hairs_11 : decode cX2_hairs 11 = .ok (.astore_n 3, 1) := dk_78 (dk_at dksX2_hairs_0 11 rfl rfl)
theorem dX2_hairs_12 : decode cX2_hairs 12 = .ok (.aload_n 0, 1) := dk_42 (dk_at dksX2_hairs_0 12 rfl rfl)
theorem dX2_hairs_13 : decode cX2_hairs 13 = .ok (.getfield 31, 3) := dk_180 0 31 (dk_at dksX2_hairs_0 13 rfl rfl)
theorem dX2_hairs_16 : decode cX2_hairs 16 = .ok (.iload_n 2, 1) := dk_28 (dk_at dksX2_hairs_0 16 rfl rfl)
theorem dX2_hairs_17 : decode cX2_hairs 17 = .ok (.invokevirtual 108, 3) := dk_182 0 108 (dk_at dksX2_hairs_0 17 rfl rfl)
theorem dX2_hairs_20 : decode cX2_hairs 20 = .ok (.checkcast 82, 3) := dk_192 0 82 (dk_at dksX2_hairs_0 20 rfl rfl)
theorem dX2_hairs_23 : decode cX2_hairs 23 = .ok (.astore 4, 2) := dk_58 4 (dk_at dksX2_hairs_1 0 rfl rfl)
theorem dX2_hairs_25 : decode cX2_hairs 25 = .ok (.aload 4, 2) := dk_25 4 (dk_at dksX2_hairs_1 2 rfl rfl)
theorem dX2_hairs_27 : decode cX2_hairs 27 = .ok (.getfield 137, 3) := dk_180 0 137 (dk_at dksX2_hairs_1 4 rfl rfl)
theorem dX2_hairs_30 : decode cX2_hairs 30 = .ok (.getstatic 147, 3) := dk_178 0 147 (dk_at dksX2_hairs_1 7 rfl rfl)
theorem dX2_hairs_33 : decode cX2_hairs 33 = .ok (.aload_n 3, 1) := dk_45 (dk_at dksX2_hairs_1 10 rfl rfl)
theorem dX2_hairs_34 : decode cX2_hairs 34 = .ok (.getfield 150, 3) := dk_180 0 150 (dk_at dksX2_hairs_1 11 rfl rfl)
theorem dX2_hairs_37 : decode cX2_hairs 37 = .ok (.iaload, 1) := dk_46 (dk_at dksX2_hairs_1 14 rfl rfl)
theorem dX2_hairs_38 : decode cX2_hairs 38 = .ok (.if_icmp .lt 7, 3) := dk_161 0 7 (dk_at dksX2_hairs_1 15 rfl rfl)
theorem dX2_hairs_41 : decode cX2_hairs 41 = .ok (.iconst 1, 1) := dk_4 (dk_at dksX2_hairs_1 18 rfl rfl)
theorem dX2_hairs_42 : decode cX2_hairs 42 = .ok (.goto 4, 3) := dk_167 0 4 (dk_at dksX2_hairs_1 19 rfl rfl)
theorem dX2_hairs_45 : decode cX2_hairs 45 = .ok (.iconst 0, 1) := dk_3 (dk_at dksX2_hairs_1 22 rfl rfl)
theorem dX2_hairs_46 : decode cX2_hairs 46 = .ok (.bipush 6, 2) := dk_16 6 (dk_at dksX2_hairs_2 0 rfl rfl)
theorem dX2_hairs_48 : decode cX2_hairs 48 = .ok (.getstatic 147, 3) := dk_178 0 147 (dk_at dksX2_hairs_2 2 rfl rfl)
theorem dX2_hairs_51 : decode cX2_hairs 51 = .ok (.aload_n 3, 1) := dk_45 (dk_at dksX2_hairs_2 5 rfl rfl)
theorem dX2_hairs_52 : decode cX2_hairs 52 = .ok (.getfield 150, 3) := dk_180 0 150 (dk_at dksX2_hairs_2 6 rfl rfl)
theorem dX2_hairs_55 : decode cX2_hairs 55 = .ok (.iaload, 1) := dk_46 (dk_at dksX2_hairs_2 9 rfl rfl)
theorem dX2_hairs_56 : decode cX2_hairs 56 = .ok (.aload 4, 2) := dk_25 4 (dk_at dksX2_hairs_2 10 rfl rfl)
theorem dX2_hairs_58 : decode cX2_hairs 58 = .ok (.getfield 137, 3) := dk_180 0 137 (dk_at dksX2_hairs_2 12 rfl rfl)
theorem dX2_hairs_61 : decode cX2_hairs 61 = .ok (.isub, 1) := dk_100 (dk_at dksX2_hairs_2 15 rfl rfl)
theorem dX2_hairs_62 : decode cX2_hairs 62 = .ok (.invokestatic 74, 3) := dk_184 0 74 (dk_at dksX2_hairs_2 16 rfl rfl)
theorem dX2_hairs_65 : decode cX2_hairs 65 = .ok (.aload 4, 2) := dk_25 4 (dk_at dksX2_hairs_2 19 rfl rfl)
theorem dX2_hairs_67 : decode cX2_hairs 67 = .ok (.getfield 84, 3) := dk_180 0 84 (dk_at dksX2_hairs_2 21 rfl rfl)
theorem dX2_hairs_70 : decode cX2_hairs 70 = .ok (.getstatic 153, 3) := dk_178 0 153 (dk_at dksX2_hairs_3 0 rfl rfl)
theorem dX2_hairs_73 : decode cX2_hairs 73 = .ok (.aload_n 3, 1) := dk_45 (dk_at dksX2_hairs_3 3 rfl rfl)
theorem dX2_hairs_74 : decode cX2_hairs 74 = .ok (.getfield 150, 3) := dk_180 0 150 (dk_at dksX2_hairs_3 4 rfl rfl)
theorem dX2_hairs_77 : decode cX2_hairs 77 = .ok (.iaload, 1) := dk_46 (dk_at dksX2_hairs_3 7 rfl rfl)
theorem dX2_hairs_78 : decode cX2_hairs 78 = .ok (.if_icmp .lt 7, 3) := dk_161 0 7 (dk_at dksX2_hairs_3 8 rfl rfl)
theorem dX2_hairs_81 : decode cX2_hairs 81 = .ok (.iconst 1, 1) := dk_4 (dk_at dksX2_hairs_3 11 rfl rfl)
theorem dX2_hairs_82 : decode cX2_hairs 82 = .ok (.goto 4, 3) := dk_167 0 4 (dk_at dksX2_hairs_3 12 rfl rfl)
theorem dX2_hairs_85 : decode cX2_hairs 85 = .ok (.iconst 0, 1) := dk_3 (dk_at dksX2_hairs_3 15 rfl rfl)
theorem dX2_hairs_86 : decode cX2_hairs 86 = .ok (.iconst 5, 1) := dk_8 (dk_at dksX2_hairs_3 16 rfl rfl)
theorem dX2_hairs_87 : decode cX2_hairs 87 = .ok (.aload 4, 2) := dk_25 4 (dk_at dksX2_hairs_3 17 rfl rfl)
theorem dX2_hairs_89 : decode cX2_hairs 89 = .ok (.getfield 84, 3) := dk_180 0 84 (dk_at dksX2_hairs_3 19 rfl rfl)
theorem dX2_hairs_92 : decode cX2_hairs 92 = .ok (.invokestatic 74, 3) := dk_184 0 74 (dk_at dksX2_hairs_4 0 rfl rfl)
theorem dX2_hairs_95 : decode cX2_hairs 95 = .ok (.aload_n 0, 1) := dk_42 (dk_at dksX2_hairs_4 3 rfl rfl)
theorem dX2_hairs_96 : decode cX2_hairs 96 = .ok (.dup, 1) := dk_89 (dk_at dksX2_hairs_4 4 rfl rfl)
theorem dX2_hairs_97 : decode cX2_hairs 97 = .ok (.getfield 61, 3) := dk_180 0 61 (dk_at dksX2_hairs_4 5 rfl rfl)
theorem dX2_hairs_100 : decode cX2_hairs 100 = .ok (.aload_n 3, 1) := dk_45 (dk_at dksX2_hairs_4 8 rfl rfl)
theorem dX2_hairs_101 : decode cX2_hairs 101 = .ok (.getfield 156, 3) := dk_180 0 156 (dk_at dksX2_hairs_4 9 rfl rfl)
theorem dX2_hairs_104 : decode cX2_hairs 104 = .ok (.iadd, 1) := dk_96 (dk_at dksX2_hairs_4 12 rfl rfl)
theorem dX2_hairs_105 : decode cX2_hairs 105 = .ok (.putfield 61, 3) := dk_181 0 61 (dk_at dksX2_hairs_4 13 rfl rfl)
theorem dX2_hairs_108 : decode cX2_hairs 108 = .ok (.aload_n 3, 1) := dk_45 (dk_at dksX2_hairs_4 16 rfl rfl)
theorem dX2_hairs_109 : decode cX2_hairs 109 = .ok (.getstatic 153, 3) := dk_178 0 153 (dk_at dksX2_hairs_4 17 rfl rfl)
theorem dX2_hairs_112 : decode cX2_hairs 112 = .ok (.aload_n 3, 1) := dk_45 (dk_at dksX2_hairs_4 20 rfl rfl)
theorem dX2_hairs_113 : decode cX2_hairs 113 = .ok (.getfield 150, 3) := dk_180 0 150 (dk_at dksX2_hairs_4 21 rfl rfl)
theorem dX2_hairs_116 : decode cX2_hairs 116 = .ok (.iaload, 1) := dk_46 (dk_at dksX2_hairs_5 0 rfl rfl)
theorem dX2_hairs_117 : decode cX2_hairs 117 = .ok (.putfield 156, 3) := dk_181 0 156 (dk_at dksX2_hairs_5 1 rfl rfl)
theorem dX2_hairs_120 : decode cX2_hairs 120 = .ok (.aload_n 3, 1) := dk_45 (dk_at dksX2_hairs_5 4 rfl rfl)
theorem dX2_hairs_121 : decode cX2_hairs 121 = .ok (.iconst 0, 1) := dk_3 (dk_at dksX2_hairs_5 5 rfl rfl)
theorem dX2_hairs_122 : decode cX2_hairs 122 = .ok (.putfield 157, 3) := dk_181 0 157 (dk_at dksX2_hairs_5 6 rfl rfl)
theorem dX2_hairs_125 : decode cX2_hairs 125 = .ok (.aload_n 3, 1) := dk_45 (dk_at dksX2_hairs_5 9 rfl rfl)
theorem dX2_hairs_126 : decode cX2_hairs 126 = .ok (.aload 4, 2) := dk_25 4 (dk_at dksX2_hairs_5 10 rfl rfl)
theorem dX2_hairs_128 : decode cX2_hairs 128 = .ok (.invokevirtual 160, 3) := dk_182 0 160 (dk_at dksX2_hairs_5 12 rfl rfl)
theorem dX2_hairs_131 : decode cX2_hairs 131 = .ok (.putfield 163, 3) := dk_181 0 163 (dk_at dksX2_hairs_5 15 rfl rfl)
theorem dX2_hairs_134 : decode cX2_hairs 134 = .ok (.aload_n 3, 1) := dk_45 (dk_at dksX2_hairs_5 18 rfl rfl)
theorem dX2_hairs_135 : decode cX2_hairs 135 = .ok (.aload 4, 2) := dk_25 4 (dk_at dksX2_hairs_5 19 rfl rfl)
theorem dX2_hairs_137 : decode cX2_hairs 137 = .ok (.getfield 165, 3) := dk_180 0 165 (dk_at dksX2_hairs_5 21 rfl rfl)
theorem dX2_hairs_140 : decode cX2_hairs 140 = .ok (.putfield 168, 3) := dk_181 0 168 (dk_at dksX2_hairs_6 0 rfl rfl)
theorem dX2_hairs_143 : decode cX2_hairs 143 = .ok (.aload_n 0, 1) := dk_42 (dk_at dksX2_hairs_6 3 rfl rfl)
theorem dX2_hairs_144 : decode cX2_hairs 144 = .ok (.iload_n 2, 1) := dk_28 (dk_at dksX2_hairs_6 4 rfl rfl)
theorem dX2_hairs_145 : decode cX2_hairs 145 = .ok (.getstatic 153, 3) := dk_178 0 153 (dk_at dksX2_hairs_6 5 rfl rfl)
theorem dX2_hairs_148 : decode cX2_hairs 148 = .ok (.aload_n 3, 1) := dk_45 (dk_at dksX2_hairs_6 8 rfl rfl)
theorem dX2_hairs_149 : decode cX2_hairs 149 = .ok (.getfield 150, 3) := dk_180 0 150 (dk_at dksX2_hairs_6 9 rfl rfl)
theorem dX2_hairs_152 : decode cX2_hairs 152 = .ok (.iaload, 1) := dk_46 (dk_at dksX2_hairs_6 12 rfl rfl)
theorem dX2_hairs_153 : decode cX2_hairs 153 = .ok (.invokevirtual 140, 3) := dk_182 0 140 (dk_at dksX2_hairs_6 13 rfl rfl)
theorem dX2_hairs_156 : decode cX2_hairs 156 = .ok (.aload_n 3, 1) := dk_45 (dk_at dksX2_hairs_6 16 rfl rfl)
theorem dX2_hairs_157 : decode cX2_hairs 157 = .ok (.getfield 163, 3) := dk_180 0 163 (dk_at dksX2_hairs_6 17 rfl rfl)
theorem dX2_hairs_160 : decode cX2_hairs 160 = .ok (.ireturn, 1) := dk_172 (dk_at dksX2_hairs_6 20 rfl rfl)
abbrev cX2_buysCake : ByteArray := prog_14_method_13_code
def yX2_buysCake : MethodName := ⟨RX2, "buysCake", "(I)I"⟩
def dkwX2_buysCake_1 : List UInt8 := [42, 180, 0, 37, 187, 0, 169, 89, 27, 183, 0, 171, 182, 0, 104, 172]
abbrev dktX2_buysCake_1 : List UInt8 := dkwX2_buysCake_1 ++ []
def dkwX2_buysCake_0 : List UInt8 := [27, 4, 16, 40, 184, 0, 90, 42, 180, 0, 37, 182, 0, 94, 42, 27, 16, 10, 108, 4, 96, 182, 0, 97]
abbrev dktX2_buysCake_0 : List UInt8 := dkwX2_buysCake_0 ++ dktX2_buysCake_1
theorem dksX2_buysCake_0 : cX2_buysCake.data.toList.drop 0 = dktX2_buysCake_0 := by decide +kernel
theorem dksX2_buysCake_1 : cX2_buysCake.data.toList.drop 24 = dktX2_buysCake_1 := dk_seg dksX2_buysCake_0 24 rfl rfl
theorem dX2_buysCake_0 : decode cX2_buysCake 0 = .ok (.iload_n 1, 1) := dk_27 (dk_at dksX2_buysCake_0 0 rfl rfl)
theorem dX2_buysCake_1 : decode cX2_buysCake 1 = .ok (.iconst 1, 1) := dk_4 (dk_at dksX2_buysCake_0 1 rfl rfl)
theorem dX2_buysCake_2 : decode cX2_buysCake 2 = .ok (.bipush 40, 2) := dk_16 40 (dk_at dksX2_buysCake_0 2 rfl rfl)
theorem dX2_buysCake_4 : decode cX2_buysCake 4 = .ok (.invokestatic 90, 3) := dk_184 0 90 (dk_at dksX2_buysCake_0 4 rfl rfl)
theorem dX2_buysCake_7 : decode cX2_buysCake 7 = .ok (.aload_n 0, 1) := dk_42 (dk_at dksX2_buysCake_0 7 rfl rfl)
theorem dX2_buysCake_8 : decode cX2_buysCake 8 = .ok (.getfield 37, 3) := dk_180 0 37 (dk_at dksX2_buysCake_0 8 rfl rfl)
theorem dX2_buysCake_11 : decode cX2_buysCake 11 = .ok (.invokevirtual 94, 3) := dk_182 0 94 (dk_at dksX2_buysCake_0 11 rfl rfl)
theorem dX2_buysCake_14 : decode cX2_buysCake 14 = .ok (.aload_n 0, 1) := dk_42 (dk_at dksX2_buysCake_0 14 rfl rfl)
theorem dX2_buysCake_15 : decode cX2_buysCake 15 = .ok (.iload_n 1, 1) := dk_27 (dk_at dksX2_buysCake_0 15 rfl rfl)
theorem dX2_buysCake_16 : decode cX2_buysCake 16 = .ok (.bipush 10, 2) := dk_16 10 (dk_at dksX2_buysCake_0 16 rfl rfl)
theorem dX2_buysCake_18 : decode cX2_buysCake 18 = .ok (.idiv, 1) := dk_108 (dk_at dksX2_buysCake_0 18 rfl rfl)
theorem dX2_buysCake_19 : decode cX2_buysCake 19 = .ok (.iconst 1, 1) := dk_4 (dk_at dksX2_buysCake_0 19 rfl rfl)
theorem dX2_buysCake_20 : decode cX2_buysCake 20 = .ok (.iadd, 1) := dk_96 (dk_at dksX2_buysCake_0 20 rfl rfl)
theorem dX2_buysCake_21 : decode cX2_buysCake 21 = .ok (.invokevirtual 97, 3) := dk_182 0 97 (dk_at dksX2_buysCake_0 21 rfl rfl)
theorem dX2_buysCake_24 : decode cX2_buysCake 24 = .ok (.aload_n 0, 1) := dk_42 (dk_at dksX2_buysCake_1 0 rfl rfl)
theorem dX2_buysCake_25 : decode cX2_buysCake 25 = .ok (.getfield 37, 3) := dk_180 0 37 (dk_at dksX2_buysCake_1 1 rfl rfl)
theorem dX2_buysCake_28 : decode cX2_buysCake 28 = .ok (.new 169, 3) := dk_187 0 169 (dk_at dksX2_buysCake_1 4 rfl rfl)
theorem dX2_buysCake_31 : decode cX2_buysCake 31 = .ok (.dup, 1) := dk_89 (dk_at dksX2_buysCake_1 7 rfl rfl)
theorem dX2_buysCake_32 : decode cX2_buysCake 32 = .ok (.iload_n 1, 1) := dk_27 (dk_at dksX2_buysCake_1 8 rfl rfl)
theorem dX2_buysCake_33 : decode cX2_buysCake 33 = .ok (.invokespecial 171, 3) := dk_183 0 171 (dk_at dksX2_buysCake_1 9 rfl rfl)
theorem dX2_buysCake_36 : decode cX2_buysCake 36 = .ok (.invokevirtual 104, 3) := dk_182 0 104 (dk_at dksX2_buysCake_1 12 rfl rfl)
theorem dX2_buysCake_39 : decode cX2_buysCake 39 = .ok (.ireturn, 1) := dk_172 (dk_at dksX2_buysCake_1 15 rfl rfl)
abbrev cX2_rosins : ByteArray := prog_14_method_14_code
def yX2_rosins : MethodName := ⟨RX2, "rosins", "(II)I"⟩
def dkwX2_rosins_5 : List UInt8 := [180, 0, 157, 21, 5, 96, 181, 0, 157, 45, 180, 0, 157, 172]
abbrev dktX2_rosins_5 : List UInt8 := dkwX2_rosins_5 ++ []
def dkwX2_rosins_4 : List UInt8 := [180, 0, 157, 100, 184, 0, 124, 54, 5, 25, 4, 89, 180, 0, 172, 21, 5, 100, 181, 0, 172, 45, 89]
abbrev dktX2_rosins_4 : List UInt8 := dkwX2_rosins_4 ++ dktX2_rosins_5
def dkwX2_rosins_3 : List UInt8 := [162, 0, 7, 4, 167, 0, 4, 3, 16, 12, 27, 184, 0, 74, 25, 4, 180, 0, 172, 16, 9, 45]
abbrev dktX2_rosins_3 : List UInt8 := dkwX2_rosins_3 ++ dktX2_rosins_4
def dkwX2_rosins_2 : List UInt8 := [180, 0, 172, 158, 0, 7, 4, 167, 0, 4, 3, 16, 11, 28, 184, 0, 74, 45, 180, 0, 157, 16, 9]
abbrev dktX2_rosins_2 : List UInt8 := dkwX2_rosins_2 ++ dktX2_rosins_3
def dkwX2_rosins_1 : List UInt8 := [58, 4, 45, 180, 0, 156, 158, 0, 7, 4, 167, 0, 4, 3, 16, 10, 3, 184, 0, 74, 25, 4]
abbrev dktX2_rosins_1 : List UInt8 := dkwX2_rosins_1 ++ dktX2_rosins_2
def dkwX2_rosins_0 : List UInt8 := [42, 180, 0, 34, 27, 182, 0, 108, 192, 0, 144, 78, 42, 180, 0, 37, 28, 182, 0, 108, 192, 0, 169]
abbrev dktX2_rosins_0 : List UInt8 := dkwX2_rosins_0 ++ dktX2_rosins_1
theorem dksX2_rosins_0 : cX2_rosins.data.toList.drop 0 = dktX2_rosins_0 := by decide +kernel
theorem dksX2_rosins_1 : cX2_rosins.data.toList.drop 23 = dktX2_rosins_1 := dk_seg dksX2_rosins_0 23 rfl rfl
theorem dksX2_rosins_2 : cX2_rosins.data.toList.drop 45 = dktX2_rosins_2 := dk_seg dksX2_rosins_1 22 rfl rfl
theorem dksX2_rosins_3 : cX2_rosins.data.toList.drop 68 = dktX2_rosins_3 := dk_seg dksX2_rosins_2 23 rfl rfl
theorem dksX2_rosins_4 : cX2_rosins.data.toList.drop 90 = dktX2_rosins_4 := dk_seg dksX2_rosins_3 22 rfl rfl
theorem dksX2_rosins_5 : cX2_rosins.data.toList.drop 113 = dktX2_rosins_5 := dk_seg dksX2_rosins_4 23 rfl rfl
theorem dX2_rosins_0 : decode cX2_rosins 0 = .ok (.aload_n 0, 1) := dk_42 (dk_at dksX2_rosins_0 0 rfl rfl)
theorem dX2_rosins_1 : decode cX2_rosins 1 = .ok (.getfield 34, 3) := dk_180 0 34 (dk_at dksX2_rosins_0 1 rfl rfl)
theorem dX2_rosins_4 : decode cX2_rosins 4 = .ok (.iload_n 1, 1) := dk_27 (dk_at dksX2_rosins_0 4 rfl rfl)
theorem dX2_rosins_5 : decode cX2_rosins 5 = .ok (.invokevirtual 108, 3) := dk_182 0 108 (dk_at dksX2_rosins_0 5 rfl rfl)
theorem dX2_rosins_8 : decode cX2_rosins 8 = .ok (.checkcast 144, 3) := dk_192 0 144 (dk_at dksX2_rosins_0 8 rfl rfl)
theorem dX2_rosins_11 : decode cX2_rosins 11 = .ok (.astore_n 3, 1) := dk_78 (dk_at dksX2_rosins_0 11 rfl rfl)
theorem dX2_rosins_12 : decode cX2_rosins 12 = .ok (.aload_n 0, 1) := dk_42 (dk_at dksX2_rosins_0 12 rfl rfl)
theorem dX2_rosins_13 : decode cX2_rosins 13 = .ok (.getfield 37, 3) := dk_180 0 37 (dk_at dksX2_rosins_0 13 rfl rfl)
theorem dX2_rosins_16 : decode cX2_rosins 16 = .ok (.iload_n 2, 1) := dk_28 (dk_at dksX2_rosins_0 16 rfl rfl)
theorem dX2_rosins_17 : decode cX2_rosins 17 = .ok (.invokevirtual 108, 3) := dk_182 0 108 (dk_at dksX2_rosins_0 17 rfl rfl)
theorem dX2_rosins_20 : decode cX2_rosins 20 = .ok (.checkcast 169, 3) := dk_192 0 169 (dk_at dksX2_rosins_0 20 rfl rfl)
theorem dX2_rosins_23 : decode cX2_rosins 23 = .ok (.astore 4, 2) := dk_58 4 (dk_at dksX2_rosins_1 0 rfl rfl)
theorem dX2_rosins_25 : decode cX2_rosins 25 = .ok (.aload_n 3, 1) := dk_45 (dk_at dksX2_rosins_1 2 rfl rfl)
theorem dX2_rosins_26 : decode cX2_rosins 26 = .ok (.getfield 156, 3) := dk_180 0 156 (dk_at dksX2_rosins_1 3 rfl rfl)
theorem dX2_rosins_29 : decode cX2_rosins 29 = .ok (.ifCond .le 7, 3) := dk_158 0 7 (dk_at dksX2_rosins_1 6 rfl rfl)
theorem dX2_rosins_32 : decode cX2_rosins 32 = .ok (.iconst 1, 1) := dk_4 (dk_at dksX2_rosins_1 9 rfl rfl)
theorem dX2_rosins_33 : decode cX2_rosins 33 = .ok (.goto 4, 3) := dk_167 0 4 (dk_at dksX2_rosins_1 10 rfl rfl)
theorem dX2_rosins_36 : decode cX2_rosins 36 = .ok (.iconst 0, 1) := dk_3 (dk_at dksX2_rosins_1 13 rfl rfl)
theorem dX2_rosins_37 : decode cX2_rosins 37 = .ok (.bipush 10, 2) := dk_16 10 (dk_at dksX2_rosins_1 14 rfl rfl)
theorem dX2_rosins_39 : decode cX2_rosins 39 = .ok (.iconst 0, 1) := dk_3 (dk_at dksX2_rosins_1 16 rfl rfl)
theorem dX2_rosins_40 : decode cX2_rosins 40 = .ok (.invokestatic 74, 3) := dk_184 0 74 (dk_at dksX2_rosins_1 17 rfl rfl)
theorem dX2_rosins_43 : decode cX2_rosins 43 = .ok (.aload 4, 2) := dk_25 4 (dk_at dksX2_rosins_1 20 rfl rfl)
theorem dX2_rosins_45 : decode cX2_rosins 45 = .ok (.getfield 172, 3) := dk_180 0 172 (dk_at dksX2_rosins_2 0 rfl rfl)
theorem dX2_rosins_48 : decode cX2_rosins 48 = .ok (.ifCond .le 7, 3) := dk_158 0 7 (dk_at dksX2_rosins_2 3 rfl rfl)
theorem dX2_rosins_51 : decode cX2_rosins 51 = .ok (.iconst 1, 1) := dk_4 (dk_at dksX2_rosins_2 6 rfl rfl)
theorem dX2_rosins_52 : decode cX2_rosins 52 = .ok (.goto 4, 3) := dk_167 0 4 (dk_at dksX2_rosins_2 7 rfl rfl)
theorem dX2_rosins_55 : decode cX2_rosins 55 = .ok (.iconst 0, 1) := dk_3 (dk_at dksX2_rosins_2 10 rfl rfl)
theorem dX2_rosins_56 : decode cX2_rosins 56 = .ok (.bipush 11, 2) := dk_16 11 (dk_at dksX2_rosins_2 11 rfl rfl)
theorem dX2_rosins_58 : decode cX2_rosins 58 = .ok (.iload_n 2, 1) := dk_28 (dk_at dksX2_rosins_2 13 rfl rfl)
theorem dX2_rosins_59 : decode cX2_rosins 59 = .ok (.invokestatic 74, 3) := dk_184 0 74 (dk_at dksX2_rosins_2 14 rfl rfl)
theorem dX2_rosins_62 : decode cX2_rosins 62 = .ok (.aload_n 3, 1) := dk_45 (dk_at dksX2_rosins_2 17 rfl rfl)
theorem dX2_rosins_63 : decode cX2_rosins 63 = .ok (.getfield 157, 3) := dk_180 0 157 (dk_at dksX2_rosins_2 18 rfl rfl)
theorem dX2_rosins_66 : decode cX2_rosins 66 = .ok (.bipush 9, 2) := dk_16 9 (dk_at dksX2_rosins_2 21 rfl rfl)
theorem dX2_rosins_68 : decode cX2_rosins 68 = .ok (.if_icmp .ge 7, 3) := dk_162 0 7 (dk_at dksX2_rosins_3 0 rfl rfl)
theorem dX2_rosins_71 : decode cX2_rosins 71 = .ok (.iconst 1, 1) := dk_4 (dk_at dksX2_rosins_3 3 rfl rfl)
theorem dX2_rosins_72 : decode cX2_rosins 72 = .ok (.goto 4, 3) := dk_167 0 4 (dk_at dksX2_rosins_3 4 rfl rfl)
theorem dX2_rosins_75 : decode cX2_rosins 75 = .ok (.iconst 0, 1) := dk_3 (dk_at dksX2_rosins_3 7 rfl rfl)
theorem dX2_rosins_76 : decode cX2_rosins 76 = .ok (.bipush 12, 2) := dk_16 12 (dk_at dksX2_rosins_3 8 rfl rfl)
theorem dX2_rosins_78 : decode cX2_rosins 78 = .ok (.iload_n 1, 1) := dk_27 (dk_at dksX2_rosins_3 10 rfl rfl)
theorem dX2_rosins_79 : decode cX2_rosins 79 = .ok (.invokestatic 74, 3) := dk_184 0 74 (dk_at dksX2_rosins_3 11 rfl rfl)
theorem dX2_rosins_82 : decode cX2_rosins 82 = .ok (.aload 4, 2) := dk_25 4 (dk_at dksX2_rosins_3 14 rfl rfl)
theorem dX2_rosins_84 : decode cX2_rosins 84 = .ok (.getfield 172, 3) := dk_180 0 172 (dk_at dksX2_rosins_3 16 rfl rfl)
theorem dX2_rosins_87 : decode cX2_rosins 87 = .ok (.bipush 9, 2) := dk_16 9 (dk_at dksX2_rosins_3 19 rfl rfl)
theorem dX2_rosins_89 : decode cX2_rosins 89 = .ok (.aload_n 3, 1) := dk_45 (dk_at dksX2_rosins_3 21 rfl rfl)
theorem dX2_rosins_90 : decode cX2_rosins 90 = .ok (.getfield 157, 3) := dk_180 0 157 (dk_at dksX2_rosins_4 0 rfl rfl)
theorem dX2_rosins_93 : decode cX2_rosins 93 = .ok (.isub, 1) := dk_100 (dk_at dksX2_rosins_4 3 rfl rfl)
theorem dX2_rosins_94 : decode cX2_rosins 94 = .ok (.invokestatic 124, 3) := dk_184 0 124 (dk_at dksX2_rosins_4 4 rfl rfl)
theorem dX2_rosins_97 : decode cX2_rosins 97 = .ok (.istore 5, 2) := dk_54 5 (dk_at dksX2_rosins_4 7 rfl rfl)
theorem dX2_rosins_99 : decode cX2_rosins 99 = .ok (.aload 4, 2) := dk_25 4 (dk_at dksX2_rosins_4 9 rfl rfl)
theorem dX2_rosins_101 : decode cX2_rosins 101 = .ok (.dup, 1) := dk_89 (dk_at dksX2_rosins_4 11 rfl rfl)
theorem dX2_rosins_102 : decode cX2_rosins 102 = .ok (.getfield 172, 3) := dk_180 0 172 (dk_at dksX2_rosins_4 12 rfl rfl)
theorem dX2_rosins_105 : decode cX2_rosins 105 = .ok (.iload 5, 2) := dk_21 5 (dk_at dksX2_rosins_4 15 rfl rfl)
theorem dX2_rosins_107 : decode cX2_rosins 107 = .ok (.isub, 1) := dk_100 (dk_at dksX2_rosins_4 17 rfl rfl)
theorem dX2_rosins_108 : decode cX2_rosins 108 = .ok (.putfield 172, 3) := dk_181 0 172 (dk_at dksX2_rosins_4 18 rfl rfl)
theorem dX2_rosins_111 : decode cX2_rosins 111 = .ok (.aload_n 3, 1) := dk_45 (dk_at dksX2_rosins_4 21 rfl rfl)
theorem dX2_rosins_112 : decode cX2_rosins 112 = .ok (.dup, 1) := dk_89 (dk_at dksX2_rosins_4 22 rfl rfl)
theorem dX2_rosins_113 : decode cX2_rosins 113 = .ok (.getfield 157, 3) := dk_180 0 157 (dk_at dksX2_rosins_5 0 rfl rfl)
theorem dX2_rosins_116 : decode cX2_rosins 116 = .ok (.iload 5, 2) := dk_21 5 (dk_at dksX2_rosins_5 3 rfl rfl)
theorem dX2_rosins_118 : decode cX2_rosins 118 = .ok (.iadd, 1) := dk_96 (dk_at dksX2_rosins_5 5 rfl rfl)
theorem dX2_rosins_119 : decode cX2_rosins 119 = .ok (.putfield 157, 3) := dk_181 0 157 (dk_at dksX2_rosins_5 6 rfl rfl)
theorem dX2_rosins_122 : decode cX2_rosins 122 = .ok (.aload_n 3, 1) := dk_45 (dk_at dksX2_rosins_5 9 rfl rfl)
theorem dX2_rosins_123 : decode cX2_rosins 123 = .ok (.getfield 157, 3) := dk_180 0 157 (dk_at dksX2_rosins_5 10 rfl rfl)
theorem dX2_rosins_126 : decode cX2_rosins 126 = .ok (.ireturn, 1) := dk_172 (dk_at dksX2_rosins_5 13 rfl rfl)
abbrev cX2_plays : ByteArray := prog_14_method_15_code
def yX2_plays : MethodName := ⟨RX2, "plays", "(II)I"⟩
def dkwX2_plays_3 : List UInt8 := [172]
abbrev dktX2_plays_3 : List UInt8 := dkwX2_plays_3 ++ []
def dkwX2_plays_2 : List UInt8 := [153, 0, 22, 42, 89, 180, 0, 58, 45, 182, 0, 179, 96, 181, 0, 58, 132, 4, 1, 167, 255, 227, 21, 4]
abbrev dktX2_plays_2 : List UInt8 := dkwX2_plays_2 ++ dktX2_plays_3
def dkwX2_plays_1 : List UInt8 := [16, 10, 45, 180, 0, 156, 184, 0, 74, 3, 54, 4, 21, 4, 28, 162, 0, 29, 45, 182, 0, 175]
abbrev dktX2_plays_1 : List UInt8 := dkwX2_plays_1 ++ dktX2_plays_2
def dkwX2_plays_0 : List UInt8 := [42, 180, 0, 34, 27, 182, 0, 108, 192, 0, 144, 78, 28, 4, 17, 0, 200, 184, 0, 90, 45, 182, 0, 175]
abbrev dktX2_plays_0 : List UInt8 := dkwX2_plays_0 ++ dktX2_plays_1
theorem dksX2_plays_0 : cX2_plays.data.toList.drop 0 = dktX2_plays_0 := by decide +kernel
theorem dksX2_plays_1 : cX2_plays.data.toList.drop 24 = dktX2_plays_1 := dk_seg dksX2_plays_0 24 rfl rfl
theorem dksX2_plays_2 : cX2_plays.data.toList.drop 46 = dktX2_plays_2 := dk_seg dksX2_plays_1 22 rfl rfl
theorem dksX2_plays_3 : cX2_plays.data.toList.drop 70 = dktX2_plays_3 := dk_seg dksX2_plays_2 24 rfl rfl
theorem dX2_plays_0 : decode cX2_plays 0 = .ok (.aload_n 0, 1) := dk_42 (dk_at dksX2_plays_0 0 rfl rfl)
theorem dX2_plays_1 : decode cX2_plays 1 = .ok (.getfield 34, 3) := dk_180 0 34 (dk_at dksX2_plays_0 1 rfl rfl)
theorem dX2_plays_4 : decode cX2_plays 4 = .ok (.iload_n 1, 1) := dk_27 (dk_at dksX2_plays_0 4 rfl rfl)
theorem dX2_plays_5 : decode cX2_plays 5 = .ok (.invokevirtual 108, 3) := dk_182 0 108 (dk_at dksX2_plays_0 5 rfl rfl)
theorem dX2_plays_8 : decode cX2_plays 8 = .ok (.checkcast 144, 3) := dk_192 0 144 (dk_at dksX2_plays_0 8 rfl rfl)
theorem dX2_plays_11 : decode cX2_plays 11 = .ok (.astore_n 3, 1) := dk_78 (dk_at dksX2_plays_0 11 rfl rfl)
theorem dX2_plays_12 : decode cX2_plays 12 = .ok (.iload_n 2, 1) := dk_28 (dk_at dksX2_plays_0 12 rfl rfl)
theorem dX2_plays_13 : decode cX2_plays 13 = .ok (.iconst 1, 1) := dk_4 (dk_at dksX2_plays_0 13 rfl rfl)
theorem dX2_plays_14 : decode cX2_plays 14 = .ok (.sipush 200, 3) := dk_17 0 200 (dk_at dksX2_plays_0 14 rfl rfl)
theorem dX2_plays_17 : decode cX2_plays 17 = .ok (.invokestatic 90, 3) := dk_184 0 90 (dk_at dksX2_plays_0 17 rfl rfl)
theorem dX2_plays_20 : decode cX2_plays 20 = .ok (.aload_n 3, 1) := dk_45 (dk_at dksX2_plays_0 20 rfl rfl)
theorem dX2_plays_21 : decode cX2_plays 21 = .ok (.invokevirtual 175, 3) := dk_182 0 175 (dk_at dksX2_plays_0 21 rfl rfl)
theorem dX2_plays_24 : decode cX2_plays 24 = .ok (.bipush 10, 2) := dk_16 10 (dk_at dksX2_plays_1 0 rfl rfl)
theorem dX2_plays_26 : decode cX2_plays 26 = .ok (.aload_n 3, 1) := dk_45 (dk_at dksX2_plays_1 2 rfl rfl)
theorem dX2_plays_27 : decode cX2_plays 27 = .ok (.getfield 156, 3) := dk_180 0 156 (dk_at dksX2_plays_1 3 rfl rfl)
theorem dX2_plays_30 : decode cX2_plays 30 = .ok (.invokestatic 74, 3) := dk_184 0 74 (dk_at dksX2_plays_1 6 rfl rfl)
theorem dX2_plays_33 : decode cX2_plays 33 = .ok (.iconst 0, 1) := dk_3 (dk_at dksX2_plays_1 9 rfl rfl)
theorem dX2_plays_34 : decode cX2_plays 34 = .ok (.istore 4, 2) := dk_54 4 (dk_at dksX2_plays_1 10 rfl rfl)
theorem dX2_plays_36 : decode cX2_plays 36 = .ok (.iload 4, 2) := dk_21 4 (dk_at dksX2_plays_1 12 rfl rfl)
theorem dX2_plays_38 : decode cX2_plays 38 = .ok (.iload_n 2, 1) := dk_28 (dk_at dksX2_plays_1 14 rfl rfl)
theorem dX2_plays_39 : decode cX2_plays 39 = .ok (.if_icmp .ge 29, 3) := dk_162 0 29 (dk_at dksX2_plays_1 15 rfl rfl)
theorem dX2_plays_42 : decode cX2_plays 42 = .ok (.aload_n 3, 1) := dk_45 (dk_at dksX2_plays_1 18 rfl rfl)
theorem dX2_plays_43 : decode cX2_plays 43 = .ok (.invokevirtual 175, 3) := dk_182 0 175 (dk_at dksX2_plays_1 19 rfl rfl)
theorem dX2_plays_46 : decode cX2_plays 46 = .ok (.ifCond .eq 22, 3) := dk_153 0 22 (dk_at dksX2_plays_2 0 rfl rfl)
theorem dX2_plays_49 : decode cX2_plays 49 = .ok (.aload_n 0, 1) := dk_42 (dk_at dksX2_plays_2 3 rfl rfl)
theorem dX2_plays_50 : decode cX2_plays 50 = .ok (.dup, 1) := dk_89 (dk_at dksX2_plays_2 4 rfl rfl)
theorem dX2_plays_51 : decode cX2_plays 51 = .ok (.getfield 58, 3) := dk_180 0 58 (dk_at dksX2_plays_2 5 rfl rfl)
theorem dX2_plays_54 : decode cX2_plays 54 = .ok (.aload_n 3, 1) := dk_45 (dk_at dksX2_plays_2 8 rfl rfl)
theorem dX2_plays_55 : decode cX2_plays 55 = .ok (.invokevirtual 179, 3) := dk_182 0 179 (dk_at dksX2_plays_2 9 rfl rfl)
theorem dX2_plays_58 : decode cX2_plays 58 = .ok (.iadd, 1) := dk_96 (dk_at dksX2_plays_2 12 rfl rfl)
theorem dX2_plays_59 : decode cX2_plays 59 = .ok (.putfield 58, 3) := dk_181 0 58 (dk_at dksX2_plays_2 13 rfl rfl)
theorem dX2_plays_62 : decode cX2_plays 62 = .ok (.iinc 4 1, 3) := dk_132 4 1 (dk_at dksX2_plays_2 16 rfl rfl)
theorem dX2_plays_65 : decode cX2_plays 65 = .ok (.goto (-29), 3) := dk_167 255 227 (dk_at dksX2_plays_2 19 rfl rfl)
theorem dX2_plays_68 : decode cX2_plays 68 = .ok (.iload 4, 2) := dk_21 4 (dk_at dksX2_plays_2 22 rfl rfl)
theorem dX2_plays_70 : decode cX2_plays 70 = .ok (.ireturn, 1) := dk_172 (dk_at dksX2_plays_3 0 rfl rfl)
abbrev cX2_isRoad : ByteArray := prog_14_method_16_code
def yX2_isRoad : MethodName := ⟨RX2, "isRoad", "(II)I"⟩
def dkwX2_isRoad_1 : List UInt8 := [42, 180, 0, 15, 27, 28, 79, 29, 172]
abbrev dktX2_isRoad_1 : List UInt8 := dkwX2_isRoad_1 ++ []
def dkwX2_isRoad_0 : List UInt8 := [27, 3, 8, 184, 0, 182, 5, 27, 184, 0, 74, 28, 4, 8, 184, 0, 90, 42, 180, 0, 15, 27, 46, 62]
abbrev dktX2_isRoad_0 : List UInt8 := dkwX2_isRoad_0 ++ dktX2_isRoad_1
theorem dksX2_isRoad_0 : cX2_isRoad.data.toList.drop 0 = dktX2_isRoad_0 := by decide +kernel
theorem dksX2_isRoad_1 : cX2_isRoad.data.toList.drop 24 = dktX2_isRoad_1 := dk_seg dksX2_isRoad_0 24 rfl rfl
theorem dX2_isRoad_0 : decode cX2_isRoad 0 = .ok (.iload_n 1, 1) := dk_27 (dk_at dksX2_isRoad_0 0 rfl rfl)
theorem dX2_isRoad_1 : decode cX2_isRoad 1 = .ok (.iconst 0, 1) := dk_3 (dk_at dksX2_isRoad_0 1 rfl rfl)
theorem dX2_isRoad_2 : decode cX2_isRoad 2 = .ok (.iconst 5, 1) := dk_8 (dk_at dksX2_isRoad_0 2 rfl rfl)
theorem dX2_isRoad_3 : decode cX2_isRoad 3 = .ok (.invokestatic 182, 3) := dk_184 0 182 (dk_at dksX2_isRoad_0 3 rfl rfl)
theorem dX2_isRoad_6 : decode cX2_isRoad 6 = .ok (.iconst 2, 1) := dk_5 (dk_at dksX2_isRoad_0 6 rfl rfl)
theorem dX2_isRoad_7 : decode cX2_isRoad 7 = .ok (.iload_n 1, 1) := dk_27 (dk_at dksX2_isRoad_0 7 rfl rfl)
theorem dX2_isRoad_8 : decode cX2_isRoad 8 = .ok (.invokestatic 74, 3) := dk_184 0 74 (dk_at dksX2_isRoad_0 8 rfl rfl)
theorem dX2_isRoad_11 : decode cX2_isRoad 11 = .ok (.iload_n 2, 1) := dk_28 (dk_at dksX2_isRoad_0 11 rfl rfl)
theorem dX2_isRoad_12 : decode cX2_isRoad 12 = .ok (.iconst 1, 1) := dk_4 (dk_at dksX2_isRoad_0 12 rfl rfl)
theorem dX2_isRoad_13 : decode cX2_isRoad 13 = .ok (.iconst 5, 1) := dk_8 (dk_at dksX2_isRoad_0 13 rfl rfl)
theorem dX2_isRoad_14 : decode cX2_isRoad 14 = .ok (.invokestatic 90, 3) := dk_184 0 90 (dk_at dksX2_isRoad_0 14 rfl rfl)
theorem dX2_isRoad_17 : decode cX2_isRoad 17 = .ok (.aload_n 0, 1) := dk_42 (dk_at dksX2_isRoad_0 17 rfl rfl)
theorem dX2_isRoad_18 : decode cX2_isRoad 18 = .ok (.getfield 15, 3) := dk_180 0 15 (dk_at dksX2_isRoad_0 18 rfl rfl)
theorem dX2_isRoad_21 : decode cX2_isRoad 21 = .ok (.iload_n 1, 1) := dk_27 (dk_at dksX2_isRoad_0 21 rfl rfl)
theorem dX2_isRoad_22 : decode cX2_isRoad 22 = .ok (.iaload, 1) := dk_46 (dk_at dksX2_isRoad_0 22 rfl rfl)
theorem dX2_isRoad_23 : decode cX2_isRoad 23 = .ok (.istore_n 3, 1) := dk_62 (dk_at dksX2_isRoad_0 23 rfl rfl)
theorem dX2_isRoad_24 : decode cX2_isRoad 24 = .ok (.aload_n 0, 1) := dk_42 (dk_at dksX2_isRoad_1 0 rfl rfl)
theorem dX2_isRoad_25 : decode cX2_isRoad 25 = .ok (.getfield 15, 3) := dk_180 0 15 (dk_at dksX2_isRoad_1 1 rfl rfl)
theorem dX2_isRoad_28 : decode cX2_isRoad 28 = .ok (.iload_n 1, 1) := dk_27 (dk_at dksX2_isRoad_1 4 rfl rfl)
theorem dX2_isRoad_29 : decode cX2_isRoad 29 = .ok (.iload_n 2, 1) := dk_28 (dk_at dksX2_isRoad_1 5 rfl rfl)
theorem dX2_isRoad_30 : decode cX2_isRoad 30 = .ok (.iastore, 1) := dk_79 (dk_at dksX2_isRoad_1 6 rfl rfl)
theorem dX2_isRoad_31 : decode cX2_isRoad 31 = .ok (.iload_n 3, 1) := dk_29 (dk_at dksX2_isRoad_1 7 rfl rfl)
theorem dX2_isRoad_32 : decode cX2_isRoad 32 = .ok (.ireturn, 1) := dk_172 (dk_at dksX2_isRoad_1 8 rfl rfl)
abbrev cX2_walks : ByteArray := prog_14_method_17_code
def yX2_walks : MethodName := ⟨RX2, "walks", "(I)I"⟩
def dkwX2_walks_2 : List UInt8 := [167, 255, 217, 42, 180, 0, 67, 172]
abbrev dktX2_walks_2 : List UInt8 := dkwX2_walks_2 ++ []
def dkwX2_walks_1 : List UInt8 := [180, 0, 67, 46, 96, 181, 0, 64, 42, 42, 180, 0, 67, 4, 96, 16, 6, 112, 181, 0, 67, 132, 2, 1]
abbrev dktX2_walks_1 : List UInt8 := dkwX2_walks_1 ++ dktX2_walks_2
def dkwX2_walks_0 : List UInt8 := [27, 4, 16, 9, 184, 0, 90, 3, 61, 28, 27, 162, 0, 40, 42, 89, 180, 0, 64, 42, 180, 0, 15, 42]
abbrev dktX2_walks_0 : List UInt8 := dkwX2_walks_0 ++ dktX2_walks_1
theorem dksX2_walks_0 : cX2_walks.data.toList.drop 0 = dktX2_walks_0 := by decide +kernel
theorem dksX2_walks_1 : cX2_walks.data.toList.drop 24 = dktX2_walks_1 := dk_seg dksX2_walks_0 24 rfl rfl
theorem dksX2_walks_2 : cX2_walks.data.toList.drop 48 = dktX2_walks_2 := dk_seg dksX2_walks_1 24 rfl rfl
theorem dX2_walks_0 : decode cX2_walks 0 = .ok (.iload_n 1, 1) := dk_27 (dk_at dksX2_walks_0 0 rfl rfl)
theorem dX2_walks_1 : decode cX2_walks 1 = .ok (.iconst 1, 1) := dk_4 (dk_at dksX2_walks_0 1 rfl rfl)
theorem dX2_walks_2 : decode cX2_walks 2 = .ok (.bipush 9, 2) := dk_16 9 (dk_at dksX2_walks_0 2 rfl rfl)
theorem dX2_walks_4 : decode cX2_walks 4 = .ok (.invokestatic 90, 3) := dk_184 0 90 (dk_at dksX2_walks_0 4 rfl rfl)
theorem dX2_walks_7 : decode cX2_walks 7 = .ok (.iconst 0, 1) := dk_3 (dk_at dksX2_walks_0 7 rfl rfl)
theorem dX2_walks_8 : decode cX2_walks 8 = .ok (.istore_n 2, 1) := dk_61 (dk_at dksX2_walks_0 8 rfl rfl)
theorem dX2_walks_9 : decode cX2_walks 9 = .ok (.iload_n 2, 1) := dk_28 (dk_at dksX2_walks_0 9 rfl rfl)
theorem dX2_walks_10 : decode cX2_walks 10 = .ok (.iload_n 1, 1) := dk_27 (dk_at dksX2_walks_0 10 rfl rfl)
theorem dX2_walks_11 : decode cX2_walks 11 = .ok (.if_icmp .ge 40, 3) := dk_162 0 40 (dk_at dksX2_walks_0 11 rfl rfl)
theorem dX2_walks_14 : decode cX2_walks 14 = .ok (.aload_n 0, 1) := dk_42 (dk_at dksX2_walks_0 14 rfl rfl)
theorem dX2_walks_15 : decode cX2_walks 15 = .ok (.dup, 1) := dk_89 (dk_at dksX2_walks_0 15 rfl rfl)
theorem dX2_walks_16 : decode cX2_walks 16 = .ok (.getfield 64, 3) := dk_180 0 64 (dk_at dksX2_walks_0 16 rfl rfl)
theorem dX2_walks_19 : decode cX2_walks 19 = .ok (.aload_n 0, 1) := dk_42 (dk_at dksX2_walks_0 19 rfl rfl)
theorem dX2_walks_20 : decode cX2_walks 20 = .ok (.getfield 15, 3) := dk_180 0 15 (dk_at dksX2_walks_0 20 rfl rfl)
theorem dX2_walks_23 : decode cX2_walks 23 = .ok (.aload_n 0, 1) := dk_42 (dk_at dksX2_walks_0 23 rfl rfl)
theorem dX2_walks_24 : decode cX2_walks 24 = .ok (.getfield 67, 3) := dk_180 0 67 (dk_at dksX2_walks_1 0 rfl rfl)
theorem dX2_walks_27 : decode cX2_walks 27 = .ok (.iaload, 1) := dk_46 (dk_at dksX2_walks_1 3 rfl rfl)
theorem dX2_walks_28 : decode cX2_walks 28 = .ok (.iadd, 1) := dk_96 (dk_at dksX2_walks_1 4 rfl rfl)
theorem dX2_walks_29 : decode cX2_walks 29 = .ok (.putfield 64, 3) := dk_181 0 64 (dk_at dksX2_walks_1 5 rfl rfl)
theorem dX2_walks_32 : decode cX2_walks 32 = .ok (.aload_n 0, 1) := dk_42 (dk_at dksX2_walks_1 8 rfl rfl)
theorem dX2_walks_33 : decode cX2_walks 33 = .ok (.aload_n 0, 1) := dk_42 (dk_at dksX2_walks_1 9 rfl rfl)
theorem dX2_walks_34 : decode cX2_walks 34 = .ok (.getfield 67, 3) := dk_180 0 67 (dk_at dksX2_walks_1 10 rfl rfl)
theorem dX2_walks_37 : decode cX2_walks 37 = .ok (.iconst 1, 1) := dk_4 (dk_at dksX2_walks_1 13 rfl rfl)
theorem dX2_walks_38 : decode cX2_walks 38 = .ok (.iadd, 1) := dk_96 (dk_at dksX2_walks_1 14 rfl rfl)
theorem dX2_walks_39 : decode cX2_walks 39 = .ok (.bipush 6, 2) := dk_16 6 (dk_at dksX2_walks_1 15 rfl rfl)
theorem dX2_walks_41 : decode cX2_walks 41 = .ok (.irem, 1) := dk_112 (dk_at dksX2_walks_1 17 rfl rfl)
theorem dX2_walks_42 : decode cX2_walks 42 = .ok (.putfield 67, 3) := dk_181 0 67 (dk_at dksX2_walks_1 18 rfl rfl)
theorem dX2_walks_45 : decode cX2_walks 45 = .ok (.iinc 2 1, 3) := dk_132 2 1 (dk_at dksX2_walks_1 21 rfl rfl)
theorem dX2_walks_48 : decode cX2_walks 48 = .ok (.goto (-39), 3) := dk_167 255 217 (dk_at dksX2_walks_2 0 rfl rfl)
theorem dX2_walks_51 : decode cX2_walks 51 = .ok (.aload_n 0, 1) := dk_42 (dk_at dksX2_walks_2 3 rfl rfl)
theorem dX2_walks_52 : decode cX2_walks 52 = .ok (.getfield 67, 3) := dk_180 0 67 (dk_at dksX2_walks_2 4 rfl rfl)
theorem dX2_walks_55 : decode cX2_walks 55 = .ok (.ireturn, 1) := dk_172 (dk_at dksX2_walks_2 7 rfl rfl)
abbrev cX2_sells : ByteArray := prog_14_method_18_code
def yX2_sells : MethodName := ⟨RX2, "sells", "(I)I"⟩
def dkwX2_sells_3 : List UInt8 := [181, 0, 18, 28, 172]
abbrev dktX2_sells_3 : List UInt8 := dkwX2_sells_3 ++ []
def dkwX2_sells_2 : List UInt8 := [27, 92, 46, 4, 100, 79, 42, 89, 180, 0, 49, 4, 96, 181, 0, 49, 42, 89, 180, 0, 18, 28, 96]
abbrev dktX2_sells_2 : List UInt8 := dkwX2_sells_2 ++ dktX2_sells_3
def dkwX2_sells_1 : List UInt8 := [184, 0, 74, 6, 27, 96, 42, 182, 0, 186, 153, 0, 7, 5, 167, 0, 4, 4, 104, 61, 42, 180, 0, 9]
abbrev dktX2_sells_1 : List UInt8 := dkwX2_sells_1 ++ dktX2_sells_2
def dkwX2_sells_0 : List UInt8 := [27, 4, 16, 9, 184, 0, 90, 42, 180, 0, 9, 27, 46, 158, 0, 7, 4, 167, 0, 4, 3, 16, 9, 27]
abbrev dktX2_sells_0 : List UInt8 := dkwX2_sells_0 ++ dktX2_sells_1
theorem dksX2_sells_0 : cX2_sells.data.toList.drop 0 = dktX2_sells_0 := by decide +kernel
theorem dksX2_sells_1 : cX2_sells.data.toList.drop 24 = dktX2_sells_1 := dk_seg dksX2_sells_0 24 rfl rfl
theorem dksX2_sells_2 : cX2_sells.data.toList.drop 48 = dktX2_sells_2 := dk_seg dksX2_sells_1 24 rfl rfl
theorem dksX2_sells_3 : cX2_sells.data.toList.drop 71 = dktX2_sells_3 := dk_seg dksX2_sells_2 23 rfl rfl
theorem dX2_sells_0 : decode cX2_sells 0 = .ok (.iload_n 1, 1) := dk_27 (dk_at dksX2_sells_0 0 rfl rfl)
theorem dX2_sells_1 : decode cX2_sells 1 = .ok (.iconst 1, 1) := dk_4 (dk_at dksX2_sells_0 1 rfl rfl)
theorem dX2_sells_2 : decode cX2_sells 2 = .ok (.bipush 9, 2) := dk_16 9 (dk_at dksX2_sells_0 2 rfl rfl)
theorem dX2_sells_4 : decode cX2_sells 4 = .ok (.invokestatic 90, 3) := dk_184 0 90 (dk_at dksX2_sells_0 4 rfl rfl)
theorem dX2_sells_7 : decode cX2_sells 7 = .ok (.aload_n 0, 1) := dk_42 (dk_at dksX2_sells_0 7 rfl rfl)
theorem dX2_sells_8 : decode cX2_sells 8 = .ok (.getfield 9, 3) := dk_180 0 9 (dk_at dksX2_sells_0 8 rfl rfl)
theorem dX2_sells_11 : decode cX2_sells 11 = .ok (.iload_n 1, 1) := dk_27 (dk_at dksX2_sells_0 11 rfl rfl)
theorem dX2_sells_12 : decode cX2_sells 12 = .ok (.iaload, 1) := dk_46 (dk_at dksX2_sells_0 12 rfl rfl)
theorem dX2_sells_13 : decode cX2_sells 13 = .ok (.ifCond .le 7, 3) := dk_158 0 7 (dk_at dksX2_sells_0 13 rfl rfl)
theorem dX2_sells_16 : decode cX2_sells 16 = .ok (.iconst 1, 1) := dk_4 (dk_at dksX2_sells_0 16 rfl rfl)
theorem dX2_sells_17 : decode cX2_sells 17 = .ok (.goto 4, 3) := dk_167 0 4 (dk_at dksX2_sells_0 17 rfl rfl)
theorem dX2_sells_20 : decode cX2_sells 20 = .ok (.iconst 0, 1) := dk_3 (dk_at dksX2_sells_0 20 rfl rfl)
theorem dX2_sells_21 : decode cX2_sells 21 = .ok (.bipush 9, 2) := dk_16 9 (dk_at dksX2_sells_0 21 rfl rfl)
theorem dX2_sells_23 : decode cX2_sells 23 = .ok (.iload_n 1, 1) := dk_27 (dk_at dksX2_sells_0 23 rfl rfl)
theorem dX2_sells_24 : decode cX2_sells 24 = .ok (.invokestatic 74, 3) := dk_184 0 74 (dk_at dksX2_sells_1 0 rfl rfl)
theorem dX2_sells_27 : decode cX2_sells 27 = .ok (.iconst 3, 1) := dk_6 (dk_at dksX2_sells_1 3 rfl rfl)
theorem dX2_sells_28 : decode cX2_sells 28 = .ok (.iload_n 1, 1) := dk_27 (dk_at dksX2_sells_1 4 rfl rfl)
theorem dX2_sells_29 : decode cX2_sells 29 = .ok (.iadd, 1) := dk_96 (dk_at dksX2_sells_1 5 rfl rfl)
theorem dX2_sells_30 : decode cX2_sells 30 = .ok (.aload_n 0, 1) := dk_42 (dk_at dksX2_sells_1 6 rfl rfl)
theorem dX2_sells_31 : decode cX2_sells 31 = .ok (.invokevirtual 186, 3) := dk_182 0 186 (dk_at dksX2_sells_1 7 rfl rfl)
theorem dX2_sells_34 : decode cX2_sells 34 = .ok (.ifCond .eq 7, 3) := dk_153 0 7 (dk_at dksX2_sells_1 10 rfl rfl)
theorem dX2_sells_37 : decode cX2_sells 37 = .ok (.iconst 2, 1) := dk_5 (dk_at dksX2_sells_1 13 rfl rfl)
theorem dX2_sells_38 : decode cX2_sells 38 = .ok (.goto 4, 3) := dk_167 0 4 (dk_at dksX2_sells_1 14 rfl rfl)
theorem dX2_sells_41 : decode cX2_sells 41 = .ok (.iconst 1, 1) := dk_4 (dk_at dksX2_sells_1 17 rfl rfl)
theorem dX2_sells_42 : decode cX2_sells 42 = .ok (.imul, 1) := dk_104 (dk_at dksX2_sells_1 18 rfl rfl)
theorem dX2_sells_43 : decode cX2_sells 43 = .ok (.istore_n 2, 1) := dk_61 (dk_at dksX2_sells_1 19 rfl rfl)
theorem dX2_sells_44 : decode cX2_sells 44 = .ok (.aload_n 0, 1) := dk_42 (dk_at dksX2_sells_1 20 rfl rfl)
theorem dX2_sells_45 : decode cX2_sells 45 = .ok (.getfield 9, 3) := dk_180 0 9 (dk_at dksX2_sells_1 21 rfl rfl)
theorem dX2_sells_48 : decode cX2_sells 48 = .ok (.iload_n 1, 1) := dk_27 (dk_at dksX2_sells_2 0 rfl rfl)
theorem dX2_sells_49 : decode cX2_sells 49 = .ok (.dup2, 1) := dk_92 (dk_at dksX2_sells_2 1 rfl rfl)
theorem dX2_sells_50 : decode cX2_sells 50 = .ok (.iaload, 1) := dk_46 (dk_at dksX2_sells_2 2 rfl rfl)
theorem dX2_sells_51 : decode cX2_sells 51 = .ok (.iconst 1, 1) := dk_4 (dk_at dksX2_sells_2 3 rfl rfl)
theorem dX2_sells_52 : decode cX2_sells 52 = .ok (.isub, 1) := dk_100 (dk_at dksX2_sells_2 4 rfl rfl)
theorem dX2_sells_53 : decode cX2_sells 53 = .ok (.iastore, 1) := dk_79 (dk_at dksX2_sells_2 5 rfl rfl)
theorem dX2_sells_54 : decode cX2_sells 54 = .ok (.aload_n 0, 1) := dk_42 (dk_at dksX2_sells_2 6 rfl rfl)
theorem dX2_sells_55 : decode cX2_sells 55 = .ok (.dup, 1) := dk_89 (dk_at dksX2_sells_2 7 rfl rfl)
theorem dX2_sells_56 : decode cX2_sells 56 = .ok (.getfield 49, 3) := dk_180 0 49 (dk_at dksX2_sells_2 8 rfl rfl)
theorem dX2_sells_59 : decode cX2_sells 59 = .ok (.iconst 1, 1) := dk_4 (dk_at dksX2_sells_2 11 rfl rfl)
theorem dX2_sells_60 : decode cX2_sells 60 = .ok (.iadd, 1) := dk_96 (dk_at dksX2_sells_2 12 rfl rfl)
theorem dX2_sells_61 : decode cX2_sells 61 = .ok (.putfield 49, 3) := dk_181 0 49 (dk_at dksX2_sells_2 13 rfl rfl)
theorem dX2_sells_64 : decode cX2_sells 64 = .ok (.aload_n 0, 1) := dk_42 (dk_at dksX2_sells_2 16 rfl rfl)
theorem dX2_sells_65 : decode cX2_sells 65 = .ok (.dup, 1) := dk_89 (dk_at dksX2_sells_2 17 rfl rfl)
theorem dX2_sells_66 : decode cX2_sells 66 = .ok (.getfield 18, 3) := dk_180 0 18 (dk_at dksX2_sells_2 18 rfl rfl)
theorem dX2_sells_69 : decode cX2_sells 69 = .ok (.iload_n 2, 1) := dk_28 (dk_at dksX2_sells_2 21 rfl rfl)
theorem dX2_sells_70 : decode cX2_sells 70 = .ok (.iadd, 1) := dk_96 (dk_at dksX2_sells_2 22 rfl rfl)
theorem dX2_sells_71 : decode cX2_sells 71 = .ok (.putfield 18, 3) := dk_181 0 18 (dk_at dksX2_sells_3 0 rfl rfl)
theorem dX2_sells_74 : decode cX2_sells 74 = .ok (.iload_n 2, 1) := dk_28 (dk_at dksX2_sells_3 3 rfl rfl)
theorem dX2_sells_75 : decode cX2_sells 75 = .ok (.ireturn, 1) := dk_172 (dk_at dksX2_sells_3 4 rfl rfl)
abbrev cX2_isFair : ByteArray := prog_14_method_4_code
def yX2_isFair : MethodName := ⟨RX2, "isFair", "()Z"⟩
def dkwX2_isFair_0 : List UInt8 := [42, 180, 0, 64, 42, 180, 0, 67, 184, 0, 70, 172]
abbrev dktX2_isFair_0 : List UInt8 := dkwX2_isFair_0 ++ []
theorem dksX2_isFair_0 : cX2_isFair.data.toList.drop 0 = dktX2_isFair_0 := by decide +kernel
theorem dX2_isFair_0 : decode cX2_isFair 0 = .ok (.aload_n 0, 1) := dk_42 (dk_at dksX2_isFair_0 0 rfl rfl)
theorem dX2_isFair_1 : decode cX2_isFair 1 = .ok (.getfield 64, 3) := dk_180 0 64 (dk_at dksX2_isFair_0 1 rfl rfl)
theorem dX2_isFair_4 : decode cX2_isFair 4 = .ok (.aload_n 0, 1) := dk_42 (dk_at dksX2_isFair_0 4 rfl rfl)
theorem dX2_isFair_5 : decode cX2_isFair 5 = .ok (.getfield 67, 3) := dk_180 0 67 (dk_at dksX2_isFair_0 5 rfl rfl)
theorem dX2_isFair_8 : decode cX2_isFair 8 = .ok (.invokestatic 70, 3) := dk_184 0 70 (dk_at dksX2_isFair_0 8 rfl rfl)
theorem dX2_isFair_11 : decode cX2_isFair 11 = .ok (.ireturn, 1) := dk_172 (dk_at dksX2_isFair_0 11 rfl rfl)
abbrev cX2_isPaidFor : ByteArray := prog_14_method_19_code
def yX2_isPaidFor : MethodName := ⟨RX2, "isPaidFor", "(I)I"⟩
def dkwX2_isPaidFor_4 : List UInt8 := [178, 0, 193, 44, 180, 0, 163, 46, 172]
abbrev dktX2_isPaidFor_4 : List UInt8 := dkwX2_isPaidFor_4 ++ []
def dkwX2_isPaidFor_3 : List UInt8 := [44, 4, 181, 0, 189, 42, 89, 180, 0, 18, 178, 0, 193, 44, 180, 0, 163, 46, 96, 181, 0, 18]
abbrev dktX2_isPaidFor_3 : List UInt8 := dkwX2_isPaidFor_3 ++ dktX2_isPaidFor_4
def dkwX2_isPaidFor_2 : List UInt8 := [180, 0, 150, 46, 16, 20, 100, 161, 0, 7, 4, 167, 0, 4, 3, 16, 10, 44, 180, 0, 156, 184, 0, 74]
abbrev dktX2_isPaidFor_2 : List UInt8 := dkwX2_isPaidFor_2 ++ dktX2_isPaidFor_3
def dkwX2_isPaidFor_1 : List UInt8 := [16, 13, 27, 184, 0, 74, 44, 180, 0, 163, 2, 159, 0, 25, 44, 180, 0, 156, 178, 0, 153, 44]
abbrev dktX2_isPaidFor_1 : List UInt8 := dkwX2_isPaidFor_1 ++ dktX2_isPaidFor_2
def dkwX2_isPaidFor_0 : List UInt8 := [42, 180, 0, 34, 27, 182, 0, 108, 192, 0, 144, 77, 44, 180, 0, 189, 154, 0, 7, 4, 167, 0, 4, 3]
abbrev dktX2_isPaidFor_0 : List UInt8 := dkwX2_isPaidFor_0 ++ dktX2_isPaidFor_1
theorem dksX2_isPaidFor_0 : cX2_isPaidFor.data.toList.drop 0 = dktX2_isPaidFor_0 := by decide +kernel
theorem dksX2_isPaidFor_1 : cX2_isPaidFor.data.toList.drop 24 = dktX2_isPaidFor_1 := dk_seg dksX2_isPaidFor_0 24 rfl rfl
theorem dksX2_isPaidFor_2 : cX2_isPaidFor.data.toList.drop 46 = dktX2_isPaidFor_2 := dk_seg dksX2_isPaidFor_1 22 rfl rfl
theorem dksX2_isPaidFor_3 : cX2_isPaidFor.data.toList.drop 70 = dktX2_isPaidFor_3 := dk_seg dksX2_isPaidFor_2 24 rfl rfl
theorem dksX2_isPaidFor_4 : cX2_isPaidFor.data.toList.drop 92 = dktX2_isPaidFor_4 := dk_seg dksX2_isPaidFor_3 22 rfl rfl
theorem dX2_isPaidFor_0 : decode cX2_isPaidFor 0 = .ok (.aload_n 0, 1) := dk_42 (dk_at dksX2_isPaidFor_0 0 rfl rfl)
theorem dX2_isPaidFor_1 : decode cX2_isPaidFor 1 = .ok (.getfield 34, 3) := dk_180 0 34 (dk_at dksX2_isPaidFor_0 1 rfl rfl)
theorem dX2_isPaidFor_4 : decode cX2_isPaidFor 4 = .ok (.iload_n 1, 1) := dk_27 (dk_at dksX2_isPaidFor_0 4 rfl rfl)
theorem dX2_isPaidFor_5 : decode cX2_isPaidFor 5 = .ok (.invokevirtual 108, 3) := dk_182 0 108 (dk_at dksX2_isPaidFor_0 5 rfl rfl)
theorem dX2_isPaidFor_8 : decode cX2_isPaidFor 8 = .ok (.checkcast 144, 3) := dk_192 0 144 (dk_at dksX2_isPaidFor_0 8 rfl rfl)
theorem dX2_isPaidFor_11 : decode cX2_isPaidFor 11 = .ok (.astore_n 2, 1) := dk_77 (dk_at dksX2_isPaidFor_0 11 rfl rfl)
theorem dX2_isPaidFor_12 : decode cX2_isPaidFor 12 = .ok (.aload_n 2, 1) := dk_44 (dk_at dksX2_isPaidFor_0 12 rfl rfl)
theorem dX2_isPaidFor_13 : decode cX2_isPaidFor 13 = .ok (.getfield 189, 3) := dk_180 0 189 (dk_at dksX2_isPaidFor_0 13 rfl rfl)
theorem dX2_isPaidFor_16 : decode cX2_isPaidFor 16 = .ok (.ifCond .ne 7, 3) := dk_154 0 7 (dk_at dksX2_isPaidFor_0 16 rfl rfl)
theorem dX2_isPaidFor_19 : decode cX2_isPaidFor 19 = .ok (.iconst 1, 1) := dk_4 (dk_at dksX2_isPaidFor_0 19 rfl rfl)
theorem dX2_isPaidFor_20 : decode cX2_isPaidFor 20 = .ok (.goto 4, 3) := dk_167 0 4 (dk_at dksX2_isPaidFor_0 20 rfl rfl)
theorem dX2_isPaidFor_23 : decode cX2_isPaidFor 23 = .ok (.iconst 0, 1) := dk_3 (dk_at dksX2_isPaidFor_0 23 rfl rfl)
theorem dX2_isPaidFor_24 : decode cX2_isPaidFor 24 = .ok (.bipush 13, 2) := dk_16 13 (dk_at dksX2_isPaidFor_1 0 rfl rfl)
theorem dX2_isPaidFor_26 : decode cX2_isPaidFor 26 = .ok (.iload_n 1, 1) := dk_27 (dk_at dksX2_isPaidFor_1 2 rfl rfl)
theorem dX2_isPaidFor_27 : decode cX2_isPaidFor 27 = .ok (.invokestatic 74, 3) := dk_184 0 74 (dk_at dksX2_isPaidFor_1 3 rfl rfl)
theorem dX2_isPaidFor_30 : decode cX2_isPaidFor 30 = .ok (.aload_n 2, 1) := dk_44 (dk_at dksX2_isPaidFor_1 6 rfl rfl)
theorem dX2_isPaidFor_31 : decode cX2_isPaidFor 31 = .ok (.getfield 163, 3) := dk_180 0 163 (dk_at dksX2_isPaidFor_1 7 rfl rfl)
theorem dX2_isPaidFor_34 : decode cX2_isPaidFor 34 = .ok (.iconst (-1), 1) := dk_2 (dk_at dksX2_isPaidFor_1 10 rfl rfl)
theorem dX2_isPaidFor_35 : decode cX2_isPaidFor 35 = .ok (.if_icmp .eq 25, 3) := dk_159 0 25 (dk_at dksX2_isPaidFor_1 11 rfl rfl)
theorem dX2_isPaidFor_38 : decode cX2_isPaidFor 38 = .ok (.aload_n 2, 1) := dk_44 (dk_at dksX2_isPaidFor_1 14 rfl rfl)
theorem dX2_isPaidFor_39 : decode cX2_isPaidFor 39 = .ok (.getfield 156, 3) := dk_180 0 156 (dk_at dksX2_isPaidFor_1 15 rfl rfl)
theorem dX2_isPaidFor_42 : decode cX2_isPaidFor 42 = .ok (.getstatic 153, 3) := dk_178 0 153 (dk_at dksX2_isPaidFor_1 18 rfl rfl)
theorem dX2_isPaidFor_45 : decode cX2_isPaidFor 45 = .ok (.aload_n 2, 1) := dk_44 (dk_at dksX2_isPaidFor_1 21 rfl rfl)
theorem dX2_isPaidFor_46 : decode cX2_isPaidFor 46 = .ok (.getfield 150, 3) := dk_180 0 150 (dk_at dksX2_isPaidFor_2 0 rfl rfl)
theorem dX2_isPaidFor_49 : decode cX2_isPaidFor 49 = .ok (.iaload, 1) := dk_46 (dk_at dksX2_isPaidFor_2 3 rfl rfl)
theorem dX2_isPaidFor_50 : decode cX2_isPaidFor 50 = .ok (.bipush 20, 2) := dk_16 20 (dk_at dksX2_isPaidFor_2 4 rfl rfl)
theorem dX2_isPaidFor_52 : decode cX2_isPaidFor 52 = .ok (.isub, 1) := dk_100 (dk_at dksX2_isPaidFor_2 6 rfl rfl)
theorem dX2_isPaidFor_53 : decode cX2_isPaidFor 53 = .ok (.if_icmp .lt 7, 3) := dk_161 0 7 (dk_at dksX2_isPaidFor_2 7 rfl rfl)
theorem dX2_isPaidFor_56 : decode cX2_isPaidFor 56 = .ok (.iconst 1, 1) := dk_4 (dk_at dksX2_isPaidFor_2 10 rfl rfl)
theorem dX2_isPaidFor_57 : decode cX2_isPaidFor 57 = .ok (.goto 4, 3) := dk_167 0 4 (dk_at dksX2_isPaidFor_2 11 rfl rfl)
theorem dX2_isPaidFor_60 : decode cX2_isPaidFor 60 = .ok (.iconst 0, 1) := dk_3 (dk_at dksX2_isPaidFor_2 14 rfl rfl)
theorem dX2_isPaidFor_61 : decode cX2_isPaidFor 61 = .ok (.bipush 10, 2) := dk_16 10 (dk_at dksX2_isPaidFor_2 15 rfl rfl)
theorem dX2_isPaidFor_63 : decode cX2_isPaidFor 63 = .ok (.aload_n 2, 1) := dk_44 (dk_at dksX2_isPaidFor_2 17 rfl rfl)
theorem dX2_isPaidFor_64 : decode cX2_isPaidFor 64 = .ok (.getfield 156, 3) := dk_180 0 156 (dk_at dksX2_isPaidFor_2 18 rfl rfl)
theorem dX2_isPaidFor_67 : decode cX2_isPaidFor 67 = .ok (.invokestatic 74, 3) := dk_184 0 74 (dk_at dksX2_isPaidFor_2 21 rfl rfl)
theorem dX2_isPaidFor_70 : decode cX2_isPaidFor 70 = .ok (.aload_n 2, 1) := dk_44 (dk_at dksX2_isPaidFor_3 0 rfl rfl)
theorem dX2_isPaidFor_71 : decode cX2_isPaidFor 71 = .ok (.iconst 1, 1) := dk_4 (dk_at dksX2_isPaidFor_3 1 rfl rfl)
theorem dX2_isPaidFor_72 : decode cX2_isPaidFor 72 = .ok (.putfield 189, 3) := dk_181 0 189 (dk_at dksX2_isPaidFor_3 2 rfl rfl)
theorem dX2_isPaidFor_75 : decode cX2_isPaidFor 75 = .ok (.aload_n 0, 1) := dk_42 (dk_at dksX2_isPaidFor_3 5 rfl rfl)
theorem dX2_isPaidFor_76 : decode cX2_isPaidFor 76 = .ok (.dup, 1) := dk_89 (dk_at dksX2_isPaidFor_3 6 rfl rfl)
theorem dX2_isPaidFor_77 : decode cX2_isPaidFor 77 = .ok (.getfield 18, 3) := dk_180 0 18 (dk_at dksX2_isPaidFor_3 7 rfl rfl)
theorem dX2_isPaidFor_80 : decode cX2_isPaidFor 80 = .ok (.getstatic 193, 3) := dk_178 0 193 (dk_at dksX2_isPaidFor_3 10 rfl rfl)
theorem dX2_isPaidFor_83 : decode cX2_isPaidFor 83 = .ok (.aload_n 2, 1) := dk_44 (dk_at dksX2_isPaidFor_3 13 rfl rfl)
theorem dX2_isPaidFor_84 : decode cX2_isPaidFor 84 = .ok (.getfield 163, 3) := dk_180 0 163 (dk_at dksX2_isPaidFor_3 14 rfl rfl)
theorem dX2_isPaidFor_87 : decode cX2_isPaidFor 87 = .ok (.iaload, 1) := dk_46 (dk_at dksX2_isPaidFor_3 17 rfl rfl)
theorem dX2_isPaidFor_88 : decode cX2_isPaidFor 88 = .ok (.iadd, 1) := dk_96 (dk_at dksX2_isPaidFor_3 18 rfl rfl)
theorem dX2_isPaidFor_89 : decode cX2_isPaidFor 89 = .ok (.putfield 18, 3) := dk_181 0 18 (dk_at dksX2_isPaidFor_3 19 rfl rfl)
theorem dX2_isPaidFor_92 : decode cX2_isPaidFor 92 = .ok (.getstatic 193, 3) := dk_178 0 193 (dk_at dksX2_isPaidFor_4 0 rfl rfl)
theorem dX2_isPaidFor_95 : decode cX2_isPaidFor 95 = .ok (.aload_n 2, 1) := dk_44 (dk_at dksX2_isPaidFor_4 3 rfl rfl)
theorem dX2_isPaidFor_96 : decode cX2_isPaidFor 96 = .ok (.getfield 163, 3) := dk_180 0 163 (dk_at dksX2_isPaidFor_4 4 rfl rfl)
theorem dX2_isPaidFor_99 : decode cX2_isPaidFor 99 = .ok (.iaload, 1) := dk_46 (dk_at dksX2_isPaidFor_4 7 rfl rfl)
theorem dX2_isPaidFor_100 : decode cX2_isPaidFor 100 = .ok (.ireturn, 1) := dk_172 (dk_at dksX2_isPaidFor_4 8 rfl rfl)
abbrev cX2_bestHank : ByteArray := prog_14_method_21_code
def yX2_bestHank : MethodName := ⟨RX2, "bestHank", "(I)I"⟩
def dkwX2_bestHank_2 : List UInt8 := [29, 61, 132, 3, 1, 167, 255, 208, 28, 172]
abbrev dktX2_bestHank_2 : List UInt8 := dkwX2_bestHank_2 ++ []
def dkwX2_bestHank_1 : List UInt8 := [192, 0, 82, 27, 182, 0, 198, 153, 0, 19, 28, 2, 159, 0, 12, 42, 29, 28, 182, 0, 202, 153, 0, 5]
abbrev dktX2_bestHank_1 : List UInt8 := dkwX2_bestHank_1 ++ dktX2_bestHank_2
def dkwX2_bestHank_0 : List UInt8 := [2, 61, 3, 62, 29, 42, 180, 0, 31, 182, 0, 196, 162, 0, 43, 42, 180, 0, 31, 29, 182, 0, 78]
abbrev dktX2_bestHank_0 : List UInt8 := dkwX2_bestHank_0 ++ dktX2_bestHank_1
theorem dksX2_bestHank_0 : cX2_bestHank.data.toList.drop 0 = dktX2_bestHank_0 := by decide +kernel
theorem dksX2_bestHank_1 : cX2_bestHank.data.toList.drop 23 = dktX2_bestHank_1 := dk_seg dksX2_bestHank_0 23 rfl rfl
theorem dksX2_bestHank_2 : cX2_bestHank.data.toList.drop 47 = dktX2_bestHank_2 := dk_seg dksX2_bestHank_1 24 rfl rfl
theorem dX2_bestHank_0 : decode cX2_bestHank 0 = .ok (.iconst (-1), 1) := dk_2 (dk_at dksX2_bestHank_0 0 rfl rfl)
theorem dX2_bestHank_1 : decode cX2_bestHank 1 = .ok (.istore_n 2, 1) := dk_61 (dk_at dksX2_bestHank_0 1 rfl rfl)
theorem dX2_bestHank_2 : decode cX2_bestHank 2 = .ok (.iconst 0, 1) := dk_3 (dk_at dksX2_bestHank_0 2 rfl rfl)
theorem dX2_bestHank_3 : decode cX2_bestHank 3 = .ok (.istore_n 3, 1) := dk_62 (dk_at dksX2_bestHank_0 3 rfl rfl)
theorem dX2_bestHank_4 : decode cX2_bestHank 4 = .ok (.iload_n 3, 1) := dk_29 (dk_at dksX2_bestHank_0 4 rfl rfl)
theorem dX2_bestHank_5 : decode cX2_bestHank 5 = .ok (.aload_n 0, 1) := dk_42 (dk_at dksX2_bestHank_0 5 rfl rfl)
theorem dX2_bestHank_6 : decode cX2_bestHank 6 = .ok (.getfield 31, 3) := dk_180 0 31 (dk_at dksX2_bestHank_0 6 rfl rfl)
theorem dX2_bestHank_9 : decode cX2_bestHank 9 = .ok (.invokevirtual 196, 3) := dk_182 0 196 (dk_at dksX2_bestHank_0 9 rfl rfl)
theorem dX2_bestHank_12 : decode cX2_bestHank 12 = .ok (.if_icmp .ge 43, 3) := dk_162 0 43 (dk_at dksX2_bestHank_0 12 rfl rfl)
theorem dX2_bestHank_15 : decode cX2_bestHank 15 = .ok (.aload_n 0, 1) := dk_42 (dk_at dksX2_bestHank_0 15 rfl rfl)
theorem dX2_bestHank_16 : decode cX2_bestHank 16 = .ok (.getfield 31, 3) := dk_180 0 31 (dk_at dksX2_bestHank_0 16 rfl rfl)
theorem dX2_bestHank_19 : decode cX2_bestHank 19 = .ok (.iload_n 3, 1) := dk_29 (dk_at dksX2_bestHank_0 19 rfl rfl)
theorem dX2_bestHank_20 : decode cX2_bestHank 20 = .ok (.invokevirtual 78, 3) := dk_182 0 78 (dk_at dksX2_bestHank_0 20 rfl rfl)
theorem dX2_bestHank_23 : decode cX2_bestHank 23 = .ok (.checkcast 82, 3) := dk_192 0 82 (dk_at dksX2_bestHank_1 0 rfl rfl)
theorem dX2_bestHank_26 : decode cX2_bestHank 26 = .ok (.iload_n 1, 1) := dk_27 (dk_at dksX2_bestHank_1 3 rfl rfl)
theorem dX2_bestHank_27 : decode cX2_bestHank 27 = .ok (.invokevirtual 198, 3) := dk_182 0 198 (dk_at dksX2_bestHank_1 4 rfl rfl)
theorem dX2_bestHank_30 : decode cX2_bestHank 30 = .ok (.ifCond .eq 19, 3) := dk_153 0 19 (dk_at dksX2_bestHank_1 7 rfl rfl)
theorem dX2_bestHank_33 : decode cX2_bestHank 33 = .ok (.iload_n 2, 1) := dk_28 (dk_at dksX2_bestHank_1 10 rfl rfl)
theorem dX2_bestHank_34 : decode cX2_bestHank 34 = .ok (.iconst (-1), 1) := dk_2 (dk_at dksX2_bestHank_1 11 rfl rfl)
theorem dX2_bestHank_35 : decode cX2_bestHank 35 = .ok (.if_icmp .eq 12, 3) := dk_159 0 12 (dk_at dksX2_bestHank_1 12 rfl rfl)
theorem dX2_bestHank_38 : decode cX2_bestHank 38 = .ok (.aload_n 0, 1) := dk_42 (dk_at dksX2_bestHank_1 15 rfl rfl)
theorem dX2_bestHank_39 : decode cX2_bestHank 39 = .ok (.iload_n 3, 1) := dk_29 (dk_at dksX2_bestHank_1 16 rfl rfl)
theorem dX2_bestHank_40 : decode cX2_bestHank 40 = .ok (.iload_n 2, 1) := dk_28 (dk_at dksX2_bestHank_1 17 rfl rfl)
theorem dX2_bestHank_41 : decode cX2_bestHank 41 = .ok (.invokevirtual 202, 3) := dk_182 0 202 (dk_at dksX2_bestHank_1 18 rfl rfl)
theorem dX2_bestHank_44 : decode cX2_bestHank 44 = .ok (.ifCond .eq 5, 3) := dk_153 0 5 (dk_at dksX2_bestHank_1 21 rfl rfl)
theorem dX2_bestHank_47 : decode cX2_bestHank 47 = .ok (.iload_n 3, 1) := dk_29 (dk_at dksX2_bestHank_2 0 rfl rfl)
theorem dX2_bestHank_48 : decode cX2_bestHank 48 = .ok (.istore_n 2, 1) := dk_61 (dk_at dksX2_bestHank_2 1 rfl rfl)
theorem dX2_bestHank_49 : decode cX2_bestHank 49 = .ok (.iinc 3 1, 3) := dk_132 3 1 (dk_at dksX2_bestHank_2 2 rfl rfl)
theorem dX2_bestHank_52 : decode cX2_bestHank 52 = .ok (.goto (-48), 3) := dk_167 255 208 (dk_at dksX2_bestHank_2 5 rfl rfl)
theorem dX2_bestHank_55 : decode cX2_bestHank 55 = .ok (.iload_n 2, 1) := dk_28 (dk_at dksX2_bestHank_2 8 rfl rfl)
theorem dX2_bestHank_56 : decode cX2_bestHank 56 = .ok (.ireturn, 1) := dk_172 (dk_at dksX2_bestHank_2 9 rfl rfl)
abbrev cX2_isBetter : ByteArray := prog_14_method_20_code
def yX2_isBetter : MethodName := ⟨RX2, "isBetter", "(II)Z"⟩
def dkwX2_isBetter_4 : List UInt8 := [4, 167, 0, 4, 3, 172]
abbrev dktX2_isBetter_4 : List UInt8 := dkwX2_isBetter_4 ++ []
def dkwX2_isBetter_3 : List UInt8 := [180, 0, 84, 25, 4, 180, 0, 84, 162, 0, 7, 4, 167, 0, 17, 3, 167, 0, 13, 27, 28, 162, 0, 7]
abbrev dktX2_isBetter_3 : List UInt8 := dkwX2_isBetter_3 ++ dktX2_isBetter_4
def dkwX2_isBetter_2 : List UInt8 := [164, 0, 7, 4, 167, 0, 4, 3, 172, 45, 180, 0, 84, 25, 4, 180, 0, 84, 159, 0, 23, 45]
abbrev dktX2_isBetter_2 : List UInt8 := dkwX2_isBetter_2 ++ dktX2_isBetter_3
def dkwX2_isBetter_1 : List UInt8 := [58, 4, 45, 182, 0, 160, 25, 4, 182, 0, 160, 159, 0, 21, 45, 182, 0, 160, 25, 4, 182, 0, 160]
abbrev dktX2_isBetter_1 : List UInt8 := dkwX2_isBetter_1 ++ dktX2_isBetter_2
def dkwX2_isBetter_0 : List UInt8 := [42, 180, 0, 31, 27, 182, 0, 78, 192, 0, 82, 78, 42, 180, 0, 31, 28, 182, 0, 78, 192, 0, 82]
abbrev dktX2_isBetter_0 : List UInt8 := dkwX2_isBetter_0 ++ dktX2_isBetter_1
theorem dksX2_isBetter_0 : cX2_isBetter.data.toList.drop 0 = dktX2_isBetter_0 := by decide +kernel
theorem dksX2_isBetter_1 : cX2_isBetter.data.toList.drop 23 = dktX2_isBetter_1 := dk_seg dksX2_isBetter_0 23 rfl rfl
theorem dksX2_isBetter_2 : cX2_isBetter.data.toList.drop 46 = dktX2_isBetter_2 := dk_seg dksX2_isBetter_1 23 rfl rfl
theorem dksX2_isBetter_3 : cX2_isBetter.data.toList.drop 68 = dktX2_isBetter_3 := dk_seg dksX2_isBetter_2 22 rfl rfl
theorem dksX2_isBetter_4 : cX2_isBetter.data.toList.drop 92 = dktX2_isBetter_4 := dk_seg dksX2_isBetter_3 24 rfl rfl
theorem dX2_isBetter_0 : decode cX2_isBetter 0 = .ok (.aload_n 0, 1) := dk_42 (dk_at dksX2_isBetter_0 0 rfl rfl)
theorem dX2_isBetter_1 : decode cX2_isBetter 1 = .ok (.getfield 31, 3) := dk_180 0 31 (dk_at dksX2_isBetter_0 1 rfl rfl)
theorem dX2_isBetter_4 : decode cX2_isBetter 4 = .ok (.iload_n 1, 1) := dk_27 (dk_at dksX2_isBetter_0 4 rfl rfl)
theorem dX2_isBetter_5 : decode cX2_isBetter 5 = .ok (.invokevirtual 78, 3) := dk_182 0 78 (dk_at dksX2_isBetter_0 5 rfl rfl)
theorem dX2_isBetter_8 : decode cX2_isBetter 8 = .ok (.checkcast 82, 3) := dk_192 0 82 (dk_at dksX2_isBetter_0 8 rfl rfl)
theorem dX2_isBetter_11 : decode cX2_isBetter 11 = .ok (.astore_n 3, 1) := dk_78 (dk_at dksX2_isBetter_0 11 rfl rfl)
theorem dX2_isBetter_12 : decode cX2_isBetter 12 = .ok (.aload_n 0, 1) := dk_42 (dk_at dksX2_isBetter_0 12 rfl rfl)
theorem dX2_isBetter_13 : decode cX2_isBetter 13 = .ok (.getfield 31, 3) := dk_180 0 31 (dk_at dksX2_isBetter_0 13 rfl rfl)
theorem dX2_isBetter_16 : decode cX2_isBetter 16 = .ok (.iload_n 2, 1) := dk_28 (dk_at dksX2_isBetter_0 16 rfl rfl)
theorem dX2_isBetter_17 : decode cX2_isBetter 17 = .ok (.invokevirtual 78, 3) := dk_182 0 78 (dk_at dksX2_isBetter_0 17 rfl rfl)
theorem dX2_isBetter_20 : decode cX2_isBetter 20 = .ok (.checkcast 82, 3) := dk_192 0 82 (dk_at dksX2_isBetter_0 20 rfl rfl)
theorem dX2_isBetter_23 : decode cX2_isBetter 23 = .ok (.astore 4, 2) := dk_58 4 (dk_at dksX2_isBetter_1 0 rfl rfl)
theorem dX2_isBetter_25 : decode cX2_isBetter 25 = .ok (.aload_n 3, 1) := dk_45 (dk_at dksX2_isBetter_1 2 rfl rfl)
theorem dX2_isBetter_26 : decode cX2_isBetter 26 = .ok (.invokevirtual 160, 3) := dk_182 0 160 (dk_at dksX2_isBetter_1 3 rfl rfl)
theorem dX2_isBetter_29 : decode cX2_isBetter 29 = .ok (.aload 4, 2) := dk_25 4 (dk_at dksX2_isBetter_1 6 rfl rfl)
theorem dX2_isBetter_31 : decode cX2_isBetter 31 = .ok (.invokevirtual 160, 3) := dk_182 0 160 (dk_at dksX2_isBetter_1 8 rfl rfl)
theorem dX2_isBetter_34 : decode cX2_isBetter 34 = .ok (.if_icmp .eq 21, 3) := dk_159 0 21 (dk_at dksX2_isBetter_1 11 rfl rfl)
theorem dX2_isBetter_37 : decode cX2_isBetter 37 = .ok (.aload_n 3, 1) := dk_45 (dk_at dksX2_isBetter_1 14 rfl rfl)
theorem dX2_isBetter_38 : decode cX2_isBetter 38 = .ok (.invokevirtual 160, 3) := dk_182 0 160 (dk_at dksX2_isBetter_1 15 rfl rfl)
theorem dX2_isBetter_41 : decode cX2_isBetter 41 = .ok (.aload 4, 2) := dk_25 4 (dk_at dksX2_isBetter_1 18 rfl rfl)
theorem dX2_isBetter_43 : decode cX2_isBetter 43 = .ok (.invokevirtual 160, 3) := dk_182 0 160 (dk_at dksX2_isBetter_1 20 rfl rfl)
theorem dX2_isBetter_46 : decode cX2_isBetter 46 = .ok (.if_icmp .le 7, 3) := dk_164 0 7 (dk_at dksX2_isBetter_2 0 rfl rfl)
theorem dX2_isBetter_49 : decode cX2_isBetter 49 = .ok (.iconst 1, 1) := dk_4 (dk_at dksX2_isBetter_2 3 rfl rfl)
theorem dX2_isBetter_50 : decode cX2_isBetter 50 = .ok (.goto 4, 3) := dk_167 0 4 (dk_at dksX2_isBetter_2 4 rfl rfl)
theorem dX2_isBetter_53 : decode cX2_isBetter 53 = .ok (.iconst 0, 1) := dk_3 (dk_at dksX2_isBetter_2 7 rfl rfl)
theorem dX2_isBetter_54 : decode cX2_isBetter 54 = .ok (.ireturn, 1) := dk_172 (dk_at dksX2_isBetter_2 8 rfl rfl)
theorem dX2_isBetter_55 : decode cX2_isBetter 55 = .ok (.aload_n 3, 1) := dk_45 (dk_at dksX2_isBetter_2 9 rfl rfl)
theorem dX2_isBetter_56 : decode cX2_isBetter 56 = .ok (.getfield 84, 3) := dk_180 0 84 (dk_at dksX2_isBetter_2 10 rfl rfl)
theorem dX2_isBetter_59 : decode cX2_isBetter 59 = .ok (.aload 4, 2) := dk_25 4 (dk_at dksX2_isBetter_2 13 rfl rfl)
theorem dX2_isBetter_61 : decode cX2_isBetter 61 = .ok (.getfield 84, 3) := dk_180 0 84 (dk_at dksX2_isBetter_2 15 rfl rfl)
theorem dX2_isBetter_64 : decode cX2_isBetter 64 = .ok (.if_icmp .eq 23, 3) := dk_159 0 23 (dk_at dksX2_isBetter_2 18 rfl rfl)
theorem dX2_isBetter_67 : decode cX2_isBetter 67 = .ok (.aload_n 3, 1) := dk_45 (dk_at dksX2_isBetter_2 21 rfl rfl)
theorem dX2_isBetter_68 : decode cX2_isBetter 68 = .ok (.getfield 84, 3) := dk_180 0 84 (dk_at dksX2_isBetter_3 0 rfl rfl)
theorem dX2_isBetter_71 : decode cX2_isBetter 71 = .ok (.aload 4, 2) := dk_25 4 (dk_at dksX2_isBetter_3 3 rfl rfl)
theorem dX2_isBetter_73 : decode cX2_isBetter 73 = .ok (.getfield 84, 3) := dk_180 0 84 (dk_at dksX2_isBetter_3 5 rfl rfl)
theorem dX2_isBetter_76 : decode cX2_isBetter 76 = .ok (.if_icmp .ge 7, 3) := dk_162 0 7 (dk_at dksX2_isBetter_3 8 rfl rfl)
theorem dX2_isBetter_79 : decode cX2_isBetter 79 = .ok (.iconst 1, 1) := dk_4 (dk_at dksX2_isBetter_3 11 rfl rfl)
theorem dX2_isBetter_80 : decode cX2_isBetter 80 = .ok (.goto 17, 3) := dk_167 0 17 (dk_at dksX2_isBetter_3 12 rfl rfl)
theorem dX2_isBetter_83 : decode cX2_isBetter 83 = .ok (.iconst 0, 1) := dk_3 (dk_at dksX2_isBetter_3 15 rfl rfl)
theorem dX2_isBetter_84 : decode cX2_isBetter 84 = .ok (.goto 13, 3) := dk_167 0 13 (dk_at dksX2_isBetter_3 16 rfl rfl)
theorem dX2_isBetter_87 : decode cX2_isBetter 87 = .ok (.iload_n 1, 1) := dk_27 (dk_at dksX2_isBetter_3 19 rfl rfl)
theorem dX2_isBetter_88 : decode cX2_isBetter 88 = .ok (.iload_n 2, 1) := dk_28 (dk_at dksX2_isBetter_3 20 rfl rfl)
theorem dX2_isBetter_89 : decode cX2_isBetter 89 = .ok (.if_icmp .ge 7, 3) := dk_162 0 7 (dk_at dksX2_isBetter_3 21 rfl rfl)
theorem dX2_isBetter_92 : decode cX2_isBetter 92 = .ok (.iconst 1, 1) := dk_4 (dk_at dksX2_isBetter_4 0 rfl rfl)
theorem dX2_isBetter_93 : decode cX2_isBetter 93 = .ok (.goto 4, 3) := dk_167 0 4 (dk_at dksX2_isBetter_4 1 rfl rfl)
theorem dX2_isBetter_96 : decode cX2_isBetter 96 = .ok (.iconst 0, 1) := dk_3 (dk_at dksX2_isBetter_4 4 rfl rfl)
theorem dX2_isBetter_97 : decode cX2_isBetter 97 = .ok (.ireturn, 1) := dk_172 (dk_at dksX2_isBetter_4 5 rfl rfl)
abbrev cX2_bestAgain : ByteArray := prog_14_method_22_code
def yX2_bestAgain : MethodName := ⟨RX2, "bestAgain", "(I)I"⟩
def dkwX2_bestAgain_3 : List UInt8 := [192, 0, 209, 78, 45, 199, 0, 7, 2, 167, 0, 7, 45, 182, 0, 228, 172]
abbrev dktX2_bestAgain_3 : List UInt8 := dkwX2_bestAgain_3 ++ []
def dkwX2_bestAgain_2 : List UInt8 := [185, 0, 214, 2, 0, 87, 132, 3, 1, 167, 255, 213, 44, 187, 0, 219, 89, 42, 183, 0, 221, 184, 0, 224]
abbrev dktX2_bestAgain_2 : List UInt8 := dkwX2_bestAgain_2 ++ dktX2_bestAgain_3
def dkwX2_bestAgain_1 : List UInt8 := [180, 0, 31, 29, 182, 0, 78, 192, 0, 82, 27, 182, 0, 198, 153, 0, 14, 44, 29, 184, 0, 208]
abbrev dktX2_bestAgain_1 : List UInt8 := dkwX2_bestAgain_1 ++ dktX2_bestAgain_2
def dkwX2_bestAgain_0 : List UInt8 := [187, 0, 205, 89, 183, 0, 207, 77, 3, 62, 29, 42, 180, 0, 31, 182, 0, 196, 162, 0, 38, 42]
abbrev dktX2_bestAgain_0 : List UInt8 := dkwX2_bestAgain_0 ++ dktX2_bestAgain_1
theorem dksX2_bestAgain_0 : cX2_bestAgain.data.toList.drop 0 = dktX2_bestAgain_0 := by decide +kernel
theorem dksX2_bestAgain_1 : cX2_bestAgain.data.toList.drop 22 = dktX2_bestAgain_1 := dk_seg dksX2_bestAgain_0 22 rfl rfl
theorem dksX2_bestAgain_2 : cX2_bestAgain.data.toList.drop 44 = dktX2_bestAgain_2 := dk_seg dksX2_bestAgain_1 22 rfl rfl
theorem dksX2_bestAgain_3 : cX2_bestAgain.data.toList.drop 68 = dktX2_bestAgain_3 := dk_seg dksX2_bestAgain_2 24 rfl rfl
theorem dX2_bestAgain_0 : decode cX2_bestAgain 0 = .ok (.new 205, 3) := dk_187 0 205 (dk_at dksX2_bestAgain_0 0 rfl rfl)
theorem dX2_bestAgain_3 : decode cX2_bestAgain 3 = .ok (.dup, 1) := dk_89 (dk_at dksX2_bestAgain_0 3 rfl rfl)
theorem dX2_bestAgain_4 : decode cX2_bestAgain 4 = .ok (.invokespecial 207, 3) := dk_183 0 207 (dk_at dksX2_bestAgain_0 4 rfl rfl)
theorem dX2_bestAgain_7 : decode cX2_bestAgain 7 = .ok (.astore_n 2, 1) := dk_77 (dk_at dksX2_bestAgain_0 7 rfl rfl)
theorem dX2_bestAgain_8 : decode cX2_bestAgain 8 = .ok (.iconst 0, 1) := dk_3 (dk_at dksX2_bestAgain_0 8 rfl rfl)
theorem dX2_bestAgain_9 : decode cX2_bestAgain 9 = .ok (.istore_n 3, 1) := dk_62 (dk_at dksX2_bestAgain_0 9 rfl rfl)
theorem dX2_bestAgain_10 : decode cX2_bestAgain 10 = .ok (.iload_n 3, 1) := dk_29 (dk_at dksX2_bestAgain_0 10 rfl rfl)
theorem dX2_bestAgain_11 : decode cX2_bestAgain 11 = .ok (.aload_n 0, 1) := dk_42 (dk_at dksX2_bestAgain_0 11 rfl rfl)
theorem dX2_bestAgain_12 : decode cX2_bestAgain 12 = .ok (.getfield 31, 3) := dk_180 0 31 (dk_at dksX2_bestAgain_0 12 rfl rfl)
theorem dX2_bestAgain_15 : decode cX2_bestAgain 15 = .ok (.invokevirtual 196, 3) := dk_182 0 196 (dk_at dksX2_bestAgain_0 15 rfl rfl)
theorem dX2_bestAgain_18 : decode cX2_bestAgain 18 = .ok (.if_icmp .ge 38, 3) := dk_162 0 38 (dk_at dksX2_bestAgain_0 18 rfl rfl)
theorem dX2_bestAgain_21 : decode cX2_bestAgain 21 = .ok (.aload_n 0, 1) := dk_42 (dk_at dksX2_bestAgain_0 21 rfl rfl)
theorem dX2_bestAgain_22 : decode cX2_bestAgain 22 = .ok (.getfield 31, 3) := dk_180 0 31 (dk_at dksX2_bestAgain_1 0 rfl rfl)
theorem dX2_bestAgain_25 : decode cX2_bestAgain 25 = .ok (.iload_n 3, 1) := dk_29 (dk_at dksX2_bestAgain_1 3 rfl rfl)
theorem dX2_bestAgain_26 : decode cX2_bestAgain 26 = .ok (.invokevirtual 78, 3) := dk_182 0 78 (dk_at dksX2_bestAgain_1 4 rfl rfl)
theorem dX2_bestAgain_29 : decode cX2_bestAgain 29 = .ok (.checkcast 82, 3) := dk_192 0 82 (dk_at dksX2_bestAgain_1 7 rfl rfl)
theorem dX2_bestAgain_32 : decode cX2_bestAgain 32 = .ok (.iload_n 1, 1) := dk_27 (dk_at dksX2_bestAgain_1 10 rfl rfl)
theorem dX2_bestAgain_33 : decode cX2_bestAgain 33 = .ok (.invokevirtual 198, 3) := dk_182 0 198 (dk_at dksX2_bestAgain_1 11 rfl rfl)
theorem dX2_bestAgain_36 : decode cX2_bestAgain 36 = .ok (.ifCond .eq 14, 3) := dk_153 0 14 (dk_at dksX2_bestAgain_1 14 rfl rfl)
theorem dX2_bestAgain_39 : decode cX2_bestAgain 39 = .ok (.aload_n 2, 1) := dk_44 (dk_at dksX2_bestAgain_1 17 rfl rfl)
theorem dX2_bestAgain_40 : decode cX2_bestAgain 40 = .ok (.iload_n 3, 1) := dk_29 (dk_at dksX2_bestAgain_1 18 rfl rfl)
theorem dX2_bestAgain_41 : decode cX2_bestAgain 41 = .ok (.invokestatic 208, 3) := dk_184 0 208 (dk_at dksX2_bestAgain_1 19 rfl rfl)
theorem dX2_bestAgain_44 : decode cX2_bestAgain 44 = .ok (.invokeinterface 214 2, 5) := by decide +kernel
theorem dX2_bestAgain_49 : decode cX2_bestAgain 49 = .ok (.pop, 1) := dk_87 (dk_at dksX2_bestAgain_2 5 rfl rfl)
theorem dX2_bestAgain_50 : decode cX2_bestAgain 50 = .ok (.iinc 3 1, 3) := dk_132 3 1 (dk_at dksX2_bestAgain_2 6 rfl rfl)
theorem dX2_bestAgain_53 : decode cX2_bestAgain 53 = .ok (.goto (-43), 3) := dk_167 255 213 (dk_at dksX2_bestAgain_2 9 rfl rfl)
theorem dX2_bestAgain_56 : decode cX2_bestAgain 56 = .ok (.aload_n 2, 1) := dk_44 (dk_at dksX2_bestAgain_2 12 rfl rfl)
theorem dX2_bestAgain_57 : decode cX2_bestAgain 57 = .ok (.new 219, 3) := dk_187 0 219 (dk_at dksX2_bestAgain_2 13 rfl rfl)
theorem dX2_bestAgain_60 : decode cX2_bestAgain 60 = .ok (.dup, 1) := dk_89 (dk_at dksX2_bestAgain_2 16 rfl rfl)
theorem dX2_bestAgain_61 : decode cX2_bestAgain 61 = .ok (.aload_n 0, 1) := dk_42 (dk_at dksX2_bestAgain_2 17 rfl rfl)
theorem dX2_bestAgain_62 : decode cX2_bestAgain 62 = .ok (.invokespecial 221, 3) := dk_183 0 221 (dk_at dksX2_bestAgain_2 18 rfl rfl)
theorem dX2_bestAgain_65 : decode cX2_bestAgain 65 = .ok (.invokestatic 224, 3) := dk_184 0 224 (dk_at dksX2_bestAgain_2 21 rfl rfl)
theorem dX2_bestAgain_68 : decode cX2_bestAgain 68 = .ok (.checkcast 209, 3) := dk_192 0 209 (dk_at dksX2_bestAgain_3 0 rfl rfl)
theorem dX2_bestAgain_71 : decode cX2_bestAgain 71 = .ok (.astore_n 3, 1) := dk_78 (dk_at dksX2_bestAgain_3 3 rfl rfl)
theorem dX2_bestAgain_72 : decode cX2_bestAgain 72 = .ok (.aload_n 3, 1) := dk_45 (dk_at dksX2_bestAgain_3 4 rfl rfl)
theorem dX2_bestAgain_73 : decode cX2_bestAgain 73 = .ok (.ifnonnull 7, 3) := dk_199 0 7 (dk_at dksX2_bestAgain_3 5 rfl rfl)
theorem dX2_bestAgain_76 : decode cX2_bestAgain 76 = .ok (.iconst (-1), 1) := dk_2 (dk_at dksX2_bestAgain_3 8 rfl rfl)
theorem dX2_bestAgain_77 : decode cX2_bestAgain 77 = .ok (.goto 7, 3) := dk_167 0 7 (dk_at dksX2_bestAgain_3 9 rfl rfl)
theorem dX2_bestAgain_80 : decode cX2_bestAgain 80 = .ok (.aload_n 3, 1) := dk_45 (dk_at dksX2_bestAgain_3 12 rfl rfl)
theorem dX2_bestAgain_81 : decode cX2_bestAgain 81 = .ok (.invokevirtual 228, 3) := dk_182 0 228 (dk_at dksX2_bestAgain_3 13 rfl rfl)
theorem dX2_bestAgain_84 : decode cX2_bestAgain 84 = .ok (.ireturn, 1) := dk_172 (dk_at dksX2_bestAgain_3 16 rfl rfl)
abbrev cX2_countMixed : ByteArray := prog_14_method_23_code
def yX2_countMixed : MethodName := ⟨RX2, "countMixed", "()I"⟩
def dkwX2_countMixed_2 : List UInt8 := [172]
abbrev dktX2_countMixed_2 : List UInt8 := dkwX2_countMixed_2 ++ []
def dkwX2_countMixed_1 : List UInt8 := [192, 0, 82, 180, 0, 165, 2, 160, 0, 7, 4, 167, 0, 4, 3, 96, 60, 132, 2, 1, 167, 255, 216, 27]
abbrev dktX2_countMixed_1 : List UInt8 := dkwX2_countMixed_1 ++ dktX2_countMixed_2
def dkwX2_countMixed_0 : List UInt8 := [3, 60, 3, 61, 28, 42, 180, 0, 31, 182, 0, 196, 162, 0, 35, 27, 42, 180, 0, 31, 28, 182, 0, 78]
abbrev dktX2_countMixed_0 : List UInt8 := dkwX2_countMixed_0 ++ dktX2_countMixed_1
theorem dksX2_countMixed_0 : cX2_countMixed.data.toList.drop 0 = dktX2_countMixed_0 := by decide +kernel
theorem dksX2_countMixed_1 : cX2_countMixed.data.toList.drop 24 = dktX2_countMixed_1 := dk_seg dksX2_countMixed_0 24 rfl rfl
theorem dksX2_countMixed_2 : cX2_countMixed.data.toList.drop 48 = dktX2_countMixed_2 := dk_seg dksX2_countMixed_1 24 rfl rfl
theorem dX2_countMixed_0 : decode cX2_countMixed 0 = .ok (.iconst 0, 1) := dk_3 (dk_at dksX2_countMixed_0 0 rfl rfl)
theorem dX2_countMixed_1 : decode cX2_countMixed 1 = .ok (.istore_n 1, 1) := dk_60 (dk_at dksX2_countMixed_0 1 rfl rfl)
theorem dX2_countMixed_2 : decode cX2_countMixed 2 = .ok (.iconst 0, 1) := dk_3 (dk_at dksX2_countMixed_0 2 rfl rfl)
theorem dX2_countMixed_3 : decode cX2_countMixed 3 = .ok (.istore_n 2, 1) := dk_61 (dk_at dksX2_countMixed_0 3 rfl rfl)
theorem dX2_countMixed_4 : decode cX2_countMixed 4 = .ok (.iload_n 2, 1) := dk_28 (dk_at dksX2_countMixed_0 4 rfl rfl)
theorem dX2_countMixed_5 : decode cX2_countMixed 5 = .ok (.aload_n 0, 1) := dk_42 (dk_at dksX2_countMixed_0 5 rfl rfl)
theorem dX2_countMixed_6 : decode cX2_countMixed 6 = .ok (.getfield 31, 3) := dk_180 0 31 (dk_at dksX2_countMixed_0 6 rfl rfl)
theorem dX2_countMixed_9 : decode cX2_countMixed 9 = .ok (.invokevirtual 196, 3) := dk_182 0 196 (dk_at dksX2_countMixed_0 9 rfl rfl)
theorem dX2_countMixed_12 : decode cX2_countMixed 12 = .ok (.if_icmp .ge 35, 3) := dk_162 0 35 (dk_at dksX2_countMixed_0 12 rfl rfl)
theorem dX2_countMixed_15 : decode cX2_countMixed 15 = .ok (.iload_n 1, 1) := dk_27 (dk_at dksX2_countMixed_0 15 rfl rfl)
theorem dX2_countMixed_16 : decode cX2_countMixed 16 = .ok (.aload_n 0, 1) := dk_42 (dk_at dksX2_countMixed_0 16 rfl rfl)
theorem dX2_countMixed_17 : decode cX2_countMixed 17 = .ok (.getfield 31, 3) := dk_180 0 31 (dk_at dksX2_countMixed_0 17 rfl rfl)
theorem dX2_countMixed_20 : decode cX2_countMixed 20 = .ok (.iload_n 2, 1) := dk_28 (dk_at dksX2_countMixed_0 20 rfl rfl)
theorem dX2_countMixed_21 : decode cX2_countMixed 21 = .ok (.invokevirtual 78, 3) := dk_182 0 78 (dk_at dksX2_countMixed_0 21 rfl rfl)
theorem dX2_countMixed_24 : decode cX2_countMixed 24 = .ok (.checkcast 82, 3) := dk_192 0 82 (dk_at dksX2_countMixed_1 0 rfl rfl)
theorem dX2_countMixed_27 : decode cX2_countMixed 27 = .ok (.getfield 165, 3) := dk_180 0 165 (dk_at dksX2_countMixed_1 3 rfl rfl)
theorem dX2_countMixed_30 : decode cX2_countMixed 30 = .ok (.iconst (-1), 1) := dk_2 (dk_at dksX2_countMixed_1 6 rfl rfl)
theorem dX2_countMixed_31 : decode cX2_countMixed 31 = .ok (.if_icmp .ne 7, 3) := dk_160 0 7 (dk_at dksX2_countMixed_1 7 rfl rfl)
theorem dX2_countMixed_34 : decode cX2_countMixed 34 = .ok (.iconst 1, 1) := dk_4 (dk_at dksX2_countMixed_1 10 rfl rfl)
theorem dX2_countMixed_35 : decode cX2_countMixed 35 = .ok (.goto 4, 3) := dk_167 0 4 (dk_at dksX2_countMixed_1 11 rfl rfl)
theorem dX2_countMixed_38 : decode cX2_countMixed 38 = .ok (.iconst 0, 1) := dk_3 (dk_at dksX2_countMixed_1 14 rfl rfl)
theorem dX2_countMixed_39 : decode cX2_countMixed 39 = .ok (.iadd, 1) := dk_96 (dk_at dksX2_countMixed_1 15 rfl rfl)
theorem dX2_countMixed_40 : decode cX2_countMixed 40 = .ok (.istore_n 1, 1) := dk_60 (dk_at dksX2_countMixed_1 16 rfl rfl)
theorem dX2_countMixed_41 : decode cX2_countMixed 41 = .ok (.iinc 2 1, 3) := dk_132 2 1 (dk_at dksX2_countMixed_1 17 rfl rfl)
theorem dX2_countMixed_44 : decode cX2_countMixed 44 = .ok (.goto (-40), 3) := dk_167 255 216 (dk_at dksX2_countMixed_1 20 rfl rfl)
theorem dX2_countMixed_47 : decode cX2_countMixed 47 = .ok (.iload_n 1, 1) := dk_27 (dk_at dksX2_countMixed_1 23 rfl rfl)
theorem dX2_countMixed_48 : decode cX2_countMixed 48 = .ok (.ireturn, 1) := dk_172 (dk_at dksX2_countMixed_2 0 rfl rfl)
abbrev cX2_countSieves : ByteArray := prog_14_method_24_code
def yX2_countSieves : MethodName := ⟨RX2, "countSieves", "()I"⟩
def dkwX2_countSieves_1 : List UInt8 := [54, 5, 27, 21, 5, 96, 60, 132, 4, 1, 167, 255, 236, 27, 172]
abbrev dktX2_countSieves_1 : List UInt8 := dkwX2_countSieves_1 ++ []
def dkwX2_countSieves_0 : List UInt8 := [3, 60, 42, 180, 0, 9, 77, 44, 190, 62, 3, 54, 4, 21, 4, 29, 162, 0, 20, 44, 21, 4, 46]
abbrev dktX2_countSieves_0 : List UInt8 := dkwX2_countSieves_0 ++ dktX2_countSieves_1
theorem dksX2_countSieves_0 : cX2_countSieves.data.toList.drop 0 = dktX2_countSieves_0 := by decide +kernel
theorem dksX2_countSieves_1 : cX2_countSieves.data.toList.drop 23 = dktX2_countSieves_1 := dk_seg dksX2_countSieves_0 23 rfl rfl
theorem dX2_countSieves_0 : decode cX2_countSieves 0 = .ok (.iconst 0, 1) := dk_3 (dk_at dksX2_countSieves_0 0 rfl rfl)
theorem dX2_countSieves_1 : decode cX2_countSieves 1 = .ok (.istore_n 1, 1) := dk_60 (dk_at dksX2_countSieves_0 1 rfl rfl)
theorem dX2_countSieves_2 : decode cX2_countSieves 2 = .ok (.aload_n 0, 1) := dk_42 (dk_at dksX2_countSieves_0 2 rfl rfl)
theorem dX2_countSieves_3 : decode cX2_countSieves 3 = .ok (.getfield 9, 3) := dk_180 0 9 (dk_at dksX2_countSieves_0 3 rfl rfl)
theorem dX2_countSieves_6 : decode cX2_countSieves 6 = .ok (.astore_n 2, 1) := dk_77 (dk_at dksX2_countSieves_0 6 rfl rfl)
theorem dX2_countSieves_7 : decode cX2_countSieves 7 = .ok (.aload_n 2, 1) := dk_44 (dk_at dksX2_countSieves_0 7 rfl rfl)
theorem dX2_countSieves_8 : decode cX2_countSieves 8 = .ok (.arraylength, 1) := dk_190 (dk_at dksX2_countSieves_0 8 rfl rfl)
theorem dX2_countSieves_9 : decode cX2_countSieves 9 = .ok (.istore_n 3, 1) := dk_62 (dk_at dksX2_countSieves_0 9 rfl rfl)
theorem dX2_countSieves_10 : decode cX2_countSieves 10 = .ok (.iconst 0, 1) := dk_3 (dk_at dksX2_countSieves_0 10 rfl rfl)
theorem dX2_countSieves_11 : decode cX2_countSieves 11 = .ok (.istore 4, 2) := dk_54 4 (dk_at dksX2_countSieves_0 11 rfl rfl)
theorem dX2_countSieves_13 : decode cX2_countSieves 13 = .ok (.iload 4, 2) := dk_21 4 (dk_at dksX2_countSieves_0 13 rfl rfl)
theorem dX2_countSieves_15 : decode cX2_countSieves 15 = .ok (.iload_n 3, 1) := dk_29 (dk_at dksX2_countSieves_0 15 rfl rfl)
theorem dX2_countSieves_16 : decode cX2_countSieves 16 = .ok (.if_icmp .ge 20, 3) := dk_162 0 20 (dk_at dksX2_countSieves_0 16 rfl rfl)
theorem dX2_countSieves_19 : decode cX2_countSieves 19 = .ok (.aload_n 2, 1) := dk_44 (dk_at dksX2_countSieves_0 19 rfl rfl)
theorem dX2_countSieves_20 : decode cX2_countSieves 20 = .ok (.iload 4, 2) := dk_21 4 (dk_at dksX2_countSieves_0 20 rfl rfl)
theorem dX2_countSieves_22 : decode cX2_countSieves 22 = .ok (.iaload, 1) := dk_46 (dk_at dksX2_countSieves_0 22 rfl rfl)
theorem dX2_countSieves_23 : decode cX2_countSieves 23 = .ok (.istore 5, 2) := dk_54 5 (dk_at dksX2_countSieves_1 0 rfl rfl)
theorem dX2_countSieves_25 : decode cX2_countSieves 25 = .ok (.iload_n 1, 1) := dk_27 (dk_at dksX2_countSieves_1 2 rfl rfl)
theorem dX2_countSieves_26 : decode cX2_countSieves 26 = .ok (.iload 5, 2) := dk_21 5 (dk_at dksX2_countSieves_1 3 rfl rfl)
theorem dX2_countSieves_28 : decode cX2_countSieves 28 = .ok (.iadd, 1) := dk_96 (dk_at dksX2_countSieves_1 5 rfl rfl)
theorem dX2_countSieves_29 : decode cX2_countSieves 29 = .ok (.istore_n 1, 1) := dk_60 (dk_at dksX2_countSieves_1 6 rfl rfl)
theorem dX2_countSieves_30 : decode cX2_countSieves 30 = .ok (.iinc 4 1, 3) := dk_132 4 1 (dk_at dksX2_countSieves_1 7 rfl rfl)
theorem dX2_countSieves_33 : decode cX2_countSieves 33 = .ok (.goto (-20), 3) := dk_167 255 236 (dk_at dksX2_countSieves_1 10 rfl rfl)
theorem dX2_countSieves_36 : decode cX2_countSieves 36 = .ok (.iload_n 1, 1) := dk_27 (dk_at dksX2_countSieves_1 13 rfl rfl)
theorem dX2_countSieves_37 : decode cX2_countSieves 37 = .ok (.ireturn, 1) := dk_172 (dk_at dksX2_countSieves_1 14 rfl rfl)
theorem q68 : (Jvm.Cond.initialized "HorsehairTrade$Trade") ∈ lw_all := lw_g (lw_at lw_m1 2 rfl) rfl
theorem q124 : (Jvm.Cond.instantiable "HorsehairTrade$Trade" (14 : Nat)) ∈ lw_all := lw_g (lw_at lw_m1 58 rfl) rfl
theorem q126 : (Jvm.Cond.instanceMethod ({ cls := "HorsehairTrade$Trade", name := "<init>", desc := "()V" } : Jvm.MethodName)) ∈ lw_all := lw_g (lw_at lw_m1 60 rfl) rfl
theorem q127 : (Jvm.Cond.code ({ cls := "HorsehairTrade$Trade", name := "<init>", desc := "()V" } : Jvm.MethodName) prog_14_method_1_code (1 : Nat) (Option.none : Option Jvm.ClassFile.FieldType)) ∈ lw_all := lw_g (lw_at lw_m1 61 rfl) rfl
theorem q128 : (Jvm.Cond.methodLink "HorsehairTrade$Trade" (3 : Nat) ({ cls := "java/lang/Object", name := "<init>", desc := "()V" } : Jvm.MethodName)) ∈ lw_all := lw_g (lw_at lw_m1 62 rfl) rfl
theorem q129 : (Jvm.Cond.classLink "HorsehairTrade$Trade" (22 : Nat) "HorsehairTrade$Row") ∈ lw_all := lw_g (lw_at lw_m1 63 rfl) rfl
theorem q131 : (Jvm.Cond.methodLink "HorsehairTrade$Trade" (24 : Nat) ({ cls := "HorsehairTrade$Row", name := "<init>", desc := "(I)V" } : Jvm.MethodName)) ∈ lw_all := lw_g (lw_at lw_m1 65 rfl) rfl
theorem q166 : (Jvm.Cond.fieldLinkNest "HorsehairTrade$Trade" (231 : Nat) "HorsehairTrade$Row" "things" "Ljava/util/List;" "HorsehairTrade") ∈ lw_tbl := lw_at lw_m1 100 rfl
theorem q174 : (Jvm.Cond.fieldLink "HorsehairTrade$Trade" (27 : Nat) "HorsehairTrade$Trade" "tails" "LHorsehairTrade$Row;") ∈ lw_all := lw_g (lw_at lw_m1 108 rfl) rfl
theorem q176 : (Jvm.Cond.fieldLink "HorsehairTrade$Trade" (31 : Nat) "HorsehairTrade$Trade" "hanks" "LHorsehairTrade$Row;") ∈ lw_all := lw_g (lw_at lw_m1 110 rfl) rfl
theorem q178 : (Jvm.Cond.fieldLink "HorsehairTrade$Trade" (34 : Nat) "HorsehairTrade$Trade" "bows" "LHorsehairTrade$Row;") ∈ lw_all := lw_g (lw_at lw_m1 112 rfl) rfl
theorem q180 : (Jvm.Cond.fieldLink "HorsehairTrade$Trade" (37 : Nat) "HorsehairTrade$Trade" "cakes" "LHorsehairTrade$Row;") ∈ lw_all := lw_g (lw_at lw_m1 114 rfl) rfl
theorem q182 : (Jvm.Cond.fieldLink "HorsehairTrade$Trade" (9 : Nat) "HorsehairTrade$Trade" "sieves" "[I") ∈ lw_all := lw_g (lw_at lw_m1 116 rfl) rfl
theorem q184 : (Jvm.Cond.fieldLink "HorsehairTrade$Trade" (15 : Nat) "HorsehairTrade$Trade" "roads" "[I") ∈ lw_all := lw_g (lw_at lw_m1 118 rfl) rfl
theorem q186 : (Jvm.Cond.fieldLink "HorsehairTrade$Trade" (49 : Nat) "HorsehairTrade$Trade" "sold" "I") ∈ lw_all := lw_g (lw_at lw_m1 120 rfl) rfl
theorem q188 : (Jvm.Cond.fieldLink "HorsehairTrade$Trade" (52 : Nat) "HorsehairTrade$Trade" "came" "I") ∈ lw_all := lw_g (lw_at lw_m1 122 rfl) rfl
theorem q190 : (Jvm.Cond.fieldLink "HorsehairTrade$Trade" (55 : Nat) "HorsehairTrade$Trade" "woven" "I") ∈ lw_all := lw_g (lw_at lw_m1 124 rfl) rfl
theorem q192 : (Jvm.Cond.fieldLink "HorsehairTrade$Trade" (58 : Nat) "HorsehairTrade$Trade" "lost" "I") ∈ lw_all := lw_g (lw_at lw_m1 126 rfl) rfl
theorem q194 : (Jvm.Cond.fieldLink "HorsehairTrade$Trade" (61 : Nat) "HorsehairTrade$Trade" "thrown" "I") ∈ lw_all := lw_g (lw_at lw_m1 128 rfl) rfl
theorem q196 : (Jvm.Cond.fieldLink "HorsehairTrade$Trade" (18 : Nat) "HorsehairTrade$Trade" "coins" "I") ∈ lw_all := lw_g (lw_at lw_m1 130 rfl) rfl
theorem q198 : (Jvm.Cond.fieldLink "HorsehairTrade$Trade" (64 : Nat) "HorsehairTrade$Trade" "day" "I") ∈ lw_all := lw_g (lw_at lw_m1 132 rfl) rfl
theorem q200 : (Jvm.Cond.fieldLink "HorsehairTrade$Trade" (67 : Nat) "HorsehairTrade$Trade" "town" "I") ∈ lw_all := lw_g (lw_at lw_m1 134 rfl) rfl
theorem q202 : (Jvm.Cond.laysFinal "HorsehairTrade$Trade" "HorsehairTrade$Trade" "tails" "LHorsehairTrade$Row;") ∈ lw_all := lw_g (lw_at lw_m1 136 rfl) rfl
theorem q203 : (Jvm.Cond.soleField "HorsehairTrade$Trade" "tails") ∈ lw_all := lw_g (lw_at lw_m1 137 rfl) rfl
theorem q204 : (Jvm.Cond.laysFinal "HorsehairTrade$Trade" "HorsehairTrade$Trade" "hanks" "LHorsehairTrade$Row;") ∈ lw_all := lw_g (lw_at lw_m1 138 rfl) rfl
theorem q205 : (Jvm.Cond.soleField "HorsehairTrade$Trade" "hanks") ∈ lw_all := lw_g (lw_at lw_m1 139 rfl) rfl
theorem q206 : (Jvm.Cond.laysFinal "HorsehairTrade$Trade" "HorsehairTrade$Trade" "bows" "LHorsehairTrade$Row;") ∈ lw_all := lw_g (lw_at lw_m1 140 rfl) rfl
theorem q207 : (Jvm.Cond.soleField "HorsehairTrade$Trade" "bows") ∈ lw_all := lw_g (lw_at lw_m1 141 rfl) rfl
theorem q208 : (Jvm.Cond.laysFinal "HorsehairTrade$Trade" "HorsehairTrade$Trade" "cakes" "LHorsehairTrade$Row;") ∈ lw_all := lw_g (lw_at lw_m1 142 rfl) rfl
theorem q209 : (Jvm.Cond.soleField "HorsehairTrade$Trade" "cakes") ∈ lw_all := lw_g (lw_at lw_m1 143 rfl) rfl
theorem q210 : (Jvm.Cond.laysFinal "HorsehairTrade$Trade" "HorsehairTrade$Trade" "sieves" "[I") ∈ lw_all := lw_g (lw_at lw_m1 144 rfl) rfl
theorem q211 : (Jvm.Cond.soleField "HorsehairTrade$Trade" "sieves") ∈ lw_all := lw_g (lw_at lw_m1 145 rfl) rfl
theorem q212 : (Jvm.Cond.laysFinal "HorsehairTrade$Trade" "HorsehairTrade$Trade" "roads" "[I") ∈ lw_all := lw_g (lw_at lw_m1 146 rfl) rfl
theorem q213 : (Jvm.Cond.soleField "HorsehairTrade$Trade" "roads") ∈ lw_all := lw_g (lw_at lw_m1 147 rfl) rfl
theorem q214 : (Jvm.Cond.lays "HorsehairTrade$Trade" "HorsehairTrade$Trade" "sold" "I") ∈ lw_all := lw_g (lw_at lw_m1 148 rfl) rfl
theorem q215 : (Jvm.Cond.soleField "HorsehairTrade$Trade" "sold") ∈ lw_all := lw_g (lw_at lw_m1 149 rfl) rfl
theorem q216 : (Jvm.Cond.lays "HorsehairTrade$Trade" "HorsehairTrade$Trade" "came" "I") ∈ lw_all := lw_g (lw_at lw_m1 150 rfl) rfl
theorem q217 : (Jvm.Cond.soleField "HorsehairTrade$Trade" "came") ∈ lw_all := lw_g (lw_at lw_m1 151 rfl) rfl
theorem q218 : (Jvm.Cond.lays "HorsehairTrade$Trade" "HorsehairTrade$Trade" "woven" "I") ∈ lw_all := lw_g (lw_at lw_m1 152 rfl) rfl
theorem q219 : (Jvm.Cond.soleField "HorsehairTrade$Trade" "woven") ∈ lw_all := lw_g (lw_at lw_m1 153 rfl) rfl
theorem q220 : (Jvm.Cond.lays "HorsehairTrade$Trade" "HorsehairTrade$Trade" "lost" "I") ∈ lw_all := lw_g (lw_at lw_m1 154 rfl) rfl
theorem q221 : (Jvm.Cond.soleField "HorsehairTrade$Trade" "lost") ∈ lw_all := lw_g (lw_at lw_m1 155 rfl) rfl
theorem q222 : (Jvm.Cond.lays "HorsehairTrade$Trade" "HorsehairTrade$Trade" "thrown" "I") ∈ lw_all := lw_g (lw_at lw_m1 156 rfl) rfl
theorem q223 : (Jvm.Cond.soleField "HorsehairTrade$Trade" "thrown") ∈ lw_all := lw_g (lw_at lw_m1 157 rfl) rfl
theorem q224 : (Jvm.Cond.lays "HorsehairTrade$Trade" "HorsehairTrade$Trade" "coins" "I") ∈ lw_all := lw_g (lw_at lw_m1 158 rfl) rfl
theorem q225 : (Jvm.Cond.soleField "HorsehairTrade$Trade" "coins") ∈ lw_all := lw_g (lw_at lw_m1 159 rfl) rfl
theorem q226 : (Jvm.Cond.lays "HorsehairTrade$Trade" "HorsehairTrade$Trade" "day" "I") ∈ lw_all := lw_g (lw_at lw_m1 160 rfl) rfl
theorem q227 : (Jvm.Cond.soleField "HorsehairTrade$Trade" "day") ∈ lw_all := lw_g (lw_at lw_m1 161 rfl) rfl
theorem q228 : (Jvm.Cond.lays "HorsehairTrade$Trade" "HorsehairTrade$Trade" "town" "I") ∈ lw_all := lw_g (lw_at lw_m1 162 rfl) rfl
theorem q229 : (Jvm.Cond.soleField "HorsehairTrade$Trade" "town") ∈ lw_all := lw_g (lw_at lw_m1 163 rfl) rfl
theorem q230 : (Jvm.Cond.superclass "HorsehairTrade$Trade" "java/lang/Object") ∈ lw_all := lw_g (lw_at lw_m1 164 rfl) rfl
theorem q315 : (Jvm.Cond.static ({ cls := "HorsehairTrade$Trade", name := "isFairOn", desc := "(II)Z" } : Jvm.MethodName)) ∈ lw_all := lw_g (lw_at lw_m2 9 rfl) rfl
theorem q316 : (Jvm.Cond.code ({ cls := "HorsehairTrade$Trade", name := "isFairOn", desc := "(II)Z" } : Jvm.MethodName) prog_14_method_3_code (2 : Nat) (Option.some Jvm.ClassFile.FieldType.boolean)) ∈ lw_all := lw_g (lw_at lw_m2 10 rfl) rfl
theorem q704 : (Jvm.Cond.instanceMethod ({ cls := "HorsehairTrade$Trade", name := "hairsAgain", desc := "()I" } : Jvm.MethodName)) ∈ lw_all := lw_g (lw_at lw_m3 158 rfl) rfl
theorem q705 : (Jvm.Cond.selects "HorsehairTrade$Trade" ({ cls := "HorsehairTrade$Trade", name := "hairsAgain", desc := "()I" } : Jvm.MethodName) ({ cls := "HorsehairTrade$Trade", name := "hairsAgain", desc := "()I" } : Jvm.MethodName)) ∈ lw_all := lw_g (lw_at lw_m3 159 rfl) rfl
theorem q706 : (Jvm.Cond.code ({ cls := "HorsehairTrade$Trade", name := "hairsAgain", desc := "()I" } : Jvm.MethodName) prog_14_method_25_code (1 : Nat) (Option.some Jvm.ClassFile.FieldType.int)) ∈ lw_all := lw_g (lw_at lw_m3 160 rfl) rfl
theorem q707 : (Jvm.Cond.methodLinkNest "HorsehairTrade$Trade" (235 : Nat) ({ cls := "HorsehairTrade", name := "hairsOf", desc := "(Ljava/util/List;)I" } : Jvm.MethodName) "HorsehairTrade") ∈ lw_tbl := lw_at lw_m3 161 rfl
theorem q769 : (Jvm.Cond.instanceMethod ({ cls := "HorsehairTrade$Trade", name := "<init>", desc := "(LHorsehairTrade$Trade;)V" } : Jvm.MethodName)) ∈ lw_all := lw_g (lw_at lw_m3 223 rfl) rfl
theorem q770 : (Jvm.Cond.code ({ cls := "HorsehairTrade$Trade", name := "<init>", desc := "(LHorsehairTrade$Trade;)V" } : Jvm.MethodName) prog_14_method_2_code (2 : Nat) (Option.none : Option Jvm.ClassFile.FieldType)) ∈ lw_all := lw_g (lw_at lw_m3 224 rfl) rfl
theorem q771 : (Jvm.Cond.methodLink "HorsehairTrade$Trade" (40 : Nat) ({ cls := "HorsehairTrade$Row", name := "<init>", desc := "(LHorsehairTrade$Row;)V" } : Jvm.MethodName)) ∈ lw_all := lw_g (lw_at lw_m3 225 rfl) rfl
theorem q796 : (Jvm.Cond.fieldLinkNest "HorsehairTrade$Trade" (150 : Nat) "HorsehairTrade$Bow" "kind" "I" "HorsehairTrade") ∈ lw_tbl := lw_at lw_m4 10 rfl
theorem q799 : (Jvm.Cond.fieldLinkNest "HorsehairTrade$Trade" (156 : Nat) "HorsehairTrade$Bow" "hairs" "I" "HorsehairTrade") ∈ lw_tbl := lw_at lw_m4 13 rfl
theorem q802 : (Jvm.Cond.fieldLinkNest "HorsehairTrade$Trade" (157 : Nat) "HorsehairTrade$Bow" "rosin" "I" "HorsehairTrade") ∈ lw_tbl := lw_at lw_m4 16 rfl
theorem q805 : (Jvm.Cond.fieldLinkNest "HorsehairTrade$Trade" (163 : Nat) "HorsehairTrade$Bow" "quality" "I" "HorsehairTrade") ∈ lw_tbl := lw_at lw_m4 19 rfl
theorem q808 : (Jvm.Cond.fieldLinkNest "HorsehairTrade$Trade" (168 : Nat) "HorsehairTrade$Bow" "tail" "I" "HorsehairTrade") ∈ lw_tbl := lw_at lw_m4 22 rfl
theorem q813 : (Jvm.Cond.fieldLinkNest "HorsehairTrade$Trade" (189 : Nat) "HorsehairTrade$Bow" "isPaid" "Z" "HorsehairTrade") ∈ lw_tbl := lw_at lw_m4 27 rfl
theorem q847 : (Jvm.Cond.fieldLinkNest "HorsehairTrade$Trade" (172 : Nat) "HorsehairTrade$Cake" "size" "I" "HorsehairTrade") ∈ lw_tbl := lw_at lw_m4 61 rfl
theorem q869 : (Jvm.Cond.fieldLinkNest "HorsehairTrade$Trade" (84 : Nat) "HorsehairTrade$Hank" "hairs" "I" "HorsehairTrade") ∈ lw_tbl := lw_at lw_m4 83 rfl
theorem q872 : (Jvm.Cond.fieldLinkNest "HorsehairTrade$Trade" (137 : Nat) "HorsehairTrade$Hank" "length" "I" "HorsehairTrade") ∈ lw_tbl := lw_at lw_m4 86 rfl
theorem q877 : (Jvm.Cond.fieldLinkNest "HorsehairTrade$Trade" (165 : Nat) "HorsehairTrade$Hank" "tail" "I" "HorsehairTrade") ∈ lw_tbl := lw_at lw_m4 91 rfl
theorem q905 : (Jvm.Cond.fieldLinkNest "HorsehairTrade$Trade" (118 : Nat) "HorsehairTrade$Tail" "colour" "I" "HorsehairTrade") ∈ lw_tbl := lw_at lw_m4 119 rfl
theorem q910 : (Jvm.Cond.fieldLinkNest "HorsehairTrade$Trade" (111 : Nat) "HorsehairTrade$Tail" "hairs" "I" "HorsehairTrade") ∈ lw_tbl := lw_at lw_m4 124 rfl
theorem q913 : (Jvm.Cond.fieldLinkNest "HorsehairTrade$Trade" (116 : Nat) "HorsehairTrade$Tail" "hanks" "I" "HorsehairTrade") ∈ lw_tbl := lw_at lw_m4 127 rfl
theorem q962 : (Jvm.Cond.selects "HorsehairTrade$Trade" ({ cls := "java/lang/Object", name := "getClass", desc := "()Ljava/lang/Class;" } : Jvm.MethodName) ({ cls := "java/lang/Object", name := "getClass", desc := "()Ljava/lang/Class;" } : Jvm.MethodName)) ∈ lw_all := lw_g (lw_at lw_m4 176 rfl) rfl
theorem q990 : (Jvm.Cond.methodLink "HorsehairTrade$Trade" (43 : Nat) ({ cls := "java/lang/System", name := "arraycopy", desc := "(Ljava/lang/Object;ILjava/lang/Object;II)V" } : Jvm.MethodName)) ∈ lw_all := lw_g (lw_at lw_m4 204 rfl) rfl
theorem q1084 : (Jvm.Cond.instanceMethod ({ cls := "HorsehairTrade$Trade", name := "buys", desc := "(III)I" } : Jvm.MethodName)) ∈ lw_all := lw_g (lw_at lw_m5 58 rfl) rfl
theorem q1085 : (Jvm.Cond.selects "HorsehairTrade$Trade" ({ cls := "HorsehairTrade$Trade", name := "buys", desc := "(III)I" } : Jvm.MethodName) ({ cls := "HorsehairTrade$Trade", name := "buys", desc := "(III)I" } : Jvm.MethodName)) ∈ lw_all := lw_g (lw_at lw_m5 59 rfl) rfl
theorem q1086 : (Jvm.Cond.code ({ cls := "HorsehairTrade$Trade", name := "buys", desc := "(III)I" } : Jvm.MethodName) prog_14_method_7_code (4 : Nat) (Option.some Jvm.ClassFile.FieldType.int)) ∈ lw_all := lw_g (lw_at lw_m5 60 rfl) rfl
theorem q1087 : (Jvm.Cond.methodLinkNest "HorsehairTrade$Trade" (90 : Nat) ({ cls := "HorsehairTrade", name := "checkRange", desc := "(III)V" } : Jvm.MethodName) "HorsehairTrade") ∈ lw_tbl := lw_at lw_m5 61 rfl
theorem q1121 : (Jvm.Cond.methodLink "HorsehairTrade$Trade" (94 : Nat) ({ cls := "HorsehairTrade$Row", name := "checkRoom", desc := "()V" } : Jvm.MethodName)) ∈ lw_all := lw_g (lw_at lw_m5 95 rfl) rfl
theorem q1126 : (Jvm.Cond.methodLink "HorsehairTrade$Trade" (97 : Nat) ({ cls := "HorsehairTrade$Trade", name := "pays", desc := "(I)V" } : Jvm.MethodName)) ∈ lw_all := lw_g (lw_at lw_m5 100 rfl) rfl
theorem q1127 : (Jvm.Cond.privateMethod ({ cls := "HorsehairTrade$Trade", name := "pays", desc := "(I)V" } : Jvm.MethodName)) ∈ lw_tbl := lw_at lw_m5 101 rfl
theorem q1128 : (Jvm.Cond.instanceMethod ({ cls := "HorsehairTrade$Trade", name := "pays", desc := "(I)V" } : Jvm.MethodName)) ∈ lw_all := lw_g (lw_at lw_m5 102 rfl) rfl
theorem q1129 : (Jvm.Cond.code ({ cls := "HorsehairTrade$Trade", name := "pays", desc := "(I)V" } : Jvm.MethodName) prog_14_method_5_code (2 : Nat) (Option.none : Option Jvm.ClassFile.FieldType)) ∈ lw_all := lw_g (lw_at lw_m5 103 rfl) rfl
theorem q1130 : (Jvm.Cond.methodLinkNest "HorsehairTrade$Trade" (74 : Nat) ({ cls := "HorsehairTrade", name := "check", desc := "(ZII)V" } : Jvm.MethodName) "HorsehairTrade") ∈ lw_tbl := lw_at lw_m5 104 rfl
theorem q1131 : (Jvm.Cond.classLink "HorsehairTrade$Trade" (100 : Nat) "HorsehairTrade$Tail") ∈ lw_all := lw_g (lw_at lw_m5 105 rfl) rfl
theorem q1132 : (Jvm.Cond.methodLink "HorsehairTrade$Trade" (102 : Nat) ({ cls := "HorsehairTrade$Tail", name := "<init>", desc := "(III)V" } : Jvm.MethodName)) ∈ lw_all := lw_g (lw_at lw_m5 106 rfl) rfl
theorem q1133 : (Jvm.Cond.methodLink "HorsehairTrade$Trade" (104 : Nat) ({ cls := "HorsehairTrade$Row", name := "add", desc := "(LHorsehairTrade$Copied;)I" } : Jvm.MethodName)) ∈ lw_all := lw_g (lw_at lw_m5 107 rfl) rfl
theorem q1138 : (Jvm.Cond.instanceMethod ({ cls := "HorsehairTrade$Trade", name := "combs", desc := "(II)I" } : Jvm.MethodName)) ∈ lw_all := lw_g (lw_at lw_m5 112 rfl) rfl
theorem q1139 : (Jvm.Cond.selects "HorsehairTrade$Trade" ({ cls := "HorsehairTrade$Trade", name := "combs", desc := "(II)I" } : Jvm.MethodName) ({ cls := "HorsehairTrade$Trade", name := "combs", desc := "(II)I" } : Jvm.MethodName)) ∈ lw_all := lw_g (lw_at lw_m5 113 rfl) rfl
theorem q1140 : (Jvm.Cond.code ({ cls := "HorsehairTrade$Trade", name := "combs", desc := "(II)I" } : Jvm.MethodName) prog_14_method_8_code (5 : Nat) (Option.some Jvm.ClassFile.FieldType.int)) ∈ lw_all := lw_g (lw_at lw_m5 114 rfl) rfl
theorem q1141 : (Jvm.Cond.methodLink "HorsehairTrade$Trade" (108 : Nat) ({ cls := "HorsehairTrade$Row", name := "checked", desc := "(I)LHorsehairTrade$Copied;" } : Jvm.MethodName)) ∈ lw_all := lw_g (lw_at lw_m5 115 rfl) rfl
theorem q1150 : (Jvm.Cond.methodLink "HorsehairTrade$Trade" (112 : Nat) ({ cls := "HorsehairTrade$Tail", name := "nextLength", desc := "()I" } : Jvm.MethodName)) ∈ lw_all := lw_g (lw_at lw_m5 124 rfl) rfl
theorem q1155 : (Jvm.Cond.classLink "HorsehairTrade$Trade" (82 : Nat) "HorsehairTrade$Hank") ∈ lw_all := lw_g (lw_at lw_m5 129 rfl) rfl
theorem q1156 : (Jvm.Cond.methodLink "HorsehairTrade$Trade" (121 : Nat) ({ cls := "HorsehairTrade$Hank", name := "<init>", desc := "(IIII)V" } : Jvm.MethodName)) ∈ lw_all := lw_g (lw_at lw_m5 130 rfl) rfl
theorem q1158 : (Jvm.Cond.instanceMethod ({ cls := "HorsehairTrade$Trade", name := "ties", desc := "(II)I" } : Jvm.MethodName)) ∈ lw_all := lw_g (lw_at lw_m5 132 rfl) rfl
theorem q1159 : (Jvm.Cond.selects "HorsehairTrade$Trade" ({ cls := "HorsehairTrade$Trade", name := "ties", desc := "(II)I" } : Jvm.MethodName) ({ cls := "HorsehairTrade$Trade", name := "ties", desc := "(II)I" } : Jvm.MethodName)) ∈ lw_all := lw_g (lw_at lw_m5 133 rfl) rfl
theorem q1160 : (Jvm.Cond.code ({ cls := "HorsehairTrade$Trade", name := "ties", desc := "(II)I" } : Jvm.MethodName) prog_14_method_9_code (7 : Nat) (Option.some Jvm.ClassFile.FieldType.int)) ∈ lw_all := lw_g (lw_at lw_m5 134 rfl) rfl
theorem q1161 : (Jvm.Cond.methodLink "HorsehairTrade$Trade" (124 : Nat) ({ cls := "java/lang/Math", name := "min", desc := "(II)I" } : Jvm.MethodName)) ∈ lw_all := lw_g (lw_at lw_m5 135 rfl) rfl
theorem q1162 : (Jvm.Cond.methodLink "HorsehairTrade$Trade" (78 : Nat) ({ cls := "HorsehairTrade$Row", name := "get", desc := "(I)LHorsehairTrade$Copied;" } : Jvm.MethodName)) ∈ lw_all := lw_g (lw_at lw_m5 136 rfl) rfl
theorem q1163 : (Jvm.Cond.methodLink "HorsehairTrade$Trade" (130 : Nat) ({ cls := "java/lang/Math", name := "max", desc := "(II)I" } : Jvm.MethodName)) ∈ lw_all := lw_g (lw_at lw_m5 137 rfl) rfl
theorem q1164 : (Jvm.Cond.methodLink "HorsehairTrade$Trade" (133 : Nat) ({ cls := "HorsehairTrade$Hank", name := "isTiedWith", desc := "(LHorsehairTrade$Hank;)V" } : Jvm.MethodName)) ∈ lw_all := lw_g (lw_at lw_m5 138 rfl) rfl
theorem q1169 : (Jvm.Cond.methodLink "HorsehairTrade$Trade" (87 : Nat) ({ cls := "HorsehairTrade$Row", name := "remove", desc := "(I)V" } : Jvm.MethodName)) ∈ lw_all := lw_g (lw_at lw_m5 143 rfl) rfl
theorem q1188 : (Jvm.Cond.instanceMethod ({ cls := "HorsehairTrade$Trade", name := "weaves", desc := "(II)I" } : Jvm.MethodName)) ∈ lw_all := lw_g (lw_at lw_m5 162 rfl) rfl
theorem q1189 : (Jvm.Cond.selects "HorsehairTrade$Trade" ({ cls := "HorsehairTrade$Trade", name := "weaves", desc := "(II)I" } : Jvm.MethodName) ({ cls := "HorsehairTrade$Trade", name := "weaves", desc := "(II)I" } : Jvm.MethodName)) ∈ lw_all := lw_g (lw_at lw_m5 163 rfl) rfl
theorem q1190 : (Jvm.Cond.code ({ cls := "HorsehairTrade$Trade", name := "weaves", desc := "(II)I" } : Jvm.MethodName) prog_14_method_10_code (4 : Nat) (Option.some Jvm.ClassFile.FieldType.int)) ∈ lw_all := lw_g (lw_at lw_m5 164 rfl) rfl
theorem q1191 : (Jvm.Cond.methodLink "HorsehairTrade$Trade" (140 : Nat) ({ cls := "HorsehairTrade$Trade", name := "takes", desc := "(II)V" } : Jvm.MethodName)) ∈ lw_all := lw_g (lw_at lw_m5 165 rfl) rfl
theorem q1192 : (Jvm.Cond.privateMethod ({ cls := "HorsehairTrade$Trade", name := "takes", desc := "(II)V" } : Jvm.MethodName)) ∈ lw_tbl := lw_at lw_m5 166 rfl
theorem q1193 : (Jvm.Cond.instanceMethod ({ cls := "HorsehairTrade$Trade", name := "takes", desc := "(II)V" } : Jvm.MethodName)) ∈ lw_all := lw_g (lw_at lw_m5 167 rfl) rfl
theorem q1194 : (Jvm.Cond.code ({ cls := "HorsehairTrade$Trade", name := "takes", desc := "(II)V" } : Jvm.MethodName) prog_14_method_6_code (4 : Nat) (Option.none : Option Jvm.ClassFile.FieldType)) ∈ lw_all := lw_g (lw_at lw_m5 168 rfl) rfl
theorem q1196 : (Jvm.Cond.instanceMethod ({ cls := "HorsehairTrade$Trade", name := "brings", desc := "(I)I" } : Jvm.MethodName)) ∈ lw_all := lw_g (lw_at lw_m5 170 rfl) rfl
theorem q1197 : (Jvm.Cond.selects "HorsehairTrade$Trade" ({ cls := "HorsehairTrade$Trade", name := "brings", desc := "(I)I" } : Jvm.MethodName) ({ cls := "HorsehairTrade$Trade", name := "brings", desc := "(I)I" } : Jvm.MethodName)) ∈ lw_all := lw_g (lw_at lw_m5 171 rfl) rfl
theorem q1198 : (Jvm.Cond.code ({ cls := "HorsehairTrade$Trade", name := "brings", desc := "(I)I" } : Jvm.MethodName) prog_14_method_11_code (2 : Nat) (Option.some Jvm.ClassFile.FieldType.int)) ∈ lw_all := lw_g (lw_at lw_m5 172 rfl) rfl
theorem q1199 : (Jvm.Cond.classLink "HorsehairTrade$Trade" (144 : Nat) "HorsehairTrade$Bow") ∈ lw_all := lw_g (lw_at lw_m5 173 rfl) rfl
theorem q1200 : (Jvm.Cond.methodLink "HorsehairTrade$Trade" (146 : Nat) ({ cls := "HorsehairTrade$Bow", name := "<init>", desc := "(I)V" } : Jvm.MethodName)) ∈ lw_all := lw_g (lw_at lw_m5 174 rfl) rfl
theorem q1202 : (Jvm.Cond.instanceMethod ({ cls := "HorsehairTrade$Trade", name := "hairs", desc := "(II)I" } : Jvm.MethodName)) ∈ lw_all := lw_g (lw_at lw_m5 176 rfl) rfl
theorem q1203 : (Jvm.Cond.selects "HorsehairTrade$Trade" ({ cls := "HorsehairTrade$Trade", name := "hairs", desc := "(II)I" } : Jvm.MethodName) ({ cls := "HorsehairTrade$Trade", name := "hairs", desc := "(II)I" } : Jvm.MethodName)) ∈ lw_all := lw_g (lw_at lw_m5 177 rfl) rfl
theorem q1204 : (Jvm.Cond.code ({ cls := "HorsehairTrade$Trade", name := "hairs", desc := "(II)I" } : Jvm.MethodName) prog_14_method_12_code (5 : Nat) (Option.some Jvm.ClassFile.FieldType.int)) ∈ lw_all := lw_g (lw_at lw_m5 178 rfl) rfl
theorem q1205 : (Jvm.Cond.fieldLinkNest "HorsehairTrade$Trade" (147 : Nat) "HorsehairTrade" "LENGTHS" "[I" "HorsehairTrade") ∈ lw_tbl := lw_at lw_m5 179 rfl
theorem q1207 : (Jvm.Cond.fieldLinkNest "HorsehairTrade$Trade" (153 : Nat) "HorsehairTrade" "NEEDED" "[I" "HorsehairTrade") ∈ lw_tbl := lw_at lw_m5 181 rfl
theorem q1209 : (Jvm.Cond.methodLink "HorsehairTrade$Trade" (160 : Nat) ({ cls := "HorsehairTrade$Hank", name := "quality", desc := "()I" } : Jvm.MethodName)) ∈ lw_all := lw_g (lw_at lw_m5 183 rfl) rfl
theorem q1214 : (Jvm.Cond.instanceMethod ({ cls := "HorsehairTrade$Trade", name := "buysCake", desc := "(I)I" } : Jvm.MethodName)) ∈ lw_all := lw_g (lw_at lw_m5 188 rfl) rfl
theorem q1215 : (Jvm.Cond.selects "HorsehairTrade$Trade" ({ cls := "HorsehairTrade$Trade", name := "buysCake", desc := "(I)I" } : Jvm.MethodName) ({ cls := "HorsehairTrade$Trade", name := "buysCake", desc := "(I)I" } : Jvm.MethodName)) ∈ lw_all := lw_g (lw_at lw_m5 189 rfl) rfl
theorem q1216 : (Jvm.Cond.code ({ cls := "HorsehairTrade$Trade", name := "buysCake", desc := "(I)I" } : Jvm.MethodName) prog_14_method_13_code (2 : Nat) (Option.some Jvm.ClassFile.FieldType.int)) ∈ lw_all := lw_g (lw_at lw_m5 190 rfl) rfl
theorem q1217 : (Jvm.Cond.classLink "HorsehairTrade$Trade" (169 : Nat) "HorsehairTrade$Cake") ∈ lw_all := lw_g (lw_at lw_m5 191 rfl) rfl
theorem q1218 : (Jvm.Cond.methodLink "HorsehairTrade$Trade" (171 : Nat) ({ cls := "HorsehairTrade$Cake", name := "<init>", desc := "(I)V" } : Jvm.MethodName)) ∈ lw_all := lw_g (lw_at lw_m5 192 rfl) rfl
theorem q1220 : (Jvm.Cond.instanceMethod ({ cls := "HorsehairTrade$Trade", name := "rosins", desc := "(II)I" } : Jvm.MethodName)) ∈ lw_all := lw_g (lw_at lw_m5 194 rfl) rfl
theorem q1221 : (Jvm.Cond.selects "HorsehairTrade$Trade" ({ cls := "HorsehairTrade$Trade", name := "rosins", desc := "(II)I" } : Jvm.MethodName) ({ cls := "HorsehairTrade$Trade", name := "rosins", desc := "(II)I" } : Jvm.MethodName)) ∈ lw_all := lw_g (lw_at lw_m5 195 rfl) rfl
theorem q1222 : (Jvm.Cond.code ({ cls := "HorsehairTrade$Trade", name := "rosins", desc := "(II)I" } : Jvm.MethodName) prog_14_method_14_code (6 : Nat) (Option.some Jvm.ClassFile.FieldType.int)) ∈ lw_all := lw_g (lw_at lw_m5 196 rfl) rfl
theorem q1224 : (Jvm.Cond.instanceMethod ({ cls := "HorsehairTrade$Trade", name := "plays", desc := "(II)I" } : Jvm.MethodName)) ∈ lw_all := lw_g (lw_at lw_m5 198 rfl) rfl
theorem q1225 : (Jvm.Cond.selects "HorsehairTrade$Trade" ({ cls := "HorsehairTrade$Trade", name := "plays", desc := "(II)I" } : Jvm.MethodName) ({ cls := "HorsehairTrade$Trade", name := "plays", desc := "(II)I" } : Jvm.MethodName)) ∈ lw_all := lw_g (lw_at lw_m5 199 rfl) rfl
theorem q1226 : (Jvm.Cond.code ({ cls := "HorsehairTrade$Trade", name := "plays", desc := "(II)I" } : Jvm.MethodName) prog_14_method_15_code (5 : Nat) (Option.some Jvm.ClassFile.FieldType.int)) ∈ lw_all := lw_g (lw_at lw_m5 200 rfl) rfl
theorem q1227 : (Jvm.Cond.methodLink "HorsehairTrade$Trade" (175 : Nat) ({ cls := "HorsehairTrade$Bow", name := "canBePlayed", desc := "()Z" } : Jvm.MethodName)) ∈ lw_all := lw_g (lw_at lw_m5 201 rfl) rfl
theorem q1232 : (Jvm.Cond.methodLink "HorsehairTrade$Trade" (179 : Nat) ({ cls := "HorsehairTrade$Bow", name := "hour", desc := "()I" } : Jvm.MethodName)) ∈ lw_all := lw_g (lw_at lw_m5 206 rfl) rfl
theorem q1239 : (Jvm.Cond.instanceMethod ({ cls := "HorsehairTrade$Trade", name := "isRoad", desc := "(II)I" } : Jvm.MethodName)) ∈ lw_all := lw_g (lw_at lw_m5 213 rfl) rfl
theorem q1240 : (Jvm.Cond.selects "HorsehairTrade$Trade" ({ cls := "HorsehairTrade$Trade", name := "isRoad", desc := "(II)I" } : Jvm.MethodName) ({ cls := "HorsehairTrade$Trade", name := "isRoad", desc := "(II)I" } : Jvm.MethodName)) ∈ lw_all := lw_g (lw_at lw_m5 214 rfl) rfl
theorem q1241 : (Jvm.Cond.code ({ cls := "HorsehairTrade$Trade", name := "isRoad", desc := "(II)I" } : Jvm.MethodName) prog_14_method_16_code (4 : Nat) (Option.some Jvm.ClassFile.FieldType.int)) ∈ lw_all := lw_g (lw_at lw_m5 215 rfl) rfl
theorem q1242 : (Jvm.Cond.methodLinkNest "HorsehairTrade$Trade" (182 : Nat) ({ cls := "HorsehairTrade", name := "isBetween", desc := "(III)Z" } : Jvm.MethodName) "HorsehairTrade") ∈ lw_tbl := lw_at lw_m5 216 rfl
theorem q1244 : (Jvm.Cond.instanceMethod ({ cls := "HorsehairTrade$Trade", name := "walks", desc := "(I)I" } : Jvm.MethodName)) ∈ lw_all := lw_g (lw_at lw_m5 218 rfl) rfl
theorem q1245 : (Jvm.Cond.selects "HorsehairTrade$Trade" ({ cls := "HorsehairTrade$Trade", name := "walks", desc := "(I)I" } : Jvm.MethodName) ({ cls := "HorsehairTrade$Trade", name := "walks", desc := "(I)I" } : Jvm.MethodName)) ∈ lw_all := lw_g (lw_at lw_m5 219 rfl) rfl
theorem q1246 : (Jvm.Cond.code ({ cls := "HorsehairTrade$Trade", name := "walks", desc := "(I)I" } : Jvm.MethodName) prog_14_method_17_code (3 : Nat) (Option.some Jvm.ClassFile.FieldType.int)) ∈ lw_all := lw_g (lw_at lw_m5 220 rfl) rfl
theorem q1248 : (Jvm.Cond.instanceMethod ({ cls := "HorsehairTrade$Trade", name := "sells", desc := "(I)I" } : Jvm.MethodName)) ∈ lw_all := lw_g (lw_at lw_m5 222 rfl) rfl
theorem q1249 : (Jvm.Cond.selects "HorsehairTrade$Trade" ({ cls := "HorsehairTrade$Trade", name := "sells", desc := "(I)I" } : Jvm.MethodName) ({ cls := "HorsehairTrade$Trade", name := "sells", desc := "(I)I" } : Jvm.MethodName)) ∈ lw_all := lw_g (lw_at lw_m5 223 rfl) rfl
theorem q1250 : (Jvm.Cond.code ({ cls := "HorsehairTrade$Trade", name := "sells", desc := "(I)I" } : Jvm.MethodName) prog_14_method_18_code (3 : Nat) (Option.some Jvm.ClassFile.FieldType.int)) ∈ lw_all := lw_g (lw_at lw_m5 224 rfl) rfl
theorem q1251 : (Jvm.Cond.methodLink "HorsehairTrade$Trade" (186 : Nat) ({ cls := "HorsehairTrade$Trade", name := "isFair", desc := "()Z" } : Jvm.MethodName)) ∈ lw_all := lw_g (lw_at lw_m5 225 rfl) rfl
theorem q1252 : (Jvm.Cond.instanceMethod ({ cls := "HorsehairTrade$Trade", name := "isFair", desc := "()Z" } : Jvm.MethodName)) ∈ lw_all := lw_g (lw_at lw_m5 226 rfl) rfl
theorem q1253 : (Jvm.Cond.selects "HorsehairTrade$Trade" ({ cls := "HorsehairTrade$Trade", name := "isFair", desc := "()Z" } : Jvm.MethodName) ({ cls := "HorsehairTrade$Trade", name := "isFair", desc := "()Z" } : Jvm.MethodName)) ∈ lw_all := lw_g (lw_at lw_m5 227 rfl) rfl
theorem q1254 : (Jvm.Cond.code ({ cls := "HorsehairTrade$Trade", name := "isFair", desc := "()Z" } : Jvm.MethodName) prog_14_method_4_code (1 : Nat) (Option.some Jvm.ClassFile.FieldType.boolean)) ∈ lw_all := lw_g (lw_at lw_m5 228 rfl) rfl
theorem q1255 : (Jvm.Cond.methodLink "HorsehairTrade$Trade" (70 : Nat) ({ cls := "HorsehairTrade$Trade", name := "isFairOn", desc := "(II)Z" } : Jvm.MethodName)) ∈ lw_all := lw_g (lw_at lw_m5 229 rfl) rfl
theorem q1257 : (Jvm.Cond.instanceMethod ({ cls := "HorsehairTrade$Trade", name := "isPaidFor", desc := "(I)I" } : Jvm.MethodName)) ∈ lw_all := lw_g (lw_at lw_m5 231 rfl) rfl
theorem q1258 : (Jvm.Cond.selects "HorsehairTrade$Trade" ({ cls := "HorsehairTrade$Trade", name := "isPaidFor", desc := "(I)I" } : Jvm.MethodName) ({ cls := "HorsehairTrade$Trade", name := "isPaidFor", desc := "(I)I" } : Jvm.MethodName)) ∈ lw_all := lw_g (lw_at lw_m5 232 rfl) rfl
theorem q1259 : (Jvm.Cond.code ({ cls := "HorsehairTrade$Trade", name := "isPaidFor", desc := "(I)I" } : Jvm.MethodName) prog_14_method_19_code (3 : Nat) (Option.some Jvm.ClassFile.FieldType.int)) ∈ lw_all := lw_g (lw_at lw_m5 233 rfl) rfl
theorem q1260 : (Jvm.Cond.fieldLinkNest "HorsehairTrade$Trade" (193 : Nat) "HorsehairTrade" "PAID" "[I" "HorsehairTrade") ∈ lw_tbl := lw_at lw_m5 234 rfl
theorem q1566 : (Jvm.Cond.instanceMethod ({ cls := "HorsehairTrade$Trade", name := "bestHank", desc := "(I)I" } : Jvm.MethodName)) ∈ lw_all := lw_g (lw_at lw_m7 60 rfl) rfl
theorem q1567 : (Jvm.Cond.selects "HorsehairTrade$Trade" ({ cls := "HorsehairTrade$Trade", name := "bestHank", desc := "(I)I" } : Jvm.MethodName) ({ cls := "HorsehairTrade$Trade", name := "bestHank", desc := "(I)I" } : Jvm.MethodName)) ∈ lw_all := lw_g (lw_at lw_m7 61 rfl) rfl
theorem q1568 : (Jvm.Cond.code ({ cls := "HorsehairTrade$Trade", name := "bestHank", desc := "(I)I" } : Jvm.MethodName) prog_14_method_21_code (4 : Nat) (Option.some Jvm.ClassFile.FieldType.int)) ∈ lw_all := lw_g (lw_at lw_m7 62 rfl) rfl
theorem q1569 : (Jvm.Cond.methodLink "HorsehairTrade$Trade" (196 : Nat) ({ cls := "HorsehairTrade$Row", name := "size", desc := "()I" } : Jvm.MethodName)) ∈ lw_all := lw_g (lw_at lw_m7 63 rfl) rfl
theorem q1570 : (Jvm.Cond.methodLink "HorsehairTrade$Trade" (198 : Nat) ({ cls := "HorsehairTrade$Hank", name := "suits", desc := "(I)Z" } : Jvm.MethodName)) ∈ lw_all := lw_g (lw_at lw_m7 64 rfl) rfl
theorem q1576 : (Jvm.Cond.methodLink "HorsehairTrade$Trade" (202 : Nat) ({ cls := "HorsehairTrade$Trade", name := "isBetter", desc := "(II)Z" } : Jvm.MethodName)) ∈ lw_all := lw_g (lw_at lw_m7 70 rfl) rfl
theorem q1577 : (Jvm.Cond.privateMethod ({ cls := "HorsehairTrade$Trade", name := "isBetter", desc := "(II)Z" } : Jvm.MethodName)) ∈ lw_tbl := lw_at lw_m7 71 rfl
theorem q1578 : (Jvm.Cond.instanceMethod ({ cls := "HorsehairTrade$Trade", name := "isBetter", desc := "(II)Z" } : Jvm.MethodName)) ∈ lw_all := lw_g (lw_at lw_m7 72 rfl) rfl
theorem q1579 : (Jvm.Cond.code ({ cls := "HorsehairTrade$Trade", name := "isBetter", desc := "(II)Z" } : Jvm.MethodName) prog_14_method_20_code (5 : Nat) (Option.some Jvm.ClassFile.FieldType.boolean)) ∈ lw_all := lw_g (lw_at lw_m7 73 rfl) rfl
theorem q1593 : (Jvm.Cond.instanceMethod ({ cls := "HorsehairTrade$Trade", name := "bestAgain", desc := "(I)I" } : Jvm.MethodName)) ∈ lw_all := lw_g (lw_at lw_m7 87 rfl) rfl
theorem q1594 : (Jvm.Cond.selects "HorsehairTrade$Trade" ({ cls := "HorsehairTrade$Trade", name := "bestAgain", desc := "(I)I" } : Jvm.MethodName) ({ cls := "HorsehairTrade$Trade", name := "bestAgain", desc := "(I)I" } : Jvm.MethodName)) ∈ lw_all := lw_g (lw_at lw_m7 88 rfl) rfl
theorem q1595 : (Jvm.Cond.code ({ cls := "HorsehairTrade$Trade", name := "bestAgain", desc := "(I)I" } : Jvm.MethodName) prog_14_method_22_code (4 : Nat) (Option.some Jvm.ClassFile.FieldType.int)) ∈ lw_all := lw_g (lw_at lw_m7 89 rfl) rfl
theorem q1596 : (Jvm.Cond.classLink "HorsehairTrade$Trade" (205 : Nat) "java/util/ArrayList") ∈ lw_all := lw_g (lw_at lw_m7 90 rfl) rfl
theorem q1597 : (Jvm.Cond.methodLink "HorsehairTrade$Trade" (207 : Nat) ({ cls := "java/util/ArrayList", name := "<init>", desc := "()V" } : Jvm.MethodName)) ∈ lw_all := lw_g (lw_at lw_m7 91 rfl) rfl
theorem q1598 : (Jvm.Cond.methodLink "HorsehairTrade$Trade" (208 : Nat) ({ cls := "java/lang/Integer", name := "valueOf", desc := "(I)Ljava/lang/Integer;" } : Jvm.MethodName)) ∈ lw_all := lw_g (lw_at lw_m7 92 rfl) rfl
theorem q1618 : (Jvm.Cond.interfaceEntry "HorsehairTrade$Trade" (214 : Nat)) ∈ lw_tbl := lw_at lw_m7 112 rfl
theorem q1619 : (Jvm.Cond.methodLink "HorsehairTrade$Trade" (214 : Nat) ({ cls := "java/util/List", name := "add", desc := "(Ljava/lang/Object;)Z" } : Jvm.MethodName)) ∈ lw_all := lw_g (lw_at lw_m7 113 rfl) rfl
theorem q1620 : (Jvm.Cond.classLink "HorsehairTrade$Trade" (219 : Nat) "HorsehairTrade$Trade$ByUse") ∈ lw_all := lw_g (lw_at lw_m7 114 rfl) rfl
theorem q1622 : (Jvm.Cond.methodLinkNest "HorsehairTrade$Trade" (221 : Nat) ({ cls := "HorsehairTrade$Trade$ByUse", name := "<init>", desc := "(LHorsehairTrade$Trade;)V" } : Jvm.MethodName) "HorsehairTrade") ∈ lw_tbl := lw_at lw_m7 116 rfl
theorem q1630 : (Jvm.Cond.methodLinkNest "HorsehairTrade$Trade" (224 : Nat) ({ cls := "HorsehairTrade", name := "firstOf", desc := "(Ljava/util/Collection;Ljava/util/Comparator;)Ljava/lang/Object;" } : Jvm.MethodName) "HorsehairTrade") ∈ lw_tbl := lw_at lw_m7 124 rfl
theorem q1971 : (Jvm.Cond.classLink "HorsehairTrade$Trade" (209 : Nat) "java/lang/Integer") ∈ lw_all := lw_g (lw_at lw_m8 225 rfl) rfl
theorem q1972 : (Jvm.Cond.methodLink "HorsehairTrade$Trade" (228 : Nat) ({ cls := "java/lang/Integer", name := "intValue", desc := "()I" } : Jvm.MethodName)) ∈ lw_all := lw_g (lw_at lw_m8 226 rfl) rfl
theorem q2246 : (Jvm.Cond.instanceMethod ({ cls := "HorsehairTrade$Trade", name := "countMixed", desc := "()I" } : Jvm.MethodName)) ∈ lw_all := lw_g (lw_at lw_m10 20 rfl) rfl
theorem q2247 : (Jvm.Cond.selects "HorsehairTrade$Trade" ({ cls := "HorsehairTrade$Trade", name := "countMixed", desc := "()I" } : Jvm.MethodName) ({ cls := "HorsehairTrade$Trade", name := "countMixed", desc := "()I" } : Jvm.MethodName)) ∈ lw_all := lw_g (lw_at lw_m10 21 rfl) rfl
theorem q2248 : (Jvm.Cond.code ({ cls := "HorsehairTrade$Trade", name := "countMixed", desc := "()I" } : Jvm.MethodName) prog_14_method_23_code (3 : Nat) (Option.some Jvm.ClassFile.FieldType.int)) ∈ lw_all := lw_g (lw_at lw_m10 22 rfl) rfl
theorem q2250 : (Jvm.Cond.instanceMethod ({ cls := "HorsehairTrade$Trade", name := "countSieves", desc := "()I" } : Jvm.MethodName)) ∈ lw_all := lw_g (lw_at lw_m10 24 rfl) rfl
theorem q2251 : (Jvm.Cond.selects "HorsehairTrade$Trade" ({ cls := "HorsehairTrade$Trade", name := "countSieves", desc := "()I" } : Jvm.MethodName) ({ cls := "HorsehairTrade$Trade", name := "countSieves", desc := "()I" } : Jvm.MethodName)) ∈ lw_all := lw_g (lw_at lw_m10 25 rfl) rfl
theorem q2252 : (Jvm.Cond.code ({ cls := "HorsehairTrade$Trade", name := "countSieves", desc := "()I" } : Jvm.MethodName) prog_14_method_24_code (6 : Nat) (Option.some Jvm.ClassFile.FieldType.int)) ∈ lw_all := lw_g (lw_at lw_m10 26 rfl) rfl
theorem q2768 : (Jvm.Cond.castable "HorsehairTrade$Trade" "java/lang/Object") ∈ lw_tbl := lw_at lw_m12 62 rfl
theorem in_X2 : ∀ w ∈ wsX20, w ∈ lw_all := lw_in wsX20 [202, 204, 206, 208, 210, 212, 214, 216, 218, 220, 222, 224, 226, 228] (by decide +kernel) (by decide +kernel)
/-! HorsehairTrade$Row -/
set_option maxRecDepth 100000
def RX3 : String := "HorsehairTrade$Row"
def TX3 : u_T := fun k => match k with
  | 0 => ("HorsehairTrade$Row", "things", "Ljava/util/List;", true)
  | _ => ("HorsehairTrade$Row", "most", "I", true)
def tyX3 : Nat → FieldType := fun k => match k with
  | 0 => .object "java/util/List"
  | _ => .int
abbrev wsX30 : List Cond := u_ws RX3 TX3 2
theorem nmX3 : ∀ a, a < 2 → ∀ b, b < 2 → a ≠ b → (TX3 a).2.1 ≠ (TX3 b).2.1 := by decide +kernel
theorem tyX3_ok : ∀ k, k < 2 → parseFieldDescriptor (TX3 k).2.2.1 = some (tyX3 k) := by decide +kernel
abbrev cX3_init : ByteArray := prog_11_method_1_code
def yX3_init : MethodName := ⟨RX3, "<init>", "(I)V"⟩
def dkwX3_init_0 : List UInt8 := [42, 183, 0, 1, 42, 187, 0, 7, 89, 183, 0, 9, 181, 0, 10, 42, 27, 181, 0, 16, 177]
abbrev dktX3_init_0 : List UInt8 := dkwX3_init_0 ++ []
theorem dksX3_init_0 : cX3_init.data.toList.drop 0 = dktX3_init_0 := by decide +kernel
theorem dX3_init_0 : decode cX3_init 0 = .ok (.aload_n 0, 1) := dk_42 (dk_at dksX3_init_0 0 rfl rfl)
theorem dX3_init_1 : decode cX3_init 1 = .ok (.invokespecial 1, 3) := dk_183 0 1 (dk_at dksX3_init_0 1 rfl rfl)
theorem dX3_init_4 : decode cX3_init 4 = .ok (.aload_n 0, 1) := dk_42 (dk_at dksX3_init_0 4 rfl rfl)
theorem dX3_init_5 : decode cX3_init 5 = .ok (.new 7, 3) := dk_187 0 7 (dk_at dksX3_init_0 5 rfl rfl)
theorem dX3_init_8 : decode cX3_init 8 = .ok (.dup, 1) := dk_89 (dk_at dksX3_init_0 8 rfl rfl)
theorem dX3_init_9 : decode cX3_init 9 = .ok (.invokespecial 9, 3) := dk_183 0 9 (dk_at dksX3_init_0 9 rfl rfl)
theorem dX3_init_12 : decode cX3_init 12 = .ok (.putfield 10, 3) := dk_181 0 10 (dk_at dksX3_init_0 12 rfl rfl)
theorem dX3_init_15 : decode cX3_init 15 = .ok (.aload_n 0, 1) := dk_42 (dk_at dksX3_init_0 15 rfl rfl)
theorem dX3_init_16 : decode cX3_init 16 = .ok (.iload_n 1, 1) := dk_27 (dk_at dksX3_init_0 16 rfl rfl)
theorem dX3_init_17 : decode cX3_init 17 = .ok (.putfield 16, 3) := dk_181 0 16 (dk_at dksX3_init_0 17 rfl rfl)
theorem dX3_init_20 : decode cX3_init 20 = .ok (.return_, 1) := dk_177 (dk_at dksX3_init_0 20 rfl rfl)
abbrev cX3_size : ByteArray := prog_11_method_3_code
def yX3_size : MethodName := ⟨RX3, "size", "()I"⟩
def dkwX3_size_0 : List UInt8 := [42, 180, 0, 10, 185, 0, 23, 1, 0, 172]
abbrev dktX3_size_0 : List UInt8 := dkwX3_size_0 ++ []
theorem dksX3_size_0 : cX3_size.data.toList.drop 0 = dktX3_size_0 := by decide +kernel
theorem dX3_size_0 : decode cX3_size 0 = .ok (.aload_n 0, 1) := dk_42 (dk_at dksX3_size_0 0 rfl rfl)
theorem dX3_size_1 : decode cX3_size 1 = .ok (.getfield 10, 3) := dk_180 0 10 (dk_at dksX3_size_0 1 rfl rfl)
theorem dX3_size_4 : decode cX3_size 4 = .ok (.invokeinterface 23 1, 5) := by decide +kernel
theorem dX3_size_9 : decode cX3_size 9 = .ok (.ireturn, 1) := dk_172 (dk_at dksX3_size_0 9 rfl rfl)
abbrev cX3_get : ByteArray := prog_11_method_4_code
def yX3_get : MethodName := ⟨RX3, "get", "(I)LHorsehairTrade$Copied;"⟩
def dkwX3_get_0 : List UInt8 := [42, 180, 0, 10, 27, 185, 0, 29, 2, 0, 192, 0, 33, 176]
abbrev dktX3_get_0 : List UInt8 := dkwX3_get_0 ++ []
theorem dksX3_get_0 : cX3_get.data.toList.drop 0 = dktX3_get_0 := by decide +kernel
theorem dX3_get_0 : decode cX3_get 0 = .ok (.aload_n 0, 1) := dk_42 (dk_at dksX3_get_0 0 rfl rfl)
theorem dX3_get_1 : decode cX3_get 1 = .ok (.getfield 10, 3) := dk_180 0 10 (dk_at dksX3_get_0 1 rfl rfl)
theorem dX3_get_4 : decode cX3_get 4 = .ok (.iload_n 1, 1) := dk_27 (dk_at dksX3_get_0 4 rfl rfl)
theorem dX3_get_5 : decode cX3_get 5 = .ok (.invokeinterface 29 2, 5) := by decide +kernel
theorem dX3_get_10 : decode cX3_get 10 = .ok (.checkcast 33, 3) := dk_192 0 33 (dk_at dksX3_get_0 10 rfl rfl)
theorem dX3_get_13 : decode cX3_get 13 = .ok (.areturn, 1) := dk_176 (dk_at dksX3_get_0 13 rfl rfl)
abbrev cX3_init_2 : ByteArray := prog_11_method_2_code
def yX3_init_2 : MethodName := ⟨RX3, "<init>", "(LHorsehairTrade$Row;)V"⟩
def dkwX3_init_2_2 : List UInt8 := [185, 0, 39, 2, 0, 87, 132, 2, 1, 167, 255, 209, 177]
abbrev dktX3_init_2_2 : List UInt8 := dkwX3_init_2_2 ++ []
def dkwX3_init_2_1 : List UInt8 := [180, 0, 10, 43, 180, 0, 10, 28, 185, 0, 29, 2, 0, 192, 0, 33, 185, 0, 35, 1, 0, 192, 0, 33]
abbrev dktX3_init_2_1 : List UInt8 := dkwX3_init_2_1 ++ dktX3_init_2_2
def dkwX3_init_2_0 : List UInt8 := [42, 43, 180, 0, 16, 183, 0, 20, 3, 61, 28, 43, 180, 0, 10, 185, 0, 23, 1, 0, 162, 0, 40, 42]
abbrev dktX3_init_2_0 : List UInt8 := dkwX3_init_2_0 ++ dktX3_init_2_1
theorem dksX3_init_2_0 : cX3_init_2.data.toList.drop 0 = dktX3_init_2_0 := by decide +kernel
theorem dksX3_init_2_1 : cX3_init_2.data.toList.drop 24 = dktX3_init_2_1 := dk_seg dksX3_init_2_0 24 rfl rfl
theorem dksX3_init_2_2 : cX3_init_2.data.toList.drop 48 = dktX3_init_2_2 := dk_seg dksX3_init_2_1 24 rfl rfl
theorem dX3_init_2_0 : decode cX3_init_2 0 = .ok (.aload_n 0, 1) := dk_42 (dk_at dksX3_init_2_0 0 rfl rfl)
theorem dX3_init_2_1 : decode cX3_init_2 1 = .ok (.aload_n 1, 1) := dk_43 (dk_at dksX3_init_2_0 1 rfl rfl)
theorem dX3_init_2_2 : decode cX3_init_2 2 = .ok (.getfield 16, 3) := dk_180 0 16 (dk_at dksX3_init_2_0 2 rfl rfl)
theorem dX3_init_2_5 : decode cX3_init_2 5 = .ok (.invokespecial 20, 3) := dk_183 0 20 (dk_at dksX3_init_2_0 5 rfl rfl)
theorem dX3_init_2_8 : decode cX3_init_2 8 = .ok (.iconst 0, 1) := dk_3 (dk_at dksX3_init_2_0 8 rfl rfl)
theorem dX3_init_2_9 : decode cX3_init_2 9 = .ok (.istore_n 2, 1) := dk_61 (dk_at dksX3_init_2_0 9 rfl rfl)
theorem dX3_init_2_10 : decode cX3_init_2 10 = .ok (.iload_n 2, 1) := dk_28 (dk_at dksX3_init_2_0 10 rfl rfl)
theorem dX3_init_2_11 : decode cX3_init_2 11 = .ok (.aload_n 1, 1) := dk_43 (dk_at dksX3_init_2_0 11 rfl rfl)
theorem dX3_init_2_12 : decode cX3_init_2 12 = .ok (.getfield 10, 3) := dk_180 0 10 (dk_at dksX3_init_2_0 12 rfl rfl)
theorem dX3_init_2_15 : decode cX3_init_2 15 = .ok (.invokeinterface 23 1, 5) := by decide +kernel
theorem dX3_init_2_20 : decode cX3_init_2 20 = .ok (.if_icmp .ge 40, 3) := dk_162 0 40 (dk_at dksX3_init_2_0 20 rfl rfl)
theorem dX3_init_2_23 : decode cX3_init_2 23 = .ok (.aload_n 0, 1) := dk_42 (dk_at dksX3_init_2_0 23 rfl rfl)
theorem dX3_init_2_24 : decode cX3_init_2 24 = .ok (.getfield 10, 3) := dk_180 0 10 (dk_at dksX3_init_2_1 0 rfl rfl)
theorem dX3_init_2_27 : decode cX3_init_2 27 = .ok (.aload_n 1, 1) := dk_43 (dk_at dksX3_init_2_1 3 rfl rfl)
theorem dX3_init_2_28 : decode cX3_init_2 28 = .ok (.getfield 10, 3) := dk_180 0 10 (dk_at dksX3_init_2_1 4 rfl rfl)
theorem dX3_init_2_31 : decode cX3_init_2 31 = .ok (.iload_n 2, 1) := dk_28 (dk_at dksX3_init_2_1 7 rfl rfl)
theorem dX3_init_2_32 : decode cX3_init_2 32 = .ok (.invokeinterface 29 2, 5) := by decide +kernel
theorem dX3_init_2_37 : decode cX3_init_2 37 = .ok (.checkcast 33, 3) := dk_192 0 33 (dk_at dksX3_init_2_1 13 rfl rfl)
theorem dX3_init_2_40 : decode cX3_init_2 40 = .ok (.invokeinterface 35 1, 5) := by decide +kernel
theorem dX3_init_2_45 : decode cX3_init_2 45 = .ok (.checkcast 33, 3) := dk_192 0 33 (dk_at dksX3_init_2_1 21 rfl rfl)
theorem dX3_init_2_48 : decode cX3_init_2 48 = .ok (.invokeinterface 39 2, 5) := by decide +kernel
theorem dX3_init_2_53 : decode cX3_init_2 53 = .ok (.pop, 1) := dk_87 (dk_at dksX3_init_2_2 5 rfl rfl)
theorem dX3_init_2_54 : decode cX3_init_2 54 = .ok (.iinc 2 1, 3) := dk_132 2 1 (dk_at dksX3_init_2_2 6 rfl rfl)
theorem dX3_init_2_57 : decode cX3_init_2 57 = .ok (.goto (-47), 3) := dk_167 255 209 (dk_at dksX3_init_2_2 9 rfl rfl)
theorem dX3_init_2_60 : decode cX3_init_2 60 = .ok (.return_, 1) := dk_177 (dk_at dksX3_init_2_2 12 rfl rfl)
abbrev cX3_checkRoom : ByteArray := prog_11_method_7_code
def yX3_checkRoom : MethodName := ⟨RX3, "checkRoom", "()V"⟩
def dkwX3_checkRoom_1 : List UInt8 := [180, 0, 16, 184, 0, 53, 177]
abbrev dktX3_checkRoom_1 : List UInt8 := dkwX3_checkRoom_1 ++ []
def dkwX3_checkRoom_0 : List UInt8 := [42, 180, 0, 10, 185, 0, 23, 1, 0, 42, 180, 0, 16, 162, 0, 7, 4, 167, 0, 4, 3, 4, 42]
abbrev dktX3_checkRoom_0 : List UInt8 := dkwX3_checkRoom_0 ++ dktX3_checkRoom_1
theorem dksX3_checkRoom_0 : cX3_checkRoom.data.toList.drop 0 = dktX3_checkRoom_0 := by decide +kernel
theorem dksX3_checkRoom_1 : cX3_checkRoom.data.toList.drop 23 = dktX3_checkRoom_1 := dk_seg dksX3_checkRoom_0 23 rfl rfl
theorem dX3_checkRoom_0 : decode cX3_checkRoom 0 = .ok (.aload_n 0, 1) := dk_42 (dk_at dksX3_checkRoom_0 0 rfl rfl)
theorem dX3_checkRoom_1 : decode cX3_checkRoom 1 = .ok (.getfield 10, 3) := dk_180 0 10 (dk_at dksX3_checkRoom_0 1 rfl rfl)
theorem dX3_checkRoom_4 : decode cX3_checkRoom 4 = .ok (.invokeinterface 23 1, 5) := by decide +kernel
theorem dX3_checkRoom_9 : decode cX3_checkRoom 9 = .ok (.aload_n 0, 1) := dk_42 (dk_at dksX3_checkRoom_0 9 rfl rfl)
theorem dX3_checkRoom_10 : decode cX3_checkRoom 10 = .ok (.getfield 16, 3) := dk_180 0 16 (dk_at dksX3_checkRoom_0 10 rfl rfl)
theorem dX3_checkRoom_13 : decode cX3_checkRoom 13 = .ok (.if_icmp .ge 7, 3) := dk_162 0 7 (dk_at dksX3_checkRoom_0 13 rfl rfl)
theorem dX3_checkRoom_16 : decode cX3_checkRoom 16 = .ok (.iconst 1, 1) := dk_4 (dk_at dksX3_checkRoom_0 16 rfl rfl)
theorem dX3_checkRoom_17 : decode cX3_checkRoom 17 = .ok (.goto 4, 3) := dk_167 0 4 (dk_at dksX3_checkRoom_0 17 rfl rfl)
theorem dX3_checkRoom_20 : decode cX3_checkRoom 20 = .ok (.iconst 0, 1) := dk_3 (dk_at dksX3_checkRoom_0 20 rfl rfl)
theorem dX3_checkRoom_21 : decode cX3_checkRoom 21 = .ok (.iconst 1, 1) := dk_4 (dk_at dksX3_checkRoom_0 21 rfl rfl)
theorem dX3_checkRoom_22 : decode cX3_checkRoom 22 = .ok (.aload_n 0, 1) := dk_42 (dk_at dksX3_checkRoom_0 22 rfl rfl)
theorem dX3_checkRoom_23 : decode cX3_checkRoom 23 = .ok (.getfield 16, 3) := dk_180 0 16 (dk_at dksX3_checkRoom_1 0 rfl rfl)
theorem dX3_checkRoom_26 : decode cX3_checkRoom 26 = .ok (.invokestatic 53, 3) := dk_184 0 53 (dk_at dksX3_checkRoom_1 3 rfl rfl)
theorem dX3_checkRoom_29 : decode cX3_checkRoom 29 = .ok (.return_, 1) := dk_177 (dk_at dksX3_checkRoom_1 6 rfl rfl)
abbrev cX3_add : ByteArray := prog_11_method_8_code
def yX3_add : MethodName := ⟨RX3, "add", "(LHorsehairTrade$Copied;)I"⟩
def dkwX3_add_0 : List UInt8 := [42, 180, 0, 10, 43, 185, 0, 39, 2, 0, 87, 42, 180, 0, 10, 185, 0, 23, 1, 0, 4, 100, 172]
abbrev dktX3_add_0 : List UInt8 := dkwX3_add_0 ++ []
theorem dksX3_add_0 : cX3_add.data.toList.drop 0 = dktX3_add_0 := by decide +kernel
theorem dX3_add_0 : decode cX3_add 0 = .ok (.aload_n 0, 1) := dk_42 (dk_at dksX3_add_0 0 rfl rfl)
theorem dX3_add_1 : decode cX3_add 1 = .ok (.getfield 10, 3) := dk_180 0 10 (dk_at dksX3_add_0 1 rfl rfl)
theorem dX3_add_4 : decode cX3_add 4 = .ok (.aload_n 1, 1) := dk_43 (dk_at dksX3_add_0 4 rfl rfl)
theorem dX3_add_5 : decode cX3_add 5 = .ok (.invokeinterface 39 2, 5) := by decide +kernel
theorem dX3_add_10 : decode cX3_add 10 = .ok (.pop, 1) := dk_87 (dk_at dksX3_add_0 10 rfl rfl)
theorem dX3_add_11 : decode cX3_add 11 = .ok (.aload_n 0, 1) := dk_42 (dk_at dksX3_add_0 11 rfl rfl)
theorem dX3_add_12 : decode cX3_add 12 = .ok (.getfield 10, 3) := dk_180 0 10 (dk_at dksX3_add_0 12 rfl rfl)
theorem dX3_add_15 : decode cX3_add 15 = .ok (.invokeinterface 23 1, 5) := by decide +kernel
theorem dX3_add_20 : decode cX3_add 20 = .ok (.iconst 1, 1) := dk_4 (dk_at dksX3_add_0 20 rfl rfl)
theorem dX3_add_21 : decode cX3_add 21 = .ok (.isub, 1) := dk_100 (dk_at dksX3_add_0 21 rfl rfl)
theorem dX3_add_22 : decode cX3_add 22 = .ok (.ireturn, 1) := dk_172 (dk_at dksX3_add_0 22 rfl rfl)
abbrev cX3_checked : ByteArray := prog_11_method_6_code
def yX3_checked : MethodName := ⟨RX3, "checked", "(I)LHorsehairTrade$Copied;"⟩
def dkwX3_checked_0 : List UInt8 := [42, 27, 182, 0, 49, 5, 27, 184, 0, 53, 42, 180, 0, 10, 27, 185, 0, 29, 2, 0, 192, 0, 33, 176]
abbrev dktX3_checked_0 : List UInt8 := dkwX3_checked_0 ++ []
theorem dksX3_checked_0 : cX3_checked.data.toList.drop 0 = dktX3_checked_0 := by decide +kernel
theorem dX3_checked_0 : decode cX3_checked 0 = .ok (.aload_n 0, 1) := dk_42 (dk_at dksX3_checked_0 0 rfl rfl)
theorem dX3_checked_1 : decode cX3_checked 1 = .ok (.iload_n 1, 1) := dk_27 (dk_at dksX3_checked_0 1 rfl rfl)
theorem dX3_checked_2 : decode cX3_checked 2 = .ok (.invokevirtual 49, 3) := dk_182 0 49 (dk_at dksX3_checked_0 2 rfl rfl)
theorem dX3_checked_5 : decode cX3_checked 5 = .ok (.iconst 2, 1) := dk_5 (dk_at dksX3_checked_0 5 rfl rfl)
theorem dX3_checked_6 : decode cX3_checked 6 = .ok (.iload_n 1, 1) := dk_27 (dk_at dksX3_checked_0 6 rfl rfl)
theorem dX3_checked_7 : decode cX3_checked 7 = .ok (.invokestatic 53, 3) := dk_184 0 53 (dk_at dksX3_checked_0 7 rfl rfl)
theorem dX3_checked_10 : decode cX3_checked 10 = .ok (.aload_n 0, 1) := dk_42 (dk_at dksX3_checked_0 10 rfl rfl)
theorem dX3_checked_11 : decode cX3_checked 11 = .ok (.getfield 10, 3) := dk_180 0 10 (dk_at dksX3_checked_0 11 rfl rfl)
theorem dX3_checked_14 : decode cX3_checked 14 = .ok (.iload_n 1, 1) := dk_27 (dk_at dksX3_checked_0 14 rfl rfl)
theorem dX3_checked_15 : decode cX3_checked 15 = .ok (.invokeinterface 29 2, 5) := by decide +kernel
theorem dX3_checked_20 : decode cX3_checked 20 = .ok (.checkcast 33, 3) := dk_192 0 33 (dk_at dksX3_checked_0 20 rfl rfl)
theorem dX3_checked_23 : decode cX3_checked 23 = .ok (.areturn, 1) := dk_176 (dk_at dksX3_checked_0 23 rfl rfl)
abbrev cX3_has : ByteArray := prog_11_method_5_code
def yX3_has : MethodName := ⟨RX3, "has", "(I)Z"⟩
def dkwX3_has_0 : List UInt8 := [27, 3, 42, 180, 0, 10, 185, 0, 23, 1, 0, 4, 100, 184, 0, 43, 172]
abbrev dktX3_has_0 : List UInt8 := dkwX3_has_0 ++ []
theorem dksX3_has_0 : cX3_has.data.toList.drop 0 = dktX3_has_0 := by decide +kernel
theorem dX3_has_0 : decode cX3_has 0 = .ok (.iload_n 1, 1) := dk_27 (dk_at dksX3_has_0 0 rfl rfl)
theorem dX3_has_1 : decode cX3_has 1 = .ok (.iconst 0, 1) := dk_3 (dk_at dksX3_has_0 1 rfl rfl)
theorem dX3_has_2 : decode cX3_has 2 = .ok (.aload_n 0, 1) := dk_42 (dk_at dksX3_has_0 2 rfl rfl)
theorem dX3_has_3 : decode cX3_has 3 = .ok (.getfield 10, 3) := dk_180 0 10 (dk_at dksX3_has_0 3 rfl rfl)
theorem dX3_has_6 : decode cX3_has 6 = .ok (.invokeinterface 23 1, 5) := by decide +kernel
theorem dX3_has_11 : decode cX3_has 11 = .ok (.iconst 1, 1) := dk_4 (dk_at dksX3_has_0 11 rfl rfl)
theorem dX3_has_12 : decode cX3_has 12 = .ok (.isub, 1) := dk_100 (dk_at dksX3_has_0 12 rfl rfl)
theorem dX3_has_13 : decode cX3_has 13 = .ok (.invokestatic 43, 3) := dk_184 0 43 (dk_at dksX3_has_0 13 rfl rfl)
theorem dX3_has_16 : decode cX3_has 16 = .ok (.ireturn, 1) := dk_172 (dk_at dksX3_has_0 16 rfl rfl)
abbrev cX3_remove : ByteArray := prog_11_method_9_code
def yX3_remove : MethodName := ⟨RX3, "remove", "(I)V"⟩
def dkwX3_remove_0 : List UInt8 := [42, 180, 0, 10, 27, 185, 0, 57, 2, 0, 87, 177]
abbrev dktX3_remove_0 : List UInt8 := dkwX3_remove_0 ++ []
theorem dksX3_remove_0 : cX3_remove.data.toList.drop 0 = dktX3_remove_0 := by decide +kernel
theorem dX3_remove_0 : decode cX3_remove 0 = .ok (.aload_n 0, 1) := dk_42 (dk_at dksX3_remove_0 0 rfl rfl)
theorem dX3_remove_1 : decode cX3_remove 1 = .ok (.getfield 10, 3) := dk_180 0 10 (dk_at dksX3_remove_0 1 rfl rfl)
theorem dX3_remove_4 : decode cX3_remove 4 = .ok (.iload_n 1, 1) := dk_27 (dk_at dksX3_remove_0 4 rfl rfl)
theorem dX3_remove_5 : decode cX3_remove 5 = .ok (.invokeinterface 57 2, 5) := by decide +kernel
theorem dX3_remove_10 : decode cX3_remove 10 = .ok (.pop, 1) := dk_87 (dk_at dksX3_remove_0 10 rfl rfl)
theorem dX3_remove_11 : decode cX3_remove 11 = .ok (.return_, 1) := dk_177 (dk_at dksX3_remove_0 11 rfl rfl)
theorem q69 : (Jvm.Cond.initialized "HorsehairTrade$Row") ∈ lw_all := lw_g (lw_at lw_m1 3 rfl) rfl
theorem q130 : (Jvm.Cond.instantiable "HorsehairTrade$Row" (2 : Nat)) ∈ lw_all := lw_g (lw_at lw_m1 64 rfl) rfl
theorem q132 : (Jvm.Cond.instanceMethod ({ cls := "HorsehairTrade$Row", name := "<init>", desc := "(I)V" } : Jvm.MethodName)) ∈ lw_all := lw_g (lw_at lw_m1 66 rfl) rfl
theorem q133 : (Jvm.Cond.code ({ cls := "HorsehairTrade$Row", name := "<init>", desc := "(I)V" } : Jvm.MethodName) prog_11_method_1_code (2 : Nat) (Option.none : Option Jvm.ClassFile.FieldType)) ∈ lw_all := lw_g (lw_at lw_m1 67 rfl) rfl
theorem q134 : (Jvm.Cond.methodLink "HorsehairTrade$Row" (1 : Nat) ({ cls := "java/lang/Object", name := "<init>", desc := "()V" } : Jvm.MethodName)) ∈ lw_all := lw_g (lw_at lw_m1 68 rfl) rfl
theorem q135 : (Jvm.Cond.classLink "HorsehairTrade$Row" (7 : Nat) "java/util/ArrayList") ∈ lw_all := lw_g (lw_at lw_m1 69 rfl) rfl
theorem q137 : (Jvm.Cond.methodLink "HorsehairTrade$Row" (9 : Nat) ({ cls := "java/util/ArrayList", name := "<init>", desc := "()V" } : Jvm.MethodName)) ∈ lw_all := lw_g (lw_at lw_m1 71 rfl) rfl
theorem q165 : (Jvm.Cond.fieldLink "HorsehairTrade$Row" (10 : Nat) "HorsehairTrade$Row" "things" "Ljava/util/List;") ∈ lw_all := lw_g (lw_at lw_m1 99 rfl) rfl
theorem q168 : (Jvm.Cond.fieldLink "HorsehairTrade$Row" (16 : Nat) "HorsehairTrade$Row" "most" "I") ∈ lw_all := lw_g (lw_at lw_m1 102 rfl) rfl
theorem q169 : (Jvm.Cond.laysFinal "HorsehairTrade$Row" "HorsehairTrade$Row" "things" "Ljava/util/List;") ∈ lw_all := lw_g (lw_at lw_m1 103 rfl) rfl
theorem q170 : (Jvm.Cond.soleField "HorsehairTrade$Row" "things") ∈ lw_all := lw_g (lw_at lw_m1 104 rfl) rfl
theorem q171 : (Jvm.Cond.laysFinal "HorsehairTrade$Row" "HorsehairTrade$Row" "most" "I") ∈ lw_all := lw_g (lw_at lw_m1 105 rfl) rfl
theorem q172 : (Jvm.Cond.soleField "HorsehairTrade$Row" "most") ∈ lw_all := lw_g (lw_at lw_m1 106 rfl) rfl
theorem q173 : (Jvm.Cond.superclass "HorsehairTrade$Row" "java/lang/Object") ∈ lw_all := lw_g (lw_at lw_m1 107 rfl) rfl
theorem q326 : (Jvm.Cond.instanceMethod ({ cls := "HorsehairTrade$Row", name := "size", desc := "()I" } : Jvm.MethodName)) ∈ lw_all := lw_g (lw_at lw_m2 20 rfl) rfl
theorem q327 : (Jvm.Cond.selects "HorsehairTrade$Row" ({ cls := "HorsehairTrade$Row", name := "size", desc := "()I" } : Jvm.MethodName) ({ cls := "HorsehairTrade$Row", name := "size", desc := "()I" } : Jvm.MethodName)) ∈ lw_all := lw_g (lw_at lw_m2 21 rfl) rfl
theorem q328 : (Jvm.Cond.code ({ cls := "HorsehairTrade$Row", name := "size", desc := "()I" } : Jvm.MethodName) prog_11_method_3_code (1 : Nat) (Option.some Jvm.ClassFile.FieldType.int)) ∈ lw_all := lw_g (lw_at lw_m2 22 rfl) rfl
theorem q329 : (Jvm.Cond.interfaceEntry "HorsehairTrade$Row" (23 : Nat)) ∈ lw_tbl := lw_at lw_m2 23 rfl
theorem q330 : (Jvm.Cond.methodLink "HorsehairTrade$Row" (23 : Nat) ({ cls := "java/util/List", name := "size", desc := "()I" } : Jvm.MethodName)) ∈ lw_all := lw_g (lw_at lw_m2 24 rfl) rfl
theorem q461 : (Jvm.Cond.instanceMethod ({ cls := "HorsehairTrade$Row", name := "get", desc := "(I)LHorsehairTrade$Copied;" } : Jvm.MethodName)) ∈ lw_all := lw_g (lw_at lw_m2 155 rfl) rfl
theorem q462 : (Jvm.Cond.selects "HorsehairTrade$Row" ({ cls := "HorsehairTrade$Row", name := "get", desc := "(I)LHorsehairTrade$Copied;" } : Jvm.MethodName) ({ cls := "HorsehairTrade$Row", name := "get", desc := "(I)LHorsehairTrade$Copied;" } : Jvm.MethodName)) ∈ lw_all := lw_g (lw_at lw_m2 156 rfl) rfl
theorem q463 : (Jvm.Cond.code ({ cls := "HorsehairTrade$Row", name := "get", desc := "(I)LHorsehairTrade$Copied;" } : Jvm.MethodName) prog_11_method_4_code (2 : Nat) (Option.some (Jvm.ClassFile.FieldType.object "HorsehairTrade$Copied"))) ∈ lw_all := lw_g (lw_at lw_m2 157 rfl) rfl
theorem q464 : (Jvm.Cond.interfaceEntry "HorsehairTrade$Row" (29 : Nat)) ∈ lw_tbl := lw_at lw_m2 158 rfl
theorem q465 : (Jvm.Cond.methodLink "HorsehairTrade$Row" (29 : Nat) ({ cls := "java/util/List", name := "get", desc := "(I)Ljava/lang/Object;" } : Jvm.MethodName)) ∈ lw_all := lw_g (lw_at lw_m2 159 rfl) rfl
theorem q483 : (Jvm.Cond.classLink "HorsehairTrade$Row" (33 : Nat) "HorsehairTrade$Copied") ∈ lw_all := lw_g (lw_at lw_m2 177 rfl) rfl
theorem q772 : (Jvm.Cond.instanceMethod ({ cls := "HorsehairTrade$Row", name := "<init>", desc := "(LHorsehairTrade$Row;)V" } : Jvm.MethodName)) ∈ lw_all := lw_g (lw_at lw_m3 226 rfl) rfl
theorem q773 : (Jvm.Cond.code ({ cls := "HorsehairTrade$Row", name := "<init>", desc := "(LHorsehairTrade$Row;)V" } : Jvm.MethodName) prog_11_method_2_code (3 : Nat) (Option.none : Option Jvm.ClassFile.FieldType)) ∈ lw_all := lw_g (lw_at lw_m3 227 rfl) rfl
theorem q774 : (Jvm.Cond.methodLink "HorsehairTrade$Row" (20 : Nat) ({ cls := "HorsehairTrade$Row", name := "<init>", desc := "(I)V" } : Jvm.MethodName)) ∈ lw_all := lw_g (lw_at lw_m3 228 rfl) rfl
theorem q775 : (Jvm.Cond.interfaceEntry "HorsehairTrade$Row" (35 : Nat)) ∈ lw_tbl := lw_at lw_m3 229 rfl
theorem q776 : (Jvm.Cond.methodLink "HorsehairTrade$Row" (35 : Nat) ({ cls := "HorsehairTrade$Copied", name := "copy", desc := "()Ljava/lang/Object;" } : Jvm.MethodName)) ∈ lw_all := lw_g (lw_at lw_m3 230 rfl) rfl
theorem q924 : (Jvm.Cond.interfaceEntry "HorsehairTrade$Row" (39 : Nat)) ∈ lw_tbl := lw_at lw_m4 138 rfl
theorem q925 : (Jvm.Cond.methodLink "HorsehairTrade$Row" (39 : Nat) ({ cls := "java/util/List", name := "add", desc := "(Ljava/lang/Object;)Z" } : Jvm.MethodName)) ∈ lw_all := lw_g (lw_at lw_m4 139 rfl) rfl
theorem q959 : (Jvm.Cond.selects "HorsehairTrade$Row" ({ cls := "java/lang/Object", name := "getClass", desc := "()Ljava/lang/Class;" } : Jvm.MethodName) ({ cls := "java/lang/Object", name := "getClass", desc := "()Ljava/lang/Class;" } : Jvm.MethodName)) ∈ lw_all := lw_g (lw_at lw_m4 173 rfl) rfl
theorem q1122 : (Jvm.Cond.instanceMethod ({ cls := "HorsehairTrade$Row", name := "checkRoom", desc := "()V" } : Jvm.MethodName)) ∈ lw_all := lw_g (lw_at lw_m5 96 rfl) rfl
theorem q1123 : (Jvm.Cond.selects "HorsehairTrade$Row" ({ cls := "HorsehairTrade$Row", name := "checkRoom", desc := "()V" } : Jvm.MethodName) ({ cls := "HorsehairTrade$Row", name := "checkRoom", desc := "()V" } : Jvm.MethodName)) ∈ lw_all := lw_g (lw_at lw_m5 97 rfl) rfl
theorem q1124 : (Jvm.Cond.code ({ cls := "HorsehairTrade$Row", name := "checkRoom", desc := "()V" } : Jvm.MethodName) prog_11_method_7_code (1 : Nat) (Option.none : Option Jvm.ClassFile.FieldType)) ∈ lw_all := lw_g (lw_at lw_m5 98 rfl) rfl
theorem q1125 : (Jvm.Cond.methodLinkNest "HorsehairTrade$Row" (53 : Nat) ({ cls := "HorsehairTrade", name := "check", desc := "(ZII)V" } : Jvm.MethodName) "HorsehairTrade") ∈ lw_tbl := lw_at lw_m5 99 rfl
theorem q1134 : (Jvm.Cond.instanceMethod ({ cls := "HorsehairTrade$Row", name := "add", desc := "(LHorsehairTrade$Copied;)I" } : Jvm.MethodName)) ∈ lw_all := lw_g (lw_at lw_m5 108 rfl) rfl
theorem q1135 : (Jvm.Cond.selects "HorsehairTrade$Row" ({ cls := "HorsehairTrade$Row", name := "add", desc := "(LHorsehairTrade$Copied;)I" } : Jvm.MethodName) ({ cls := "HorsehairTrade$Row", name := "add", desc := "(LHorsehairTrade$Copied;)I" } : Jvm.MethodName)) ∈ lw_all := lw_g (lw_at lw_m5 109 rfl) rfl
theorem q1136 : (Jvm.Cond.code ({ cls := "HorsehairTrade$Row", name := "add", desc := "(LHorsehairTrade$Copied;)I" } : Jvm.MethodName) prog_11_method_8_code (2 : Nat) (Option.some Jvm.ClassFile.FieldType.int)) ∈ lw_all := lw_g (lw_at lw_m5 110 rfl) rfl
theorem q1142 : (Jvm.Cond.instanceMethod ({ cls := "HorsehairTrade$Row", name := "checked", desc := "(I)LHorsehairTrade$Copied;" } : Jvm.MethodName)) ∈ lw_all := lw_g (lw_at lw_m5 116 rfl) rfl
theorem q1143 : (Jvm.Cond.selects "HorsehairTrade$Row" ({ cls := "HorsehairTrade$Row", name := "checked", desc := "(I)LHorsehairTrade$Copied;" } : Jvm.MethodName) ({ cls := "HorsehairTrade$Row", name := "checked", desc := "(I)LHorsehairTrade$Copied;" } : Jvm.MethodName)) ∈ lw_all := lw_g (lw_at lw_m5 117 rfl) rfl
theorem q1144 : (Jvm.Cond.code ({ cls := "HorsehairTrade$Row", name := "checked", desc := "(I)LHorsehairTrade$Copied;" } : Jvm.MethodName) prog_11_method_6_code (2 : Nat) (Option.some (Jvm.ClassFile.FieldType.object "HorsehairTrade$Copied"))) ∈ lw_all := lw_g (lw_at lw_m5 118 rfl) rfl
theorem q1145 : (Jvm.Cond.methodLink "HorsehairTrade$Row" (49 : Nat) ({ cls := "HorsehairTrade$Row", name := "has", desc := "(I)Z" } : Jvm.MethodName)) ∈ lw_all := lw_g (lw_at lw_m5 119 rfl) rfl
theorem q1146 : (Jvm.Cond.instanceMethod ({ cls := "HorsehairTrade$Row", name := "has", desc := "(I)Z" } : Jvm.MethodName)) ∈ lw_all := lw_g (lw_at lw_m5 120 rfl) rfl
theorem q1147 : (Jvm.Cond.selects "HorsehairTrade$Row" ({ cls := "HorsehairTrade$Row", name := "has", desc := "(I)Z" } : Jvm.MethodName) ({ cls := "HorsehairTrade$Row", name := "has", desc := "(I)Z" } : Jvm.MethodName)) ∈ lw_all := lw_g (lw_at lw_m5 121 rfl) rfl
theorem q1148 : (Jvm.Cond.code ({ cls := "HorsehairTrade$Row", name := "has", desc := "(I)Z" } : Jvm.MethodName) prog_11_method_5_code (2 : Nat) (Option.some Jvm.ClassFile.FieldType.boolean)) ∈ lw_all := lw_g (lw_at lw_m5 122 rfl) rfl
theorem q1149 : (Jvm.Cond.methodLinkNest "HorsehairTrade$Row" (43 : Nat) ({ cls := "HorsehairTrade", name := "isBetween", desc := "(III)Z" } : Jvm.MethodName) "HorsehairTrade") ∈ lw_tbl := lw_at lw_m5 123 rfl
theorem q1170 : (Jvm.Cond.instanceMethod ({ cls := "HorsehairTrade$Row", name := "remove", desc := "(I)V" } : Jvm.MethodName)) ∈ lw_all := lw_g (lw_at lw_m5 144 rfl) rfl
theorem q1171 : (Jvm.Cond.selects "HorsehairTrade$Row" ({ cls := "HorsehairTrade$Row", name := "remove", desc := "(I)V" } : Jvm.MethodName) ({ cls := "HorsehairTrade$Row", name := "remove", desc := "(I)V" } : Jvm.MethodName)) ∈ lw_all := lw_g (lw_at lw_m5 145 rfl) rfl
theorem q1172 : (Jvm.Cond.code ({ cls := "HorsehairTrade$Row", name := "remove", desc := "(I)V" } : Jvm.MethodName) prog_11_method_9_code (2 : Nat) (Option.none : Option Jvm.ClassFile.FieldType)) ∈ lw_all := lw_g (lw_at lw_m5 146 rfl) rfl
theorem q1173 : (Jvm.Cond.interfaceEntry "HorsehairTrade$Row" (57 : Nat)) ∈ lw_tbl := lw_at lw_m5 147 rfl
theorem q1174 : (Jvm.Cond.methodLink "HorsehairTrade$Row" (57 : Nat) ({ cls := "java/util/List", name := "remove", desc := "(I)Ljava/lang/Object;" } : Jvm.MethodName)) ∈ lw_all := lw_g (lw_at lw_m5 148 rfl) rfl
theorem q2769 : (Jvm.Cond.castable "HorsehairTrade$Row" "java/lang/Object") ∈ lw_tbl := lw_at lw_m12 63 rfl
theorem in_X3 : ∀ w ∈ wsX30, w ∈ lw_all := lw_in wsX30 [169, 171] (by decide +kernel) (by decide +kernel)
/-! HorsehairTrade$Order -/
set_option maxRecDepth 100000
def RX5 : String := "HorsehairTrade$Order"
def TX5 : u_T := fun k => match k with
  | 0 => ("HorsehairTrade$Order", "word", "Ljava/lang/String;", true)
  | _ => ("HorsehairTrade$Order", "numbers", "[I", true)
def tyX5 : Nat → FieldType := fun k => match k with
  | 0 => .object "java/lang/String"
  | _ => .array .int
abbrev wsX50 : List Cond := u_ws RX5 TX5 2
theorem nmX5 : ∀ a, a < 2 → ∀ b, b < 2 → a ≠ b → (TX5 a).2.1 ≠ (TX5 b).2.1 := by decide +kernel
theorem tyX5_ok : ∀ k, k < 2 → parseFieldDescriptor (TX5 k).2.2.1 = some (tyX5 k) := by decide +kernel
abbrev cX5_init : ByteArray := prog_8_method_1_code
def yX5_init : MethodName := ⟨RX5, "<init>", "(Ljava/lang/String;[I)V"⟩
def dkwX5_init_0 : List UInt8 := [42, 183, 0, 1, 42, 43, 181, 0, 7, 42, 44, 181, 0, 13, 177]
abbrev dktX5_init_0 : List UInt8 := dkwX5_init_0 ++ []
theorem dksX5_init_0 : cX5_init.data.toList.drop 0 = dktX5_init_0 := by decide +kernel
theorem dX5_init_0 : decode cX5_init 0 = .ok (.aload_n 0, 1) := dk_42 (dk_at dksX5_init_0 0 rfl rfl)
theorem dX5_init_1 : decode cX5_init 1 = .ok (.invokespecial 1, 3) := dk_183 0 1 (dk_at dksX5_init_0 1 rfl rfl)
theorem dX5_init_4 : decode cX5_init 4 = .ok (.aload_n 0, 1) := dk_42 (dk_at dksX5_init_0 4 rfl rfl)
theorem dX5_init_5 : decode cX5_init 5 = .ok (.aload_n 1, 1) := dk_43 (dk_at dksX5_init_0 5 rfl rfl)
theorem dX5_init_6 : decode cX5_init 6 = .ok (.putfield 7, 3) := dk_181 0 7 (dk_at dksX5_init_0 6 rfl rfl)
theorem dX5_init_9 : decode cX5_init 9 = .ok (.aload_n 0, 1) := dk_42 (dk_at dksX5_init_0 9 rfl rfl)
theorem dX5_init_10 : decode cX5_init 10 = .ok (.aload_n 2, 1) := dk_44 (dk_at dksX5_init_0 10 rfl rfl)
theorem dX5_init_11 : decode cX5_init 11 = .ok (.putfield 13, 3) := dk_181 0 13 (dk_at dksX5_init_0 11 rfl rfl)
theorem dX5_init_14 : decode cX5_init 14 = .ok (.return_, 1) := dk_177 (dk_at dksX5_init_0 14 rfl rfl)
abbrev cX5_does : ByteArray := prog_8_method_3_code
def yX5_does : MethodName := ⟨RX5, "does", "(Ljava/lang/Object;)I"⟩
def dkwX5_does_0 : List UInt8 := [42, 43, 192, 0, 52, 182, 0, 95, 172]
abbrev dktX5_does_0 : List UInt8 := dkwX5_does_0 ++ []
theorem dksX5_does_0 : cX5_does.data.toList.drop 0 = dktX5_does_0 := by decide +kernel
theorem dX5_does_0 : decode cX5_does 0 = .ok (.aload_n 0, 1) := dk_42 (dk_at dksX5_does_0 0 rfl rfl)
theorem dX5_does_1 : decode cX5_does 1 = .ok (.aload_n 1, 1) := dk_43 (dk_at dksX5_does_0 1 rfl rfl)
theorem dX5_does_2 : decode cX5_does 2 = .ok (.checkcast 52, 3) := dk_192 0 52 (dk_at dksX5_does_0 2 rfl rfl)
theorem dX5_does_5 : decode cX5_does 5 = .ok (.invokevirtual 95, 3) := dk_182 0 95 (dk_at dksX5_does_0 5 rfl rfl)
theorem dX5_does_8 : decode cX5_does 8 = .ok (.ireturn, 1) := dk_172 (dk_at dksX5_does_0 8 rfl rfl)
abbrev cX5_does_2 : ByteArray := prog_8_method_2_code
def yX5_does_2 : MethodName := ⟨RX5, "does", "(LHorsehairTrade$Trade;)I"⟩
def dkwX5_does_2_16 : List UInt8 := [43, 28, 182, 0, 89, 172, 43, 28, 182, 0, 92, 172]
abbrev dktX5_does_2_16 : List UInt8 := dkwX5_does_2_16 ++ []
def dkwX5_does_2_15 : List UInt8 := [4, 46, 182, 0, 80, 172, 43, 28, 42, 180, 0, 13, 4, 46, 182, 0, 83, 172, 43, 28, 182, 0, 86, 172]
abbrev dktX5_does_2_15 : List UInt8 := dkwX5_does_2_15 ++ dktX5_does_2_16
def dkwX5_does_2_14 : List UInt8 := [43, 28, 182, 0, 74, 172, 43, 28, 42, 180, 0, 13, 4, 46, 182, 0, 77, 172, 43, 28, 42, 180, 0, 13]
abbrev dktX5_does_2_14 : List UInt8 := dkwX5_does_2_14 ++ dktX5_does_2_15
def dkwX5_does_2_13 : List UInt8 := [4, 46, 182, 0, 64, 172, 43, 28, 182, 0, 67, 172, 43, 28, 42, 180, 0, 13, 4, 46, 182, 0, 71, 172]
abbrev dktX5_does_2_13 : List UInt8 := dkwX5_does_2_13 ++ dktX5_does_2_14
def dkwX5_does_2_12 : List UInt8 := [4, 46, 182, 0, 57, 172, 43, 28, 42, 180, 0, 13, 4, 46, 182, 0, 61, 172, 43, 28, 42, 180, 0, 13]
abbrev dktX5_does_2_12 : List UInt8 := dkwX5_does_2_12 ++ dktX5_does_2_13
def dkwX5_does_2_11 : List UInt8 := [43, 28, 42, 180, 0, 13, 4, 46, 42, 180, 0, 13, 5, 46, 182, 0, 51, 172, 43, 28, 42, 180, 0, 13]
abbrev dktX5_does_2_11 : List UInt8 := dkwX5_does_2_11 ++ dktX5_does_2_12
def dkwX5_does_2_10 : List UInt8 := [170, 0, 0, 0, 0, 0, 189, 0, 0, 0, 0, 0, 0, 0, 11, 0, 0, 0, 63, 0, 0, 0, 81, 0, 0, 0, 93, 0, 0, 0, 105, 0, 0, 0, 117, 0, 0, 0, 123, 0, 0, 0, 135, 0, 0, 0, 141, 0, 0, 0, 153, 0, 0, 0, 165, 0, 0, 0, 177, 0, 0, 0, 183]
abbrev dktX5_does_2_10 : List UInt8 := dkwX5_does_2_10 ++ dktX5_does_2_11
def dkwX5_does_2_9 : List UInt8 := [54, 4, 167, 0, 16, 45, 18, 49, 182, 0, 25, 153, 0, 7, 16, 11, 54, 4, 21, 4]
abbrev dktX5_does_2_9 : List UInt8 := dkwX5_does_2_9 ++ dktX5_does_2_10
def dkwX5_does_2_8 : List UInt8 := [182, 0, 25, 153, 0, 39, 16, 9, 54, 4, 167, 0, 32, 45, 18, 47, 182, 0, 25, 153, 0, 23, 16, 10]
abbrev dktX5_does_2_8 : List UInt8 := dkwX5_does_2_8 ++ dktX5_does_2_9
def dkwX5_does_2_7 : List UInt8 := [167, 0, 64, 45, 18, 43, 182, 0, 25, 153, 0, 55, 16, 8, 54, 4, 167, 0, 48, 45, 18, 45]
abbrev dktX5_does_2_7 : List UInt8 := dkwX5_does_2_7 ++ dktX5_does_2_8
def dkwX5_does_2_6 : List UInt8 := [153, 0, 87, 16, 6, 54, 4, 167, 0, 80, 45, 18, 41, 182, 0, 25, 153, 0, 71, 16, 7, 54, 4]
abbrev dktX5_does_2_6 : List UInt8 := dkwX5_does_2_6 ++ dktX5_does_2_7
def dkwX5_does_2_5 : List UInt8 := [167, 0, 111, 45, 18, 37, 182, 0, 25, 153, 0, 102, 8, 54, 4, 167, 0, 96, 45, 18, 39, 182, 0, 25]
abbrev dktX5_does_2_5 : List UInt8 := dkwX5_does_2_5 ++ dktX5_does_2_6
def dkwX5_does_2_4 : List UInt8 := [182, 0, 25, 153, 0, 132, 6, 54, 4, 167, 0, 126, 45, 18, 35, 182, 0, 25, 153, 0, 117, 7, 54, 4]
abbrev dktX5_does_2_4 : List UInt8 := dkwX5_does_2_4 ++ dktX5_does_2_5
def dkwX5_does_2_3 : List UInt8 := [4, 54, 4, 167, 0, 156, 45, 18, 31, 182, 0, 25, 153, 0, 147, 5, 54, 4, 167, 0, 141, 45, 18, 33]
abbrev dktX5_does_2_3 : List UInt8 := dkwX5_does_2_3 ++ dktX5_does_2_4
def dkwX5_does_2_2 : List UInt8 := [45, 18, 23, 182, 0, 25, 153, 0, 177, 3, 54, 4, 167, 0, 171, 45, 18, 29, 182, 0, 25, 153, 0, 162]
abbrev dktX5_does_2_2 : List UInt8 := dkwX5_does_2_2 ++ dktX5_does_2_3
def dkwX5_does_2_1 : List UInt8 := [171, 0, 0, 1, 32, 0, 0, 0, 12, 0, 1, 125, 202, 0, 0, 0, 165, 0, 1, 192, 144, 0, 0, 0, 135, 0, 46, 122, 56, 0, 0, 0, 195, 0, 46, 175, 1, 0, 0, 0, 120, 0, 48, 191, 226, 0, 0, 0, 180, 0, 52, 139, 52, 0, 0, 0, 227, 0, 53, 127, 32, 0, 0, 0, 243, 0, 53, 207, 82, 0, 0, 1, 19, 0, 54, 52, 80, 0, 0, 0, 105, 0, 55, 145, 201, 0, 0, 1, 3, 6, 122, 169, 123, 0, 0, 0, 211, 6, 188, 81, 66, 0, 0, 0, 150]
abbrev dktX5_does_2_1 : List UInt8 := dkwX5_does_2_1 ++ dktX5_does_2_2
def dkwX5_does_2_0 : List UInt8 := [42, 180, 0, 13, 3, 46, 61, 42, 180, 0, 7, 78, 2, 54, 4, 45, 182, 0, 17]
abbrev dktX5_does_2_0 : List UInt8 := dkwX5_does_2_0 ++ dktX5_does_2_1
theorem dksX5_does_2_0 : cX5_does_2.data.toList.drop 0 = dktX5_does_2_0 := by decide +kernel
theorem dksX5_does_2_1 : cX5_does_2.data.toList.drop 19 = dktX5_does_2_1 := dk_seg dksX5_does_2_0 19 rfl rfl
theorem dksX5_does_2_2 : cX5_does_2.data.toList.drop 124 = dktX5_does_2_2 := dk_seg dksX5_does_2_1 105 rfl rfl
theorem dksX5_does_2_3 : cX5_does_2.data.toList.drop 148 = dktX5_does_2_3 := dk_seg dksX5_does_2_2 24 rfl rfl
theorem dksX5_does_2_4 : cX5_does_2.data.toList.drop 172 = dktX5_does_2_4 := dk_seg dksX5_does_2_3 24 rfl rfl
theorem dksX5_does_2_5 : cX5_does_2.data.toList.drop 196 = dktX5_does_2_5 := dk_seg dksX5_does_2_4 24 rfl rfl
theorem dksX5_does_2_6 : cX5_does_2.data.toList.drop 220 = dktX5_does_2_6 := dk_seg dksX5_does_2_5 24 rfl rfl
theorem dksX5_does_2_7 : cX5_does_2.data.toList.drop 243 = dktX5_does_2_7 := dk_seg dksX5_does_2_6 23 rfl rfl
theorem dksX5_does_2_8 : cX5_does_2.data.toList.drop 265 = dktX5_does_2_8 := dk_seg dksX5_does_2_7 22 rfl rfl
theorem dksX5_does_2_9 : cX5_does_2.data.toList.drop 289 = dktX5_does_2_9 := dk_seg dksX5_does_2_8 24 rfl rfl
theorem dksX5_does_2_10 : cX5_does_2.data.toList.drop 309 = dktX5_does_2_10 := dk_seg dksX5_does_2_9 20 rfl rfl
theorem dksX5_does_2_11 : cX5_does_2.data.toList.drop 372 = dktX5_does_2_11 := dk_seg dksX5_does_2_10 63 rfl rfl
theorem dksX5_does_2_12 : cX5_does_2.data.toList.drop 396 = dktX5_does_2_12 := dk_seg dksX5_does_2_11 24 rfl rfl
theorem dksX5_does_2_13 : cX5_does_2.data.toList.drop 420 = dktX5_does_2_13 := dk_seg dksX5_does_2_12 24 rfl rfl
theorem dksX5_does_2_14 : cX5_does_2.data.toList.drop 444 = dktX5_does_2_14 := dk_seg dksX5_does_2_13 24 rfl rfl
theorem dksX5_does_2_15 : cX5_does_2.data.toList.drop 468 = dktX5_does_2_15 := dk_seg dksX5_does_2_14 24 rfl rfl
theorem dksX5_does_2_16 : cX5_does_2.data.toList.drop 492 = dktX5_does_2_16 := dk_seg dksX5_does_2_15 24 rfl rfl
theorem dX5_does_2_0 : decode cX5_does_2 0 = .ok (.aload_n 0, 1) := dk_42 (dk_at dksX5_does_2_0 0 rfl rfl)
theorem dX5_does_2_1 : decode cX5_does_2 1 = .ok (.getfield 13, 3) := dk_180 0 13 (dk_at dksX5_does_2_0 1 rfl rfl)
theorem dX5_does_2_4 : decode cX5_does_2 4 = .ok (.iconst 0, 1) := dk_3 (dk_at dksX5_does_2_0 4 rfl rfl)
theorem dX5_does_2_5 : decode cX5_does_2 5 = .ok (.iaload, 1) := dk_46 (dk_at dksX5_does_2_0 5 rfl rfl)
theorem dX5_does_2_6 : decode cX5_does_2 6 = .ok (.istore_n 2, 1) := dk_61 (dk_at dksX5_does_2_0 6 rfl rfl)
theorem dX5_does_2_7 : decode cX5_does_2 7 = .ok (.aload_n 0, 1) := dk_42 (dk_at dksX5_does_2_0 7 rfl rfl)
theorem dX5_does_2_8 : decode cX5_does_2 8 = .ok (.getfield 7, 3) := dk_180 0 7 (dk_at dksX5_does_2_0 8 rfl rfl)
theorem dX5_does_2_11 : decode cX5_does_2 11 = .ok (.astore_n 3, 1) := dk_78 (dk_at dksX5_does_2_0 11 rfl rfl)
theorem dX5_does_2_12 : decode cX5_does_2 12 = .ok (.iconst (-1), 1) := dk_2 (dk_at dksX5_does_2_0 12 rfl rfl)
theorem dX5_does_2_13 : decode cX5_does_2 13 = .ok (.istore 4, 2) := dk_54 4 (dk_at dksX5_does_2_0 13 rfl rfl)
theorem dX5_does_2_15 : decode cX5_does_2 15 = .ok (.aload_n 3, 1) := dk_45 (dk_at dksX5_does_2_0 15 rfl rfl)
theorem dX5_does_2_16 : decode cX5_does_2 16 = .ok (.invokevirtual 17, 3) := dk_182 0 17 (dk_at dksX5_does_2_0 16 rfl rfl)
theorem dX5_does_2_19 : decode cX5_does_2 19 = .ok (.lookupswitch 288 #[(97738, 165), (114832, 135), (3045944, 195), (3059457, 120), (3194850, 180), (3443508, 227), (3505952, 243), (3526482, 275), (3552336, 105), (3641801, 259), (108702075, 211), (113004866, 150)], 105) := by decide +kernel
theorem dX5_does_2_124 : decode cX5_does_2 124 = .ok (.aload_n 3, 1) := dk_45 (dk_at dksX5_does_2_2 0 rfl rfl)
theorem dX5_does_2_125 : decode cX5_does_2 125 = .ok (.ldc 23, 2) := dk_18 23 (dk_at dksX5_does_2_2 1 rfl rfl)
theorem dX5_does_2_127 : decode cX5_does_2 127 = .ok (.invokevirtual 25, 3) := dk_182 0 25 (dk_at dksX5_does_2_2 3 rfl rfl)
theorem dX5_does_2_130 : decode cX5_does_2 130 = .ok (.ifCond .eq 177, 3) := dk_153 0 177 (dk_at dksX5_does_2_2 6 rfl rfl)
theorem dX5_does_2_133 : decode cX5_does_2 133 = .ok (.iconst 0, 1) := dk_3 (dk_at dksX5_does_2_2 9 rfl rfl)
theorem dX5_does_2_134 : decode cX5_does_2 134 = .ok (.istore 4, 2) := dk_54 4 (dk_at dksX5_does_2_2 10 rfl rfl)
theorem dX5_does_2_136 : decode cX5_does_2 136 = .ok (.goto 171, 3) := dk_167 0 171 (dk_at dksX5_does_2_2 12 rfl rfl)
theorem dX5_does_2_139 : decode cX5_does_2 139 = .ok (.aload_n 3, 1) := dk_45 (dk_at dksX5_does_2_2 15 rfl rfl)
theorem dX5_does_2_140 : decode cX5_does_2 140 = .ok (.ldc 29, 2) := dk_18 29 (dk_at dksX5_does_2_2 16 rfl rfl)
theorem dX5_does_2_142 : decode cX5_does_2 142 = .ok (.invokevirtual 25, 3) := dk_182 0 25 (dk_at dksX5_does_2_2 18 rfl rfl)
theorem dX5_does_2_145 : decode cX5_does_2 145 = .ok (.ifCond .eq 162, 3) := dk_153 0 162 (dk_at dksX5_does_2_2 21 rfl rfl)
theorem dX5_does_2_148 : decode cX5_does_2 148 = .ok (.iconst 1, 1) := dk_4 (dk_at dksX5_does_2_3 0 rfl rfl)
theorem dX5_does_2_149 : decode cX5_does_2 149 = .ok (.istore 4, 2) := dk_54 4 (dk_at dksX5_does_2_3 1 rfl rfl)
theorem dX5_does_2_151 : decode cX5_does_2 151 = .ok (.goto 156, 3) := dk_167 0 156 (dk_at dksX5_does_2_3 3 rfl rfl)
theorem dX5_does_2_154 : decode cX5_does_2 154 = .ok (.aload_n 3, 1) := dk_45 (dk_at dksX5_does_2_3 6 rfl rfl)
theorem dX5_does_2_155 : decode cX5_does_2 155 = .ok (.ldc 31, 2) := dk_18 31 (dk_at dksX5_does_2_3 7 rfl rfl)
theorem dX5_does_2_157 : decode cX5_does_2 157 = .ok (.invokevirtual 25, 3) := dk_182 0 25 (dk_at dksX5_does_2_3 9 rfl rfl)
theorem dX5_does_2_160 : decode cX5_does_2 160 = .ok (.ifCond .eq 147, 3) := dk_153 0 147 (dk_at dksX5_does_2_3 12 rfl rfl)
theorem dX5_does_2_163 : decode cX5_does_2 163 = .ok (.iconst 2, 1) := dk_5 (dk_at dksX5_does_2_3 15 rfl rfl)
theorem dX5_does_2_164 : decode cX5_does_2 164 = .ok (.istore 4, 2) := dk_54 4 (dk_at dksX5_does_2_3 16 rfl rfl)
theorem dX5_does_2_166 : decode cX5_does_2 166 = .ok (.goto 141, 3) := dk_167 0 141 (dk_at dksX5_does_2_3 18 rfl rfl)
theorem dX5_does_2_169 : decode cX5_does_2 169 = .ok (.aload_n 3, 1) := dk_45 (dk_at dksX5_does_2_3 21 rfl rfl)
theorem dX5_does_2_170 : decode cX5_does_2 170 = .ok (.ldc 33, 2) := dk_18 33 (dk_at dksX5_does_2_3 22 rfl rfl)
theorem dX5_does_2_172 : decode cX5_does_2 172 = .ok (.invokevirtual 25, 3) := dk_182 0 25 (dk_at dksX5_does_2_4 0 rfl rfl)
theorem dX5_does_2_175 : decode cX5_does_2 175 = .ok (.ifCond .eq 132, 3) := dk_153 0 132 (dk_at dksX5_does_2_4 3 rfl rfl)
theorem dX5_does_2_178 : decode cX5_does_2 178 = .ok (.iconst 3, 1) := dk_6 (dk_at dksX5_does_2_4 6 rfl rfl)
theorem dX5_does_2_179 : decode cX5_does_2 179 = .ok (.istore 4, 2) := dk_54 4 (dk_at dksX5_does_2_4 7 rfl rfl)
theorem dX5_does_2_181 : decode cX5_does_2 181 = .ok (.goto 126, 3) := dk_167 0 126 (dk_at dksX5_does_2_4 9 rfl rfl)
theorem dX5_does_2_184 : decode cX5_does_2 184 = .ok (.aload_n 3, 1) := dk_45 (dk_at dksX5_does_2_4 12 rfl rfl)
theorem dX5_does_2_185 : decode cX5_does_2 185 = .ok (.ldc 35, 2) := dk_18 35 (dk_at dksX5_does_2_4 13 rfl rfl)
theorem dX5_does_2_187 : decode cX5_does_2 187 = .ok (.invokevirtual 25, 3) := dk_182 0 25 (dk_at dksX5_does_2_4 15 rfl rfl)
theorem dX5_does_2_190 : decode cX5_does_2 190 = .ok (.ifCond .eq 117, 3) := dk_153 0 117 (dk_at dksX5_does_2_4 18 rfl rfl)
theorem dX5_does_2_193 : decode cX5_does_2 193 = .ok (.iconst 4, 1) := dk_7 (dk_at dksX5_does_2_4 21 rfl rfl)
theorem dX5_does_2_194 : decode cX5_does_2 194 = .ok (.istore 4, 2) := dk_54 4 (dk_at dksX5_does_2_4 22 rfl rfl)
theorem dX5_does_2_196 : decode cX5_does_2 196 = .ok (.goto 111, 3) := dk_167 0 111 (dk_at dksX5_does_2_5 0 rfl rfl)
theorem dX5_does_2_199 : decode cX5_does_2 199 = .ok (.aload_n 3, 1) := dk_45 (dk_at dksX5_does_2_5 3 rfl rfl)
theorem dX5_does_2_200 : decode cX5_does_2 200 = .ok (.ldc 37, 2) := dk_18 37 (dk_at dksX5_does_2_5 4 rfl rfl)
theorem dX5_does_2_202 : decode cX5_does_2 202 = .ok (.invokevirtual 25, 3) := dk_182 0 25 (dk_at dksX5_does_2_5 6 rfl rfl)
theorem dX5_does_2_205 : decode cX5_does_2 205 = .ok (.ifCond .eq 102, 3) := dk_153 0 102 (dk_at dksX5_does_2_5 9 rfl rfl)
theorem dX5_does_2_208 : decode cX5_does_2 208 = .ok (.iconst 5, 1) := dk_8 (dk_at dksX5_does_2_5 12 rfl rfl)
theorem dX5_does_2_209 : decode cX5_does_2 209 = .ok (.istore 4, 2) := dk_54 4 (dk_at dksX5_does_2_5 13 rfl rfl)
theorem dX5_does_2_211 : decode cX5_does_2 211 = .ok (.goto 96, 3) := dk_167 0 96 (dk_at dksX5_does_2_5 15 rfl rfl)
theorem dX5_does_2_214 : decode cX5_does_2 214 = .ok (.aload_n 3, 1) := dk_45 (dk_at dksX5_does_2_5 18 rfl rfl)
theorem dX5_does_2_215 : decode cX5_does_2 215 = .ok (.ldc 39, 2) := dk_18 39 (dk_at dksX5_does_2_5 19 rfl rfl)
theorem dX5_does_2_217 : decode cX5_does_2 217 = .ok (.invokevirtual 25, 3) := dk_182 0 25 (dk_at dksX5_does_2_5 21 rfl rfl)
theorem dX5_does_2_220 : decode cX5_does_2 220 = .ok (.ifCond .eq 87, 3) := dk_153 0 87 (dk_at dksX5_does_2_6 0 rfl rfl)
theorem dX5_does_2_223 : decode cX5_does_2 223 = .ok (.bipush 6, 2) := dk_16 6 (dk_at dksX5_does_2_6 3 rfl rfl)
theorem dX5_does_2_225 : decode cX5_does_2 225 = .ok (.istore 4, 2) := dk_54 4 (dk_at dksX5_does_2_6 5 rfl rfl)
theorem dX5_does_2_227 : decode cX5_does_2 227 = .ok (.goto 80, 3) := dk_167 0 80 (dk_at dksX5_does_2_6 7 rfl rfl)
theorem dX5_does_2_230 : decode cX5_does_2 230 = .ok (.aload_n 3, 1) := dk_45 (dk_at dksX5_does_2_6 10 rfl rfl)
theorem dX5_does_2_231 : decode cX5_does_2 231 = .ok (.ldc 41, 2) := dk_18 41 (dk_at dksX5_does_2_6 11 rfl rfl)
theorem dX5_does_2_233 : decode cX5_does_2 233 = .ok (.invokevirtual 25, 3) := dk_182 0 25 (dk_at dksX5_does_2_6 13 rfl rfl)
theorem dX5_does_2_236 : decode cX5_does_2 236 = .ok (.ifCond .eq 71, 3) := dk_153 0 71 (dk_at dksX5_does_2_6 16 rfl rfl)
theorem dX5_does_2_239 : decode cX5_does_2 239 = .ok (.bipush 7, 2) := dk_16 7 (dk_at dksX5_does_2_6 19 rfl rfl)
theorem dX5_does_2_241 : decode cX5_does_2 241 = .ok (.istore 4, 2) := dk_54 4 (dk_at dksX5_does_2_6 21 rfl rfl)
theorem dX5_does_2_243 : decode cX5_does_2 243 = .ok (.goto 64, 3) := dk_167 0 64 (dk_at dksX5_does_2_7 0 rfl rfl)
theorem dX5_does_2_246 : decode cX5_does_2 246 = .ok (.aload_n 3, 1) := dk_45 (dk_at dksX5_does_2_7 3 rfl rfl)
theorem dX5_does_2_247 : decode cX5_does_2 247 = .ok (.ldc 43, 2) := dk_18 43 (dk_at dksX5_does_2_7 4 rfl rfl)
theorem dX5_does_2_249 : decode cX5_does_2 249 = .ok (.invokevirtual 25, 3) := dk_182 0 25 (dk_at dksX5_does_2_7 6 rfl rfl)
theorem dX5_does_2_252 : decode cX5_does_2 252 = .ok (.ifCond .eq 55, 3) := dk_153 0 55 (dk_at dksX5_does_2_7 9 rfl rfl)
theorem dX5_does_2_255 : decode cX5_does_2 255 = .ok (.bipush 8, 2) := dk_16 8 (dk_at dksX5_does_2_7 12 rfl rfl)
theorem dX5_does_2_257 : decode cX5_does_2 257 = .ok (.istore 4, 2) := dk_54 4 (dk_at dksX5_does_2_7 14 rfl rfl)
theorem dX5_does_2_259 : decode cX5_does_2 259 = .ok (.goto 48, 3) := dk_167 0 48 (dk_at dksX5_does_2_7 16 rfl rfl)
theorem dX5_does_2_262 : decode cX5_does_2 262 = .ok (.aload_n 3, 1) := dk_45 (dk_at dksX5_does_2_7 19 rfl rfl)
theorem dX5_does_2_263 : decode cX5_does_2 263 = .ok (.ldc 45, 2) := dk_18 45 (dk_at dksX5_does_2_7 20 rfl rfl)
theorem dX5_does_2_265 : decode cX5_does_2 265 = .ok (.invokevirtual 25, 3) := dk_182 0 25 (dk_at dksX5_does_2_8 0 rfl rfl)
theorem dX5_does_2_268 : decode cX5_does_2 268 = .ok (.ifCond .eq 39, 3) := dk_153 0 39 (dk_at dksX5_does_2_8 3 rfl rfl)
theorem dX5_does_2_271 : decode cX5_does_2 271 = .ok (.bipush 9, 2) := dk_16 9 (dk_at dksX5_does_2_8 6 rfl rfl)
theorem dX5_does_2_273 : decode cX5_does_2 273 = .ok (.istore 4, 2) := dk_54 4 (dk_at dksX5_does_2_8 8 rfl rfl)
theorem dX5_does_2_275 : decode cX5_does_2 275 = .ok (.goto 32, 3) := dk_167 0 32 (dk_at dksX5_does_2_8 10 rfl rfl)
theorem dX5_does_2_278 : decode cX5_does_2 278 = .ok (.aload_n 3, 1) := dk_45 (dk_at dksX5_does_2_8 13 rfl rfl)
theorem dX5_does_2_279 : decode cX5_does_2 279 = .ok (.ldc 47, 2) := dk_18 47 (dk_at dksX5_does_2_8 14 rfl rfl)
theorem dX5_does_2_281 : decode cX5_does_2 281 = .ok (.invokevirtual 25, 3) := dk_182 0 25 (dk_at dksX5_does_2_8 16 rfl rfl)
theorem dX5_does_2_284 : decode cX5_does_2 284 = .ok (.ifCond .eq 23, 3) := dk_153 0 23 (dk_at dksX5_does_2_8 19 rfl rfl)
theorem dX5_does_2_287 : decode cX5_does_2 287 = .ok (.bipush 10, 2) := dk_16 10 (dk_at dksX5_does_2_8 22 rfl rfl)
theorem dX5_does_2_289 : decode cX5_does_2 289 = .ok (.istore 4, 2) := dk_54 4 (dk_at dksX5_does_2_9 0 rfl rfl)
theorem dX5_does_2_291 : decode cX5_does_2 291 = .ok (.goto 16, 3) := dk_167 0 16 (dk_at dksX5_does_2_9 2 rfl rfl)
theorem dX5_does_2_294 : decode cX5_does_2 294 = .ok (.aload_n 3, 1) := dk_45 (dk_at dksX5_does_2_9 5 rfl rfl)
theorem dX5_does_2_295 : decode cX5_does_2 295 = .ok (.ldc 49, 2) := dk_18 49 (dk_at dksX5_does_2_9 6 rfl rfl)
theorem dX5_does_2_297 : decode cX5_does_2 297 = .ok (.invokevirtual 25, 3) := dk_182 0 25 (dk_at dksX5_does_2_9 8 rfl rfl)
theorem dX5_does_2_300 : decode cX5_does_2 300 = .ok (.ifCond .eq 7, 3) := dk_153 0 7 (dk_at dksX5_does_2_9 11 rfl rfl)
theorem dX5_does_2_303 : decode cX5_does_2 303 = .ok (.bipush 11, 2) := dk_16 11 (dk_at dksX5_does_2_9 14 rfl rfl)
theorem dX5_does_2_305 : decode cX5_does_2 305 = .ok (.istore 4, 2) := dk_54 4 (dk_at dksX5_does_2_9 16 rfl rfl)
theorem dX5_does_2_307 : decode cX5_does_2 307 = .ok (.iload 4, 2) := dk_21 4 (dk_at dksX5_does_2_9 18 rfl rfl)
theorem dX5_does_2_309 : decode cX5_does_2 309 = .ok (.tableswitch 189 0 11 #[63, 81, 93, 105, 117, 123, 135, 141, 153, 165, 177, 183], 63) := by decide +kernel
theorem dX5_does_2_372 : decode cX5_does_2 372 = .ok (.aload_n 1, 1) := dk_43 (dk_at dksX5_does_2_11 0 rfl rfl)
theorem dX5_does_2_373 : decode cX5_does_2 373 = .ok (.iload_n 2, 1) := dk_28 (dk_at dksX5_does_2_11 1 rfl rfl)
theorem dX5_does_2_374 : decode cX5_does_2 374 = .ok (.aload_n 0, 1) := dk_42 (dk_at dksX5_does_2_11 2 rfl rfl)
theorem dX5_does_2_375 : decode cX5_does_2 375 = .ok (.getfield 13, 3) := dk_180 0 13 (dk_at dksX5_does_2_11 3 rfl rfl)
theorem dX5_does_2_378 : decode cX5_does_2 378 = .ok (.iconst 1, 1) := dk_4 (dk_at dksX5_does_2_11 6 rfl rfl)
theorem dX5_does_2_379 : decode cX5_does_2 379 = .ok (.iaload, 1) := dk_46 (dk_at dksX5_does_2_11 7 rfl rfl)
theorem dX5_does_2_380 : decode cX5_does_2 380 = .ok (.aload_n 0, 1) := dk_42 (dk_at dksX5_does_2_11 8 rfl rfl)
theorem dX5_does_2_381 : decode cX5_does_2 381 = .ok (.getfield 13, 3) := dk_180 0 13 (dk_at dksX5_does_2_11 9 rfl rfl)
theorem dX5_does_2_384 : decode cX5_does_2 384 = .ok (.iconst 2, 1) := dk_5 (dk_at dksX5_does_2_11 12 rfl rfl)
theorem dX5_does_2_385 : decode cX5_does_2 385 = .ok (.iaload, 1) := dk_46 (dk_at dksX5_does_2_11 13 rfl rfl)
theorem dX5_does_2_386 : decode cX5_does_2 386 = .ok (.invokevirtual 51, 3) := dk_182 0 51 (dk_at dksX5_does_2_11 14 rfl rfl)
theorem dX5_does_2_389 : decode cX5_does_2 389 = .ok (.ireturn, 1) := dk_172 (dk_at dksX5_does_2_11 17 rfl rfl)
theorem dX5_does_2_390 : decode cX5_does_2 390 = .ok (.aload_n 1, 1) := dk_43 (dk_at dksX5_does_2_11 18 rfl rfl)
theorem dX5_does_2_391 : decode cX5_does_2 391 = .ok (.iload_n 2, 1) := dk_28 (dk_at dksX5_does_2_11 19 rfl rfl)
theorem dX5_does_2_392 : decode cX5_does_2 392 = .ok (.aload_n 0, 1) := dk_42 (dk_at dksX5_does_2_11 20 rfl rfl)
theorem dX5_does_2_393 : decode cX5_does_2 393 = .ok (.getfield 13, 3) := dk_180 0 13 (dk_at dksX5_does_2_11 21 rfl rfl)
theorem dX5_does_2_396 : decode cX5_does_2 396 = .ok (.iconst 1, 1) := dk_4 (dk_at dksX5_does_2_12 0 rfl rfl)
theorem dX5_does_2_397 : decode cX5_does_2 397 = .ok (.iaload, 1) := dk_46 (dk_at dksX5_does_2_12 1 rfl rfl)
theorem dX5_does_2_398 : decode cX5_does_2 398 = .ok (.invokevirtual 57, 3) := dk_182 0 57 (dk_at dksX5_does_2_12 2 rfl rfl)
theorem dX5_does_2_401 : decode cX5_does_2 401 = .ok (.ireturn, 1) := dk_172 (dk_at dksX5_does_2_12 5 rfl rfl)
theorem dX5_does_2_402 : decode cX5_does_2 402 = .ok (.aload_n 1, 1) := dk_43 (dk_at dksX5_does_2_12 6 rfl rfl)
theorem dX5_does_2_403 : decode cX5_does_2 403 = .ok (.iload_n 2, 1) := dk_28 (dk_at dksX5_does_2_12 7 rfl rfl)
theorem dX5_does_2_404 : decode cX5_does_2 404 = .ok (.aload_n 0, 1) := dk_42 (dk_at dksX5_does_2_12 8 rfl rfl)
theorem dX5_does_2_405 : decode cX5_does_2 405 = .ok (.getfield 13, 3) := dk_180 0 13 (dk_at dksX5_does_2_12 9 rfl rfl)
theorem dX5_does_2_408 : decode cX5_does_2 408 = .ok (.iconst 1, 1) := dk_4 (dk_at dksX5_does_2_12 12 rfl rfl)
theorem dX5_does_2_409 : decode cX5_does_2 409 = .ok (.iaload, 1) := dk_46 (dk_at dksX5_does_2_12 13 rfl rfl)
theorem dX5_does_2_410 : decode cX5_does_2 410 = .ok (.invokevirtual 61, 3) := dk_182 0 61 (dk_at dksX5_does_2_12 14 rfl rfl)
theorem dX5_does_2_413 : decode cX5_does_2 413 = .ok (.ireturn, 1) := dk_172 (dk_at dksX5_does_2_12 17 rfl rfl)
theorem dX5_does_2_414 : decode cX5_does_2 414 = .ok (.aload_n 1, 1) := dk_43 (dk_at dksX5_does_2_12 18 rfl rfl)
theorem dX5_does_2_415 : decode cX5_does_2 415 = .ok (.iload_n 2, 1) := dk_28 (dk_at dksX5_does_2_12 19 rfl rfl)
theorem dX5_does_2_416 : decode cX5_does_2 416 = .ok (.aload_n 0, 1) := dk_42 (dk_at dksX5_does_2_12 20 rfl rfl)
theorem dX5_does_2_417 : decode cX5_does_2 417 = .ok (.getfield 13, 3) := dk_180 0 13 (dk_at dksX5_does_2_12 21 rfl rfl)
theorem dX5_does_2_420 : decode cX5_does_2 420 = .ok (.iconst 1, 1) := dk_4 (dk_at dksX5_does_2_13 0 rfl rfl)
theorem dX5_does_2_421 : decode cX5_does_2 421 = .ok (.iaload, 1) := dk_46 (dk_at dksX5_does_2_13 1 rfl rfl)
theorem dX5_does_2_422 : decode cX5_does_2 422 = .ok (.invokevirtual 64, 3) := dk_182 0 64 (dk_at dksX5_does_2_13 2 rfl rfl)
theorem dX5_does_2_425 : decode cX5_does_2 425 = .ok (.ireturn, 1) := dk_172 (dk_at dksX5_does_2_13 5 rfl rfl)
theorem dX5_does_2_426 : decode cX5_does_2 426 = .ok (.aload_n 1, 1) := dk_43 (dk_at dksX5_does_2_13 6 rfl rfl)
theorem dX5_does_2_427 : decode cX5_does_2 427 = .ok (.iload_n 2, 1) := dk_28 (dk_at dksX5_does_2_13 7 rfl rfl)
theorem dX5_does_2_428 : decode cX5_does_2 428 = .ok (.invokevirtual 67, 3) := dk_182 0 67 (dk_at dksX5_does_2_13 8 rfl rfl)
theorem dX5_does_2_431 : decode cX5_does_2 431 = .ok (.ireturn, 1) := dk_172 (dk_at dksX5_does_2_13 11 rfl rfl)
theorem dX5_does_2_432 : decode cX5_does_2 432 = .ok (.aload_n 1, 1) := dk_43 (dk_at dksX5_does_2_13 12 rfl rfl)
theorem dX5_does_2_433 : decode cX5_does_2 433 = .ok (.iload_n 2, 1) := dk_28 (dk_at dksX5_does_2_13 13 rfl rfl)
theorem dX5_does_2_434 : decode cX5_does_2 434 = .ok (.aload_n 0, 1) := dk_42 (dk_at dksX5_does_2_13 14 rfl rfl)
theorem dX5_does_2_435 : decode cX5_does_2 435 = .ok (.getfield 13, 3) := dk_180 0 13 (dk_at dksX5_does_2_13 15 rfl rfl)
theorem dX5_does_2_438 : decode cX5_does_2 438 = .ok (.iconst 1, 1) := dk_4 (dk_at dksX5_does_2_13 18 rfl rfl)
theorem dX5_does_2_439 : decode cX5_does_2 439 = .ok (.iaload, 1) := dk_46 (dk_at dksX5_does_2_13 19 rfl rfl)
theorem dX5_does_2_440 : decode cX5_does_2 440 = .ok (.invokevirtual 71, 3) := dk_182 0 71 (dk_at dksX5_does_2_13 20 rfl rfl)
theorem dX5_does_2_443 : decode cX5_does_2 443 = .ok (.ireturn, 1) := dk_172 (dk_at dksX5_does_2_13 23 rfl rfl)
theorem dX5_does_2_444 : decode cX5_does_2 444 = .ok (.aload_n 1, 1) := dk_43 (dk_at dksX5_does_2_14 0 rfl rfl)
theorem dX5_does_2_445 : decode cX5_does_2 445 = .ok (.iload_n 2, 1) := dk_28 (dk_at dksX5_does_2_14 1 rfl rfl)
theorem dX5_does_2_446 : decode cX5_does_2 446 = .ok (.invokevirtual 74, 3) := dk_182 0 74 (dk_at dksX5_does_2_14 2 rfl rfl)
theorem dX5_does_2_449 : decode cX5_does_2 449 = .ok (.ireturn, 1) := dk_172 (dk_at dksX5_does_2_14 5 rfl rfl)
theorem dX5_does_2_450 : decode cX5_does_2 450 = .ok (.aload_n 1, 1) := dk_43 (dk_at dksX5_does_2_14 6 rfl rfl)
theorem dX5_does_2_451 : decode cX5_does_2 451 = .ok (.iload_n 2, 1) := dk_28 (dk_at dksX5_does_2_14 7 rfl rfl)
theorem dX5_does_2_452 : decode cX5_does_2 452 = .ok (.aload_n 0, 1) := dk_42 (dk_at dksX5_does_2_14 8 rfl rfl)
theorem dX5_does_2_453 : decode cX5_does_2 453 = .ok (.getfield 13, 3) := dk_180 0 13 (dk_at dksX5_does_2_14 9 rfl rfl)
theorem dX5_does_2_456 : decode cX5_does_2 456 = .ok (.iconst 1, 1) := dk_4 (dk_at dksX5_does_2_14 12 rfl rfl)
theorem dX5_does_2_457 : decode cX5_does_2 457 = .ok (.iaload, 1) := dk_46 (dk_at dksX5_does_2_14 13 rfl rfl)
theorem dX5_does_2_458 : decode cX5_does_2 458 = .ok (.invokevirtual 77, 3) := dk_182 0 77 (dk_at dksX5_does_2_14 14 rfl rfl)
theorem dX5_does_2_461 : decode cX5_does_2 461 = .ok (.ireturn, 1) := dk_172 (dk_at dksX5_does_2_14 17 rfl rfl)
theorem dX5_does_2_462 : decode cX5_does_2 462 = .ok (.aload_n 1, 1) := dk_43 (dk_at dksX5_does_2_14 18 rfl rfl)
theorem dX5_does_2_463 : decode cX5_does_2 463 = .ok (.iload_n 2, 1) := dk_28 (dk_at dksX5_does_2_14 19 rfl rfl)
theorem dX5_does_2_464 : decode cX5_does_2 464 = .ok (.aload_n 0, 1) := dk_42 (dk_at dksX5_does_2_14 20 rfl rfl)
theorem dX5_does_2_465 : decode cX5_does_2 465 = .ok (.getfield 13, 3) := dk_180 0 13 (dk_at dksX5_does_2_14 21 rfl rfl)
theorem dX5_does_2_468 : decode cX5_does_2 468 = .ok (.iconst 1, 1) := dk_4 (dk_at dksX5_does_2_15 0 rfl rfl)
theorem dX5_does_2_469 : decode cX5_does_2 469 = .ok (.iaload, 1) := dk_46 (dk_at dksX5_does_2_15 1 rfl rfl)
theorem dX5_does_2_470 : decode cX5_does_2 470 = .ok (.invokevirtual 80, 3) := dk_182 0 80 (dk_at dksX5_does_2_15 2 rfl rfl)
theorem dX5_does_2_473 : decode cX5_does_2 473 = .ok (.ireturn, 1) := dk_172 (dk_at dksX5_does_2_15 5 rfl rfl)
theorem dX5_does_2_474 : decode cX5_does_2 474 = .ok (.aload_n 1, 1) := dk_43 (dk_at dksX5_does_2_15 6 rfl rfl)
theorem dX5_does_2_475 : decode cX5_does_2 475 = .ok (.iload_n 2, 1) := dk_28 (dk_at dksX5_does_2_15 7 rfl rfl)
theorem dX5_does_2_476 : decode cX5_does_2 476 = .ok (.aload_n 0, 1) := dk_42 (dk_at dksX5_does_2_15 8 rfl rfl)
theorem dX5_does_2_477 : decode cX5_does_2 477 = .ok (.getfield 13, 3) := dk_180 0 13 (dk_at dksX5_does_2_15 9 rfl rfl)
theorem dX5_does_2_480 : decode cX5_does_2 480 = .ok (.iconst 1, 1) := dk_4 (dk_at dksX5_does_2_15 12 rfl rfl)
theorem dX5_does_2_481 : decode cX5_does_2 481 = .ok (.iaload, 1) := dk_46 (dk_at dksX5_does_2_15 13 rfl rfl)
theorem dX5_does_2_482 : decode cX5_does_2 482 = .ok (.invokevirtual 83, 3) := dk_182 0 83 (dk_at dksX5_does_2_15 14 rfl rfl)
theorem dX5_does_2_485 : decode cX5_does_2 485 = .ok (.ireturn, 1) := dk_172 (dk_at dksX5_does_2_15 17 rfl rfl)
theorem dX5_does_2_486 : decode cX5_does_2 486 = .ok (.aload_n 1, 1) := dk_43 (dk_at dksX5_does_2_15 18 rfl rfl)
theorem dX5_does_2_487 : decode cX5_does_2 487 = .ok (.iload_n 2, 1) := dk_28 (dk_at dksX5_does_2_15 19 rfl rfl)
theorem dX5_does_2_488 : decode cX5_does_2 488 = .ok (.invokevirtual 86, 3) := dk_182 0 86 (dk_at dksX5_does_2_15 20 rfl rfl)
theorem dX5_does_2_491 : decode cX5_does_2 491 = .ok (.ireturn, 1) := dk_172 (dk_at dksX5_does_2_15 23 rfl rfl)
theorem dX5_does_2_492 : decode cX5_does_2 492 = .ok (.aload_n 1, 1) := dk_43 (dk_at dksX5_does_2_16 0 rfl rfl)
theorem dX5_does_2_493 : decode cX5_does_2 493 = .ok (.iload_n 2, 1) := dk_28 (dk_at dksX5_does_2_16 1 rfl rfl)
theorem dX5_does_2_494 : decode cX5_does_2 494 = .ok (.invokevirtual 89, 3) := dk_182 0 89 (dk_at dksX5_does_2_16 2 rfl rfl)
theorem dX5_does_2_497 : decode cX5_does_2 497 = .ok (.ireturn, 1) := dk_172 (dk_at dksX5_does_2_16 5 rfl rfl)
theorem dX5_does_2_498 : decode cX5_does_2 498 = .ok (.aload_n 1, 1) := dk_43 (dk_at dksX5_does_2_16 6 rfl rfl)
theorem dX5_does_2_499 : decode cX5_does_2 499 = .ok (.iload_n 2, 1) := dk_28 (dk_at dksX5_does_2_16 7 rfl rfl)
theorem dX5_does_2_500 : decode cX5_does_2 500 = .ok (.invokevirtual 92, 3) := dk_182 0 92 (dk_at dksX5_does_2_16 8 rfl rfl)
theorem dX5_does_2_503 : decode cX5_does_2 503 = .ok (.ireturn, 1) := dk_172 (dk_at dksX5_does_2_16 11 rfl rfl)
theorem q79 : (Jvm.Cond.initialized "HorsehairTrade$Order") ∈ lw_all := lw_g (lw_at lw_m1 13 rfl) rfl
theorem q750 : (Jvm.Cond.instantiable "HorsehairTrade$Order" (2 : Nat)) ∈ lw_all := lw_g (lw_at lw_m3 204 rfl) rfl
theorem q753 : (Jvm.Cond.instanceMethod ({ cls := "HorsehairTrade$Order", name := "<init>", desc := "(Ljava/lang/String;[I)V" } : Jvm.MethodName)) ∈ lw_all := lw_g (lw_at lw_m3 207 rfl) rfl
theorem q754 : (Jvm.Cond.code ({ cls := "HorsehairTrade$Order", name := "<init>", desc := "(Ljava/lang/String;[I)V" } : Jvm.MethodName) prog_8_method_1_code (3 : Nat) (Option.none : Option Jvm.ClassFile.FieldType)) ∈ lw_all := lw_g (lw_at lw_m3 208 rfl) rfl
theorem q755 : (Jvm.Cond.methodLink "HorsehairTrade$Order" (1 : Nat) ({ cls := "java/lang/Object", name := "<init>", desc := "()V" } : Jvm.MethodName)) ∈ lw_all := lw_g (lw_at lw_m3 209 rfl) rfl
theorem q756 : (Jvm.Cond.fieldLink "HorsehairTrade$Order" (7 : Nat) "HorsehairTrade$Order" "word" "Ljava/lang/String;") ∈ lw_all := lw_g (lw_at lw_m3 210 rfl) rfl
theorem q757 : (Jvm.Cond.fieldLink "HorsehairTrade$Order" (13 : Nat) "HorsehairTrade$Order" "numbers" "[I") ∈ lw_all := lw_g (lw_at lw_m3 211 rfl) rfl
theorem q758 : (Jvm.Cond.laysFinal "HorsehairTrade$Order" "HorsehairTrade$Order" "word" "Ljava/lang/String;") ∈ lw_all := lw_g (lw_at lw_m3 212 rfl) rfl
theorem q759 : (Jvm.Cond.soleField "HorsehairTrade$Order" "word") ∈ lw_all := lw_g (lw_at lw_m3 213 rfl) rfl
theorem q760 : (Jvm.Cond.laysFinal "HorsehairTrade$Order" "HorsehairTrade$Order" "numbers" "[I") ∈ lw_all := lw_g (lw_at lw_m3 214 rfl) rfl
theorem q761 : (Jvm.Cond.soleField "HorsehairTrade$Order" "numbers") ∈ lw_all := lw_g (lw_at lw_m3 215 rfl) rfl
theorem q762 : (Jvm.Cond.superclass "HorsehairTrade$Order" "java/lang/Object") ∈ lw_all := lw_g (lw_at lw_m3 216 rfl) rfl
theorem q956 : (Jvm.Cond.selects "HorsehairTrade$Order" ({ cls := "java/lang/Object", name := "getClass", desc := "()Ljava/lang/Class;" } : Jvm.MethodName) ({ cls := "java/lang/Object", name := "getClass", desc := "()Ljava/lang/Class;" } : Jvm.MethodName)) ∈ lw_all := lw_g (lw_at lw_m4 170 rfl) rfl
theorem q995 : (Jvm.Cond.castable "HorsehairTrade$Order" "HorsehairTrade$Deed") ∈ lw_tbl := lw_at lw_m4 209 rfl
theorem q996 : (Jvm.Cond.selects "HorsehairTrade$Order" ({ cls := "HorsehairTrade$Deed", name := "does", desc := "(Ljava/lang/Object;)I" } : Jvm.MethodName) ({ cls := "HorsehairTrade$Order", name := "does", desc := "(Ljava/lang/Object;)I" } : Jvm.MethodName)) ∈ lw_all := lw_g (lw_at lw_m4 210 rfl) rfl
theorem q997 : (Jvm.Cond.unhidden "HorsehairTrade$Order" "does" "(Ljava/lang/Object;)I") ∈ lw_tbl := lw_at lw_m4 211 rfl
theorem q998 : (Jvm.Cond.instanceMethod ({ cls := "HorsehairTrade$Order", name := "does", desc := "(Ljava/lang/Object;)I" } : Jvm.MethodName)) ∈ lw_all := lw_g (lw_at lw_m4 212 rfl) rfl
theorem q999 : (Jvm.Cond.publicMethod ({ cls := "HorsehairTrade$Order", name := "does", desc := "(Ljava/lang/Object;)I" } : Jvm.MethodName)) ∈ lw_tbl := lw_at lw_m4 213 rfl
theorem q1000 : (Jvm.Cond.code ({ cls := "HorsehairTrade$Order", name := "does", desc := "(Ljava/lang/Object;)I" } : Jvm.MethodName) prog_8_method_3_code (2 : Nat) (Option.some Jvm.ClassFile.FieldType.int)) ∈ lw_all := lw_g (lw_at lw_m4 214 rfl) rfl
theorem q1001 : (Jvm.Cond.classLink "HorsehairTrade$Order" (52 : Nat) "HorsehairTrade$Trade") ∈ lw_all := lw_g (lw_at lw_m4 215 rfl) rfl
theorem q1002 : (Jvm.Cond.methodLink "HorsehairTrade$Order" (95 : Nat) ({ cls := "HorsehairTrade$Order", name := "does", desc := "(LHorsehairTrade$Trade;)I" } : Jvm.MethodName)) ∈ lw_all := lw_g (lw_at lw_m4 216 rfl) rfl
theorem q1003 : (Jvm.Cond.instanceMethod ({ cls := "HorsehairTrade$Order", name := "does", desc := "(LHorsehairTrade$Trade;)I" } : Jvm.MethodName)) ∈ lw_all := lw_g (lw_at lw_m4 217 rfl) rfl
theorem q1004 : (Jvm.Cond.selects "HorsehairTrade$Order" ({ cls := "HorsehairTrade$Order", name := "does", desc := "(LHorsehairTrade$Trade;)I" } : Jvm.MethodName) ({ cls := "HorsehairTrade$Order", name := "does", desc := "(LHorsehairTrade$Trade;)I" } : Jvm.MethodName)) ∈ lw_all := lw_g (lw_at lw_m4 218 rfl) rfl
theorem q1005 : (Jvm.Cond.code ({ cls := "HorsehairTrade$Order", name := "does", desc := "(LHorsehairTrade$Trade;)I" } : Jvm.MethodName) prog_8_method_2_code (5 : Nat) (Option.some Jvm.ClassFile.FieldType.int)) ∈ lw_all := lw_g (lw_at lw_m4 219 rfl) rfl
theorem q1006 : (Jvm.Cond.methodLink "HorsehairTrade$Order" (17 : Nat) ({ cls := "java/lang/String", name := "hashCode", desc := "()I" } : Jvm.MethodName)) ∈ lw_all := lw_g (lw_at lw_m4 220 rfl) rfl
theorem q1063 : (Jvm.Cond.stringRef "HorsehairTrade$Order" (23 : Nat) "tail") ∈ lw_tbl := lw_at lw_m5 37 rfl
theorem q1064 : (Jvm.Cond.methodLink "HorsehairTrade$Order" (25 : Nat) ({ cls := "java/lang/String", name := "equals", desc := "(Ljava/lang/Object;)Z" } : Jvm.MethodName)) ∈ lw_all := lw_g (lw_at lw_m5 38 rfl) rfl
theorem q1072 : (Jvm.Cond.stringRef "HorsehairTrade$Order" (29 : Nat) "comb") ∈ lw_tbl := lw_at lw_m5 46 rfl
theorem q1073 : (Jvm.Cond.stringRef "HorsehairTrade$Order" (31 : Nat) "tie") ∈ lw_tbl := lw_at lw_m5 47 rfl
theorem q1074 : (Jvm.Cond.stringRef "HorsehairTrade$Order" (33 : Nat) "weave") ∈ lw_tbl := lw_at lw_m5 48 rfl
theorem q1075 : (Jvm.Cond.stringRef "HorsehairTrade$Order" (35 : Nat) "bow") ∈ lw_tbl := lw_at lw_m5 49 rfl
theorem q1076 : (Jvm.Cond.stringRef "HorsehairTrade$Order" (37 : Nat) "hair") ∈ lw_tbl := lw_at lw_m5 50 rfl
theorem q1077 : (Jvm.Cond.stringRef "HorsehairTrade$Order" (39 : Nat) "cake") ∈ lw_tbl := lw_at lw_m5 51 rfl
theorem q1078 : (Jvm.Cond.stringRef "HorsehairTrade$Order" (41 : Nat) "rosin") ∈ lw_tbl := lw_at lw_m5 52 rfl
theorem q1079 : (Jvm.Cond.stringRef "HorsehairTrade$Order" (43 : Nat) "play") ∈ lw_tbl := lw_at lw_m5 53 rfl
theorem q1080 : (Jvm.Cond.stringRef "HorsehairTrade$Order" (45 : Nat) "road") ∈ lw_tbl := lw_at lw_m5 54 rfl
theorem q1081 : (Jvm.Cond.stringRef "HorsehairTrade$Order" (47 : Nat) "walk") ∈ lw_tbl := lw_at lw_m5 55 rfl
theorem q1082 : (Jvm.Cond.stringRef "HorsehairTrade$Order" (49 : Nat) "sell") ∈ lw_tbl := lw_at lw_m5 56 rfl
theorem q1083 : (Jvm.Cond.methodLink "HorsehairTrade$Order" (51 : Nat) ({ cls := "HorsehairTrade$Trade", name := "buys", desc := "(III)I" } : Jvm.MethodName)) ∈ lw_all := lw_g (lw_at lw_m5 57 rfl) rfl
theorem q1137 : (Jvm.Cond.methodLink "HorsehairTrade$Order" (57 : Nat) ({ cls := "HorsehairTrade$Trade", name := "combs", desc := "(II)I" } : Jvm.MethodName)) ∈ lw_all := lw_g (lw_at lw_m5 111 rfl) rfl
theorem q1157 : (Jvm.Cond.methodLink "HorsehairTrade$Order" (61 : Nat) ({ cls := "HorsehairTrade$Trade", name := "ties", desc := "(II)I" } : Jvm.MethodName)) ∈ lw_all := lw_g (lw_at lw_m5 131 rfl) rfl
theorem q1187 : (Jvm.Cond.methodLink "HorsehairTrade$Order" (64 : Nat) ({ cls := "HorsehairTrade$Trade", name := "weaves", desc := "(II)I" } : Jvm.MethodName)) ∈ lw_all := lw_g (lw_at lw_m5 161 rfl) rfl
theorem q1195 : (Jvm.Cond.methodLink "HorsehairTrade$Order" (67 : Nat) ({ cls := "HorsehairTrade$Trade", name := "brings", desc := "(I)I" } : Jvm.MethodName)) ∈ lw_all := lw_g (lw_at lw_m5 169 rfl) rfl
theorem q1201 : (Jvm.Cond.methodLink "HorsehairTrade$Order" (71 : Nat) ({ cls := "HorsehairTrade$Trade", name := "hairs", desc := "(II)I" } : Jvm.MethodName)) ∈ lw_all := lw_g (lw_at lw_m5 175 rfl) rfl
theorem q1213 : (Jvm.Cond.methodLink "HorsehairTrade$Order" (74 : Nat) ({ cls := "HorsehairTrade$Trade", name := "buysCake", desc := "(I)I" } : Jvm.MethodName)) ∈ lw_all := lw_g (lw_at lw_m5 187 rfl) rfl
theorem q1219 : (Jvm.Cond.methodLink "HorsehairTrade$Order" (77 : Nat) ({ cls := "HorsehairTrade$Trade", name := "rosins", desc := "(II)I" } : Jvm.MethodName)) ∈ lw_all := lw_g (lw_at lw_m5 193 rfl) rfl
theorem q1223 : (Jvm.Cond.methodLink "HorsehairTrade$Order" (80 : Nat) ({ cls := "HorsehairTrade$Trade", name := "plays", desc := "(II)I" } : Jvm.MethodName)) ∈ lw_all := lw_g (lw_at lw_m5 197 rfl) rfl
theorem q1238 : (Jvm.Cond.methodLink "HorsehairTrade$Order" (83 : Nat) ({ cls := "HorsehairTrade$Trade", name := "isRoad", desc := "(II)I" } : Jvm.MethodName)) ∈ lw_all := lw_g (lw_at lw_m5 212 rfl) rfl
theorem q1243 : (Jvm.Cond.methodLink "HorsehairTrade$Order" (86 : Nat) ({ cls := "HorsehairTrade$Trade", name := "walks", desc := "(I)I" } : Jvm.MethodName)) ∈ lw_all := lw_g (lw_at lw_m5 217 rfl) rfl
theorem q1247 : (Jvm.Cond.methodLink "HorsehairTrade$Order" (89 : Nat) ({ cls := "HorsehairTrade$Trade", name := "sells", desc := "(I)I" } : Jvm.MethodName)) ∈ lw_all := lw_g (lw_at lw_m5 221 rfl) rfl
theorem q1256 : (Jvm.Cond.methodLink "HorsehairTrade$Order" (92 : Nat) ({ cls := "HorsehairTrade$Trade", name := "isPaidFor", desc := "(I)I" } : Jvm.MethodName)) ∈ lw_all := lw_g (lw_at lw_m5 230 rfl) rfl
theorem q2774 : (Jvm.Cond.castable "HorsehairTrade$Order" "java/lang/Object") ∈ lw_tbl := lw_at lw_m12 68 rfl
theorem in_X5 : ∀ w ∈ wsX50, w ∈ lw_all := lw_in wsX50 [758, 760] (by decide +kernel) (by decide +kernel)
/-! HorsehairTrade$Bow -/
set_option maxRecDepth 100000
def RX6 : String := "HorsehairTrade$Bow"
def TX6 : u_T := fun k => match k with
  | 0 => ("HorsehairTrade$Bow", "kind", "I", true)
  | 1 => ("HorsehairTrade$Bow", "hairs", "I", false)
  | 2 => ("HorsehairTrade$Bow", "rosin", "I", false)
  | 3 => ("HorsehairTrade$Bow", "quality", "I", false)
  | 4 => ("HorsehairTrade$Bow", "tail", "I", false)
  | 5 => ("HorsehairTrade$Bow", "hours", "I", false)
  | _ => ("HorsehairTrade$Bow", "isPaid", "Z", false)
def tyX6 : Nat → FieldType := fun k => match k with
  | 0 => .int
  | 1 => .int
  | 2 => .int
  | 3 => .int
  | 4 => .int
  | 5 => .int
  | _ => .boolean
abbrev wsX60 : List Cond := u_ws RX6 TX6 7
theorem nmX6 : ∀ a, a < 7 → ∀ b, b < 7 → a ≠ b → (TX6 a).2.1 ≠ (TX6 b).2.1 := by decide +kernel
theorem tyX6_ok : ∀ k, k < 7 → parseFieldDescriptor (TX6 k).2.2.1 = some (tyX6 k) := by decide +kernel
abbrev cX6_hairs : ByteArray := prog_2_method_3_code
def yX6_hairs : MethodName := ⟨RX6, "hairs", "()I"⟩
theorem dX6_hairs_0 : decode cX6_hairs 0 = .ok (.aload_n 0, 1) := by decide +kernel
theorem dX6_hairs_1 : decode cX6_hairs 1 = .ok (.getfield 24, 3) := by decide +kernel
theorem dX6_hairs_4 : decode cX6_hairs 4 = .ok (.ireturn, 1) := by decide +kernel
abbrev cX6_copy : ByteArray := prog_2_method_6_code
def yX6_copy : MethodName := ⟨RX6, "copy", "()Ljava/lang/Object;"⟩
theorem dX6_copy_0 : decode cX6_copy 0 = .ok (.aload_n 0, 1) := by decide +kernel
theorem dX6_copy_1 : decode cX6_copy 1 = .ok (.invokevirtual 50, 3) := by decide +kernel
theorem dX6_copy_4 : decode cX6_copy 4 = .ok (.areturn, 1) := by decide +kernel
abbrev cX6_copy_2 : ByteArray := prog_2_method_2_code
def yX6_copy_2 : MethodName := ⟨RX6, "copy", "()LHorsehairTrade$Bow;"⟩
def dkwX6_copy_2_2 : List UInt8 := [180, 0, 30, 181, 0, 30, 43, 42, 180, 0, 33, 181, 0, 33, 43, 176]
abbrev dktX6_copy_2_2 : List UInt8 := dkwX6_copy_2_2 ++ []
def dkwX6_copy_2_1 : List UInt8 := [180, 0, 27, 181, 0, 27, 43, 42, 180, 0, 15, 181, 0, 15, 43, 42, 180, 0, 18, 181, 0, 18, 43, 42]
abbrev dktX6_copy_2_1 : List UInt8 := dkwX6_copy_2_1 ++ dktX6_copy_2_2
def dkwX6_copy_2_0 : List UInt8 := [187, 0, 10, 89, 42, 180, 0, 9, 183, 0, 21, 76, 43, 42, 180, 0, 24, 181, 0, 24, 43, 42]
abbrev dktX6_copy_2_0 : List UInt8 := dkwX6_copy_2_0 ++ dktX6_copy_2_1
theorem dksX6_copy_2_0 : cX6_copy_2.data.toList.drop 0 = dktX6_copy_2_0 := by decide +kernel
theorem dksX6_copy_2_1 : cX6_copy_2.data.toList.drop 22 = dktX6_copy_2_1 := dk_seg dksX6_copy_2_0 22 rfl rfl
theorem dksX6_copy_2_2 : cX6_copy_2.data.toList.drop 46 = dktX6_copy_2_2 := dk_seg dksX6_copy_2_1 24 rfl rfl
theorem dX6_copy_2_0 : decode cX6_copy_2 0 = .ok (.new 10, 3) := dk_187 0 10 (dk_at dksX6_copy_2_0 0 rfl rfl)
theorem dX6_copy_2_3 : decode cX6_copy_2 3 = .ok (.dup, 1) := dk_89 (dk_at dksX6_copy_2_0 3 rfl rfl)
theorem dX6_copy_2_4 : decode cX6_copy_2 4 = .ok (.aload_n 0, 1) := dk_42 (dk_at dksX6_copy_2_0 4 rfl rfl)
theorem dX6_copy_2_5 : decode cX6_copy_2 5 = .ok (.getfield 9, 3) := dk_180 0 9 (dk_at dksX6_copy_2_0 5 rfl rfl)
theorem dX6_copy_2_8 : decode cX6_copy_2 8 = .ok (.invokespecial 21, 3) := dk_183 0 21 (dk_at dksX6_copy_2_0 8 rfl rfl)
theorem dX6_copy_2_11 : decode cX6_copy_2 11 = .ok (.astore_n 1, 1) := dk_76 (dk_at dksX6_copy_2_0 11 rfl rfl)
theorem dX6_copy_2_12 : decode cX6_copy_2 12 = .ok (.aload_n 1, 1) := dk_43 (dk_at dksX6_copy_2_0 12 rfl rfl)
theorem dX6_copy_2_13 : decode cX6_copy_2 13 = .ok (.aload_n 0, 1) := dk_42 (dk_at dksX6_copy_2_0 13 rfl rfl)
theorem dX6_copy_2_14 : decode cX6_copy_2 14 = .ok (.getfield 24, 3) := dk_180 0 24 (dk_at dksX6_copy_2_0 14 rfl rfl)
theorem dX6_copy_2_17 : decode cX6_copy_2 17 = .ok (.putfield 24, 3) := dk_181 0 24 (dk_at dksX6_copy_2_0 17 rfl rfl)
theorem dX6_copy_2_20 : decode cX6_copy_2 20 = .ok (.aload_n 1, 1) := dk_43 (dk_at dksX6_copy_2_0 20 rfl rfl)
theorem dX6_copy_2_21 : decode cX6_copy_2 21 = .ok (.aload_n 0, 1) := dk_42 (dk_at dksX6_copy_2_0 21 rfl rfl)
theorem dX6_copy_2_22 : decode cX6_copy_2 22 = .ok (.getfield 27, 3) := dk_180 0 27 (dk_at dksX6_copy_2_1 0 rfl rfl)
theorem dX6_copy_2_25 : decode cX6_copy_2 25 = .ok (.putfield 27, 3) := dk_181 0 27 (dk_at dksX6_copy_2_1 3 rfl rfl)
theorem dX6_copy_2_28 : decode cX6_copy_2 28 = .ok (.aload_n 1, 1) := dk_43 (dk_at dksX6_copy_2_1 6 rfl rfl)
theorem dX6_copy_2_29 : decode cX6_copy_2 29 = .ok (.aload_n 0, 1) := dk_42 (dk_at dksX6_copy_2_1 7 rfl rfl)
theorem dX6_copy_2_30 : decode cX6_copy_2 30 = .ok (.getfield 15, 3) := dk_180 0 15 (dk_at dksX6_copy_2_1 8 rfl rfl)
theorem dX6_copy_2_33 : decode cX6_copy_2 33 = .ok (.putfield 15, 3) := dk_181 0 15 (dk_at dksX6_copy_2_1 11 rfl rfl)
theorem dX6_copy_2_36 : decode cX6_copy_2 36 = .ok (.aload_n 1, 1) := dk_43 (dk_at dksX6_copy_2_1 14 rfl rfl)
theorem dX6_copy_2_37 : decode cX6_copy_2 37 = .ok (.aload_n 0, 1) := dk_42 (dk_at dksX6_copy_2_1 15 rfl rfl)
theorem dX6_copy_2_38 : decode cX6_copy_2 38 = .ok (.getfield 18, 3) := dk_180 0 18 (dk_at dksX6_copy_2_1 16 rfl rfl)
theorem dX6_copy_2_41 : decode cX6_copy_2 41 = .ok (.putfield 18, 3) := dk_181 0 18 (dk_at dksX6_copy_2_1 19 rfl rfl)
theorem dX6_copy_2_44 : decode cX6_copy_2 44 = .ok (.aload_n 1, 1) := dk_43 (dk_at dksX6_copy_2_1 22 rfl rfl)
theorem dX6_copy_2_45 : decode cX6_copy_2 45 = .ok (.aload_n 0, 1) := dk_42 (dk_at dksX6_copy_2_1 23 rfl rfl)
theorem dX6_copy_2_46 : decode cX6_copy_2 46 = .ok (.getfield 30, 3) := dk_180 0 30 (dk_at dksX6_copy_2_2 0 rfl rfl)
theorem dX6_copy_2_49 : decode cX6_copy_2 49 = .ok (.putfield 30, 3) := dk_181 0 30 (dk_at dksX6_copy_2_2 3 rfl rfl)
theorem dX6_copy_2_52 : decode cX6_copy_2 52 = .ok (.aload_n 1, 1) := dk_43 (dk_at dksX6_copy_2_2 6 rfl rfl)
theorem dX6_copy_2_53 : decode cX6_copy_2 53 = .ok (.aload_n 0, 1) := dk_42 (dk_at dksX6_copy_2_2 7 rfl rfl)
theorem dX6_copy_2_54 : decode cX6_copy_2 54 = .ok (.getfield 33, 3) := dk_180 0 33 (dk_at dksX6_copy_2_2 8 rfl rfl)
theorem dX6_copy_2_57 : decode cX6_copy_2 57 = .ok (.putfield 33, 3) := dk_181 0 33 (dk_at dksX6_copy_2_2 11 rfl rfl)
theorem dX6_copy_2_60 : decode cX6_copy_2 60 = .ok (.aload_n 1, 1) := dk_43 (dk_at dksX6_copy_2_2 14 rfl rfl)
theorem dX6_copy_2_61 : decode cX6_copy_2 61 = .ok (.areturn, 1) := dk_176 (dk_at dksX6_copy_2_2 15 rfl rfl)
abbrev cX6_init : ByteArray := prog_2_method_1_code
def yX6_init : MethodName := ⟨RX6, "<init>", "(I)V"⟩
def dkwX6_init_0 : List UInt8 := [42, 183, 0, 3, 42, 27, 181, 0, 9, 42, 2, 181, 0, 15, 42, 2, 181, 0, 18, 177]
abbrev dktX6_init_0 : List UInt8 := dkwX6_init_0 ++ []
theorem dksX6_init_0 : cX6_init.data.toList.drop 0 = dktX6_init_0 := by decide +kernel
theorem dX6_init_0 : decode cX6_init 0 = .ok (.aload_n 0, 1) := dk_42 (dk_at dksX6_init_0 0 rfl rfl)
theorem dX6_init_1 : decode cX6_init 1 = .ok (.invokespecial 3, 3) := dk_183 0 3 (dk_at dksX6_init_0 1 rfl rfl)
theorem dX6_init_4 : decode cX6_init 4 = .ok (.aload_n 0, 1) := dk_42 (dk_at dksX6_init_0 4 rfl rfl)
theorem dX6_init_5 : decode cX6_init 5 = .ok (.iload_n 1, 1) := dk_27 (dk_at dksX6_init_0 5 rfl rfl)
theorem dX6_init_6 : decode cX6_init 6 = .ok (.putfield 9, 3) := dk_181 0 9 (dk_at dksX6_init_0 6 rfl rfl)
theorem dX6_init_9 : decode cX6_init 9 = .ok (.aload_n 0, 1) := dk_42 (dk_at dksX6_init_0 9 rfl rfl)
theorem dX6_init_10 : decode cX6_init 10 = .ok (.iconst (-1), 1) := dk_2 (dk_at dksX6_init_0 10 rfl rfl)
theorem dX6_init_11 : decode cX6_init 11 = .ok (.putfield 15, 3) := dk_181 0 15 (dk_at dksX6_init_0 11 rfl rfl)
theorem dX6_init_14 : decode cX6_init 14 = .ok (.aload_n 0, 1) := dk_42 (dk_at dksX6_init_0 14 rfl rfl)
theorem dX6_init_15 : decode cX6_init 15 = .ok (.iconst (-1), 1) := dk_2 (dk_at dksX6_init_0 15 rfl rfl)
theorem dX6_init_16 : decode cX6_init 16 = .ok (.putfield 18, 3) := dk_181 0 18 (dk_at dksX6_init_0 16 rfl rfl)
theorem dX6_init_19 : decode cX6_init 19 = .ok (.return_, 1) := dk_177 (dk_at dksX6_init_0 19 rfl rfl)
abbrev cX6_canBePlayed : ByteArray := prog_2_method_4_code
def yX6_canBePlayed : MethodName := ⟨RX6, "canBePlayed", "()Z"⟩
def dkwX6_canBePlayed_0 : List UInt8 := [5, 42, 180, 0, 24, 104, 178, 0, 37, 42, 180, 0, 9, 46, 161, 0, 7, 4, 167, 0, 4, 3, 172]
abbrev dktX6_canBePlayed_0 : List UInt8 := dkwX6_canBePlayed_0 ++ []
theorem dksX6_canBePlayed_0 : cX6_canBePlayed.data.toList.drop 0 = dktX6_canBePlayed_0 := by decide +kernel
theorem dX6_canBePlayed_0 : decode cX6_canBePlayed 0 = .ok (.iconst 2, 1) := dk_5 (dk_at dksX6_canBePlayed_0 0 rfl rfl)
theorem dX6_canBePlayed_1 : decode cX6_canBePlayed 1 = .ok (.aload_n 0, 1) := dk_42 (dk_at dksX6_canBePlayed_0 1 rfl rfl)
theorem dX6_canBePlayed_2 : decode cX6_canBePlayed 2 = .ok (.getfield 24, 3) := dk_180 0 24 (dk_at dksX6_canBePlayed_0 2 rfl rfl)
theorem dX6_canBePlayed_5 : decode cX6_canBePlayed 5 = .ok (.imul, 1) := dk_104 (dk_at dksX6_canBePlayed_0 5 rfl rfl)
theorem dX6_canBePlayed_6 : decode cX6_canBePlayed 6 = .ok (.getstatic 37, 3) := dk_178 0 37 (dk_at dksX6_canBePlayed_0 6 rfl rfl)
theorem dX6_canBePlayed_9 : decode cX6_canBePlayed 9 = .ok (.aload_n 0, 1) := dk_42 (dk_at dksX6_canBePlayed_0 9 rfl rfl)
theorem dX6_canBePlayed_10 : decode cX6_canBePlayed 10 = .ok (.getfield 9, 3) := dk_180 0 9 (dk_at dksX6_canBePlayed_0 10 rfl rfl)
theorem dX6_canBePlayed_13 : decode cX6_canBePlayed 13 = .ok (.iaload, 1) := dk_46 (dk_at dksX6_canBePlayed_0 13 rfl rfl)
theorem dX6_canBePlayed_14 : decode cX6_canBePlayed 14 = .ok (.if_icmp .lt 7, 3) := dk_161 0 7 (dk_at dksX6_canBePlayed_0 14 rfl rfl)
theorem dX6_canBePlayed_17 : decode cX6_canBePlayed 17 = .ok (.iconst 1, 1) := dk_4 (dk_at dksX6_canBePlayed_0 17 rfl rfl)
theorem dX6_canBePlayed_18 : decode cX6_canBePlayed 18 = .ok (.goto 4, 3) := dk_167 0 4 (dk_at dksX6_canBePlayed_0 18 rfl rfl)
theorem dX6_canBePlayed_21 : decode cX6_canBePlayed 21 = .ok (.iconst 0, 1) := dk_3 (dk_at dksX6_canBePlayed_0 21 rfl rfl)
theorem dX6_canBePlayed_22 : decode cX6_canBePlayed 22 = .ok (.ireturn, 1) := dk_172 (dk_at dksX6_canBePlayed_0 22 rfl rfl)
abbrev cX6_hour : ByteArray := prog_2_method_5_code
def yX6_hour : MethodName := ⟨RX6, "hour", "()I"⟩
def dkwX6_hour_2 : List UInt8 := [180, 0, 30, 4, 96, 181, 0, 30, 27, 172]
abbrev dktX6_hour_2 : List UInt8 := dkwX6_hour_2 ++ []
def dkwX6_hour_1 : List UInt8 := [180, 0, 24, 27, 100, 181, 0, 24, 42, 3, 42, 180, 0, 27, 4, 100, 184, 0, 47, 181, 0, 27, 42, 89]
abbrev dktX6_hour_1 : List UInt8 := dkwX6_hour_1 ++ dktX6_hour_2
def dkwX6_hour_0 : List UInt8 := [42, 180, 0, 24, 42, 180, 0, 27, 158, 0, 7, 5, 167, 0, 5, 16, 7, 184, 0, 41, 60, 42, 89]
abbrev dktX6_hour_0 : List UInt8 := dkwX6_hour_0 ++ dktX6_hour_1
theorem dksX6_hour_0 : cX6_hour.data.toList.drop 0 = dktX6_hour_0 := by decide +kernel
theorem dksX6_hour_1 : cX6_hour.data.toList.drop 23 = dktX6_hour_1 := dk_seg dksX6_hour_0 23 rfl rfl
theorem dksX6_hour_2 : cX6_hour.data.toList.drop 47 = dktX6_hour_2 := dk_seg dksX6_hour_1 24 rfl rfl
theorem dX6_hour_0 : decode cX6_hour 0 = .ok (.aload_n 0, 1) := dk_42 (dk_at dksX6_hour_0 0 rfl rfl)
theorem dX6_hour_1 : decode cX6_hour 1 = .ok (.getfield 24, 3) := dk_180 0 24 (dk_at dksX6_hour_0 1 rfl rfl)
theorem dX6_hour_4 : decode cX6_hour 4 = .ok (.aload_n 0, 1) := dk_42 (dk_at dksX6_hour_0 4 rfl rfl)
theorem dX6_hour_5 : decode cX6_hour 5 = .ok (.getfield 27, 3) := dk_180 0 27 (dk_at dksX6_hour_0 5 rfl rfl)
theorem dX6_hour_8 : decode cX6_hour 8 = .ok (.ifCond .le 7, 3) := dk_158 0 7 (dk_at dksX6_hour_0 8 rfl rfl)
theorem dX6_hour_11 : decode cX6_hour 11 = .ok (.iconst 2, 1) := dk_5 (dk_at dksX6_hour_0 11 rfl rfl)
theorem dX6_hour_12 : decode cX6_hour 12 = .ok (.goto 5, 3) := dk_167 0 5 (dk_at dksX6_hour_0 12 rfl rfl)
theorem dX6_hour_15 : decode cX6_hour 15 = .ok (.bipush 7, 2) := dk_16 7 (dk_at dksX6_hour_0 15 rfl rfl)
theorem dX6_hour_17 : decode cX6_hour 17 = .ok (.invokestatic 41, 3) := dk_184 0 41 (dk_at dksX6_hour_0 17 rfl rfl)
theorem dX6_hour_20 : decode cX6_hour 20 = .ok (.istore_n 1, 1) := dk_60 (dk_at dksX6_hour_0 20 rfl rfl)
theorem dX6_hour_21 : decode cX6_hour 21 = .ok (.aload_n 0, 1) := dk_42 (dk_at dksX6_hour_0 21 rfl rfl)
theorem dX6_hour_22 : decode cX6_hour 22 = .ok (.dup, 1) := dk_89 (dk_at dksX6_hour_0 22 rfl rfl)
theorem dX6_hour_23 : decode cX6_hour 23 = .ok (.getfield 24, 3) := dk_180 0 24 (dk_at dksX6_hour_1 0 rfl rfl)
theorem dX6_hour_26 : decode cX6_hour 26 = .ok (.iload_n 1, 1) := dk_27 (dk_at dksX6_hour_1 3 rfl rfl)
theorem dX6_hour_27 : decode cX6_hour 27 = .ok (.isub, 1) := dk_100 (dk_at dksX6_hour_1 4 rfl rfl)
theorem dX6_hour_28 : decode cX6_hour 28 = .ok (.putfield 24, 3) := dk_181 0 24 (dk_at dksX6_hour_1 5 rfl rfl)
theorem dX6_hour_31 : decode cX6_hour 31 = .ok (.aload_n 0, 1) := dk_42 (dk_at dksX6_hour_1 8 rfl rfl)
theorem dX6_hour_32 : decode cX6_hour 32 = .ok (.iconst 0, 1) := dk_3 (dk_at dksX6_hour_1 9 rfl rfl)
theorem dX6_hour_33 : decode cX6_hour 33 = .ok (.aload_n 0, 1) := dk_42 (dk_at dksX6_hour_1 10 rfl rfl)
theorem dX6_hour_34 : decode cX6_hour 34 = .ok (.getfield 27, 3) := dk_180 0 27 (dk_at dksX6_hour_1 11 rfl rfl)
theorem dX6_hour_37 : decode cX6_hour 37 = .ok (.iconst 1, 1) := dk_4 (dk_at dksX6_hour_1 14 rfl rfl)
theorem dX6_hour_38 : decode cX6_hour 38 = .ok (.isub, 1) := dk_100 (dk_at dksX6_hour_1 15 rfl rfl)
theorem dX6_hour_39 : decode cX6_hour 39 = .ok (.invokestatic 47, 3) := dk_184 0 47 (dk_at dksX6_hour_1 16 rfl rfl)
theorem dX6_hour_42 : decode cX6_hour 42 = .ok (.putfield 27, 3) := dk_181 0 27 (dk_at dksX6_hour_1 19 rfl rfl)
theorem dX6_hour_45 : decode cX6_hour 45 = .ok (.aload_n 0, 1) := dk_42 (dk_at dksX6_hour_1 22 rfl rfl)
theorem dX6_hour_46 : decode cX6_hour 46 = .ok (.dup, 1) := dk_89 (dk_at dksX6_hour_1 23 rfl rfl)
theorem dX6_hour_47 : decode cX6_hour 47 = .ok (.getfield 30, 3) := dk_180 0 30 (dk_at dksX6_hour_2 0 rfl rfl)
theorem dX6_hour_50 : decode cX6_hour 50 = .ok (.iconst 1, 1) := dk_4 (dk_at dksX6_hour_2 3 rfl rfl)
theorem dX6_hour_51 : decode cX6_hour 51 = .ok (.iadd, 1) := dk_96 (dk_at dksX6_hour_2 4 rfl rfl)
theorem dX6_hour_52 : decode cX6_hour 52 = .ok (.putfield 30, 3) := dk_181 0 30 (dk_at dksX6_hour_2 5 rfl rfl)
theorem dX6_hour_55 : decode cX6_hour 55 = .ok (.iload_n 1, 1) := dk_27 (dk_at dksX6_hour_2 8 rfl rfl)
theorem dX6_hour_56 : decode cX6_hour 56 = .ok (.ireturn, 1) := dk_172 (dk_at dksX6_hour_2 9 rfl rfl)
theorem q82 : (Jvm.Cond.initialized "HorsehairTrade$Bow") ∈ lw_all := lw_g (lw_at lw_m1 16 rfl) rfl
theorem q719 : (Jvm.Cond.castable "HorsehairTrade$Bow" "HorsehairTrade$Haired") ∈ lw_tbl := lw_at lw_m3 173 rfl
theorem q720 : (Jvm.Cond.selects "HorsehairTrade$Bow" ({ cls := "HorsehairTrade$Haired", name := "hairs", desc := "()I" } : Jvm.MethodName) ({ cls := "HorsehairTrade$Bow", name := "hairs", desc := "()I" } : Jvm.MethodName)) ∈ lw_all := lw_g (lw_at lw_m3 174 rfl) rfl
theorem q721 : (Jvm.Cond.unhidden "HorsehairTrade$Bow" "hairs" "()I") ∈ lw_tbl := lw_at lw_m3 175 rfl
theorem q722 : (Jvm.Cond.instanceMethod ({ cls := "HorsehairTrade$Bow", name := "hairs", desc := "()I" } : Jvm.MethodName)) ∈ lw_all := lw_g (lw_at lw_m3 176 rfl) rfl
theorem q723 : (Jvm.Cond.publicMethod ({ cls := "HorsehairTrade$Bow", name := "hairs", desc := "()I" } : Jvm.MethodName)) ∈ lw_tbl := lw_at lw_m3 177 rfl
theorem q724 : (Jvm.Cond.code ({ cls := "HorsehairTrade$Bow", name := "hairs", desc := "()I" } : Jvm.MethodName) prog_2_method_3_code (1 : Nat) (Option.some Jvm.ClassFile.FieldType.int)) ∈ lw_all := lw_g (lw_at lw_m3 178 rfl) rfl
theorem q779 : (Jvm.Cond.castable "HorsehairTrade$Bow" "HorsehairTrade$Copied") ∈ lw_tbl := lw_at lw_m3 233 rfl
theorem q780 : (Jvm.Cond.selects "HorsehairTrade$Bow" ({ cls := "HorsehairTrade$Copied", name := "copy", desc := "()Ljava/lang/Object;" } : Jvm.MethodName) ({ cls := "HorsehairTrade$Bow", name := "copy", desc := "()Ljava/lang/Object;" } : Jvm.MethodName)) ∈ lw_all := lw_g (lw_at lw_m3 234 rfl) rfl
theorem q781 : (Jvm.Cond.unhidden "HorsehairTrade$Bow" "copy" "()Ljava/lang/Object;") ∈ lw_tbl := lw_at lw_m3 235 rfl
theorem q782 : (Jvm.Cond.instanceMethod ({ cls := "HorsehairTrade$Bow", name := "copy", desc := "()Ljava/lang/Object;" } : Jvm.MethodName)) ∈ lw_all := lw_g (lw_at lw_m3 236 rfl) rfl
theorem q783 : (Jvm.Cond.publicMethod ({ cls := "HorsehairTrade$Bow", name := "copy", desc := "()Ljava/lang/Object;" } : Jvm.MethodName)) ∈ lw_tbl := lw_at lw_m3 237 rfl
theorem q784 : (Jvm.Cond.code ({ cls := "HorsehairTrade$Bow", name := "copy", desc := "()Ljava/lang/Object;" } : Jvm.MethodName) prog_2_method_6_code (1 : Nat) (Option.some (Jvm.ClassFile.FieldType.object "java/lang/Object"))) ∈ lw_all := lw_g (lw_at lw_m3 238 rfl) rfl
theorem q785 : (Jvm.Cond.methodLink "HorsehairTrade$Bow" (50 : Nat) ({ cls := "HorsehairTrade$Bow", name := "copy", desc := "()LHorsehairTrade$Bow;" } : Jvm.MethodName)) ∈ lw_all := lw_g (lw_at lw_m3 239 rfl) rfl
theorem q786 : (Jvm.Cond.instanceMethod ({ cls := "HorsehairTrade$Bow", name := "copy", desc := "()LHorsehairTrade$Bow;" } : Jvm.MethodName)) ∈ lw_all := lw_g (lw_at lw_m4 0 rfl) rfl
theorem q787 : (Jvm.Cond.selects "HorsehairTrade$Bow" ({ cls := "HorsehairTrade$Bow", name := "copy", desc := "()LHorsehairTrade$Bow;" } : Jvm.MethodName) ({ cls := "HorsehairTrade$Bow", name := "copy", desc := "()LHorsehairTrade$Bow;" } : Jvm.MethodName)) ∈ lw_all := lw_g (lw_at lw_m4 1 rfl) rfl
theorem q788 : (Jvm.Cond.code ({ cls := "HorsehairTrade$Bow", name := "copy", desc := "()LHorsehairTrade$Bow;" } : Jvm.MethodName) prog_2_method_2_code (2 : Nat) (Option.some (Jvm.ClassFile.FieldType.object "HorsehairTrade$Bow"))) ∈ lw_all := lw_g (lw_at lw_m4 2 rfl) rfl
theorem q789 : (Jvm.Cond.classLink "HorsehairTrade$Bow" (10 : Nat) "HorsehairTrade$Bow") ∈ lw_all := lw_g (lw_at lw_m4 3 rfl) rfl
theorem q790 : (Jvm.Cond.instantiable "HorsehairTrade$Bow" (7 : Nat)) ∈ lw_all := lw_g (lw_at lw_m4 4 rfl) rfl
theorem q791 : (Jvm.Cond.methodLink "HorsehairTrade$Bow" (21 : Nat) ({ cls := "HorsehairTrade$Bow", name := "<init>", desc := "(I)V" } : Jvm.MethodName)) ∈ lw_all := lw_g (lw_at lw_m4 5 rfl) rfl
theorem q792 : (Jvm.Cond.instanceMethod ({ cls := "HorsehairTrade$Bow", name := "<init>", desc := "(I)V" } : Jvm.MethodName)) ∈ lw_all := lw_g (lw_at lw_m4 6 rfl) rfl
theorem q793 : (Jvm.Cond.code ({ cls := "HorsehairTrade$Bow", name := "<init>", desc := "(I)V" } : Jvm.MethodName) prog_2_method_1_code (2 : Nat) (Option.none : Option Jvm.ClassFile.FieldType)) ∈ lw_all := lw_g (lw_at lw_m4 7 rfl) rfl
theorem q794 : (Jvm.Cond.methodLink "HorsehairTrade$Bow" (3 : Nat) ({ cls := "java/lang/Object", name := "<init>", desc := "()V" } : Jvm.MethodName)) ∈ lw_all := lw_g (lw_at lw_m4 8 rfl) rfl
theorem q795 : (Jvm.Cond.fieldLink "HorsehairTrade$Bow" (9 : Nat) "HorsehairTrade$Bow" "kind" "I") ∈ lw_all := lw_g (lw_at lw_m4 9 rfl) rfl
theorem q798 : (Jvm.Cond.fieldLink "HorsehairTrade$Bow" (24 : Nat) "HorsehairTrade$Bow" "hairs" "I") ∈ lw_all := lw_g (lw_at lw_m4 12 rfl) rfl
theorem q801 : (Jvm.Cond.fieldLink "HorsehairTrade$Bow" (27 : Nat) "HorsehairTrade$Bow" "rosin" "I") ∈ lw_all := lw_g (lw_at lw_m4 15 rfl) rfl
theorem q804 : (Jvm.Cond.fieldLink "HorsehairTrade$Bow" (15 : Nat) "HorsehairTrade$Bow" "quality" "I") ∈ lw_all := lw_g (lw_at lw_m4 18 rfl) rfl
theorem q807 : (Jvm.Cond.fieldLink "HorsehairTrade$Bow" (18 : Nat) "HorsehairTrade$Bow" "tail" "I") ∈ lw_all := lw_g (lw_at lw_m4 21 rfl) rfl
theorem q810 : (Jvm.Cond.fieldLink "HorsehairTrade$Bow" (30 : Nat) "HorsehairTrade$Bow" "hours" "I") ∈ lw_all := lw_g (lw_at lw_m4 24 rfl) rfl
theorem q812 : (Jvm.Cond.fieldLink "HorsehairTrade$Bow" (33 : Nat) "HorsehairTrade$Bow" "isPaid" "Z") ∈ lw_all := lw_g (lw_at lw_m4 26 rfl) rfl
theorem q815 : (Jvm.Cond.laysFinal "HorsehairTrade$Bow" "HorsehairTrade$Bow" "kind" "I") ∈ lw_all := lw_g (lw_at lw_m4 29 rfl) rfl
theorem q816 : (Jvm.Cond.soleField "HorsehairTrade$Bow" "kind") ∈ lw_all := lw_g (lw_at lw_m4 30 rfl) rfl
theorem q817 : (Jvm.Cond.lays "HorsehairTrade$Bow" "HorsehairTrade$Bow" "hairs" "I") ∈ lw_all := lw_g (lw_at lw_m4 31 rfl) rfl
theorem q818 : (Jvm.Cond.soleField "HorsehairTrade$Bow" "hairs") ∈ lw_all := lw_g (lw_at lw_m4 32 rfl) rfl
theorem q819 : (Jvm.Cond.lays "HorsehairTrade$Bow" "HorsehairTrade$Bow" "rosin" "I") ∈ lw_all := lw_g (lw_at lw_m4 33 rfl) rfl
theorem q820 : (Jvm.Cond.soleField "HorsehairTrade$Bow" "rosin") ∈ lw_all := lw_g (lw_at lw_m4 34 rfl) rfl
theorem q821 : (Jvm.Cond.lays "HorsehairTrade$Bow" "HorsehairTrade$Bow" "quality" "I") ∈ lw_all := lw_g (lw_at lw_m4 35 rfl) rfl
theorem q822 : (Jvm.Cond.soleField "HorsehairTrade$Bow" "quality") ∈ lw_all := lw_g (lw_at lw_m4 36 rfl) rfl
theorem q823 : (Jvm.Cond.lays "HorsehairTrade$Bow" "HorsehairTrade$Bow" "tail" "I") ∈ lw_all := lw_g (lw_at lw_m4 37 rfl) rfl
theorem q824 : (Jvm.Cond.soleField "HorsehairTrade$Bow" "tail") ∈ lw_all := lw_g (lw_at lw_m4 38 rfl) rfl
theorem q825 : (Jvm.Cond.lays "HorsehairTrade$Bow" "HorsehairTrade$Bow" "hours" "I") ∈ lw_all := lw_g (lw_at lw_m4 39 rfl) rfl
theorem q826 : (Jvm.Cond.soleField "HorsehairTrade$Bow" "hours") ∈ lw_all := lw_g (lw_at lw_m4 40 rfl) rfl
theorem q827 : (Jvm.Cond.lays "HorsehairTrade$Bow" "HorsehairTrade$Bow" "isPaid" "Z") ∈ lw_all := lw_g (lw_at lw_m4 41 rfl) rfl
theorem q828 : (Jvm.Cond.soleField "HorsehairTrade$Bow" "isPaid") ∈ lw_all := lw_g (lw_at lw_m4 42 rfl) rfl
theorem q829 : (Jvm.Cond.superclass "HorsehairTrade$Bow" "java/lang/Object") ∈ lw_all := lw_g (lw_at lw_m4 43 rfl) rfl
theorem q953 : (Jvm.Cond.selects "HorsehairTrade$Bow" ({ cls := "java/lang/Object", name := "getClass", desc := "()Ljava/lang/Class;" } : Jvm.MethodName) ({ cls := "java/lang/Object", name := "getClass", desc := "()Ljava/lang/Class;" } : Jvm.MethodName)) ∈ lw_all := lw_g (lw_at lw_m4 167 rfl) rfl
theorem q1228 : (Jvm.Cond.instanceMethod ({ cls := "HorsehairTrade$Bow", name := "canBePlayed", desc := "()Z" } : Jvm.MethodName)) ∈ lw_all := lw_g (lw_at lw_m5 202 rfl) rfl
theorem q1229 : (Jvm.Cond.selects "HorsehairTrade$Bow" ({ cls := "HorsehairTrade$Bow", name := "canBePlayed", desc := "()Z" } : Jvm.MethodName) ({ cls := "HorsehairTrade$Bow", name := "canBePlayed", desc := "()Z" } : Jvm.MethodName)) ∈ lw_all := lw_g (lw_at lw_m5 203 rfl) rfl
theorem q1230 : (Jvm.Cond.code ({ cls := "HorsehairTrade$Bow", name := "canBePlayed", desc := "()Z" } : Jvm.MethodName) prog_2_method_4_code (1 : Nat) (Option.some Jvm.ClassFile.FieldType.boolean)) ∈ lw_all := lw_g (lw_at lw_m5 204 rfl) rfl
theorem q1231 : (Jvm.Cond.fieldLinkNest "HorsehairTrade$Bow" (37 : Nat) "HorsehairTrade" "NEEDED" "[I" "HorsehairTrade") ∈ lw_tbl := lw_at lw_m5 205 rfl
theorem q1233 : (Jvm.Cond.instanceMethod ({ cls := "HorsehairTrade$Bow", name := "hour", desc := "()I" } : Jvm.MethodName)) ∈ lw_all := lw_g (lw_at lw_m5 207 rfl) rfl
theorem q1234 : (Jvm.Cond.selects "HorsehairTrade$Bow" ({ cls := "HorsehairTrade$Bow", name := "hour", desc := "()I" } : Jvm.MethodName) ({ cls := "HorsehairTrade$Bow", name := "hour", desc := "()I" } : Jvm.MethodName)) ∈ lw_all := lw_g (lw_at lw_m5 208 rfl) rfl
theorem q1235 : (Jvm.Cond.code ({ cls := "HorsehairTrade$Bow", name := "hour", desc := "()I" } : Jvm.MethodName) prog_2_method_5_code (2 : Nat) (Option.some Jvm.ClassFile.FieldType.int)) ∈ lw_all := lw_g (lw_at lw_m5 209 rfl) rfl
theorem q1236 : (Jvm.Cond.methodLink "HorsehairTrade$Bow" (41 : Nat) ({ cls := "java/lang/Math", name := "min", desc := "(II)I" } : Jvm.MethodName)) ∈ lw_all := lw_g (lw_at lw_m5 210 rfl) rfl
theorem q1237 : (Jvm.Cond.methodLink "HorsehairTrade$Bow" (47 : Nat) ({ cls := "java/lang/Math", name := "max", desc := "(II)I" } : Jvm.MethodName)) ∈ lw_all := lw_g (lw_at lw_m5 211 rfl) rfl
theorem q2780 : (Jvm.Cond.castable "HorsehairTrade$Bow" "java/lang/Object") ∈ lw_tbl := lw_at lw_m12 74 rfl
theorem in_X6 : ∀ w ∈ wsX60, w ∈ lw_all := lw_in wsX60 [815, 817, 819, 821, 823, 825, 827] (by decide +kernel) (by decide +kernel)
/-! HorsehairTrade$Cake -/
set_option maxRecDepth 100000
def RX7 : String := "HorsehairTrade$Cake"
def TX7 : u_T := fun k => match k with
  | _ => ("HorsehairTrade$Cake", "size", "I", false)
def tyX7 : Nat → FieldType := fun k => match k with
  | _ => .int
abbrev wsX70 : List Cond := u_ws RX7 TX7 1
theorem nmX7 : ∀ a, a < 1 → ∀ b, b < 1 → a ≠ b → (TX7 a).2.1 ≠ (TX7 b).2.1 := by decide +kernel
theorem tyX7_ok : ∀ k, k < 1 → parseFieldDescriptor (TX7 k).2.2.1 = some (tyX7 k) := by decide +kernel
abbrev cX7_copy : ByteArray := prog_3_method_3_code
def yX7_copy : MethodName := ⟨RX7, "copy", "()Ljava/lang/Object;"⟩
theorem dX7_copy_0 : decode cX7_copy 0 = .ok (.aload_n 0, 1) := by decide +kernel
theorem dX7_copy_1 : decode cX7_copy 1 = .ok (.invokevirtual 16, 3) := by decide +kernel
theorem dX7_copy_4 : decode cX7_copy 4 = .ok (.areturn, 1) := by decide +kernel
abbrev cX7_copy_2 : ByteArray := prog_3_method_2_code
def yX7_copy_2 : MethodName := ⟨RX7, "copy", "()LHorsehairTrade$Cake;"⟩
def dkwX7_copy_2_0 : List UInt8 := [187, 0, 8, 89, 42, 180, 0, 7, 183, 0, 13, 176]
abbrev dktX7_copy_2_0 : List UInt8 := dkwX7_copy_2_0 ++ []
theorem dksX7_copy_2_0 : cX7_copy_2.data.toList.drop 0 = dktX7_copy_2_0 := by decide +kernel
theorem dX7_copy_2_0 : decode cX7_copy_2 0 = .ok (.new 8, 3) := dk_187 0 8 (dk_at dksX7_copy_2_0 0 rfl rfl)
theorem dX7_copy_2_3 : decode cX7_copy_2 3 = .ok (.dup, 1) := dk_89 (dk_at dksX7_copy_2_0 3 rfl rfl)
theorem dX7_copy_2_4 : decode cX7_copy_2 4 = .ok (.aload_n 0, 1) := dk_42 (dk_at dksX7_copy_2_0 4 rfl rfl)
theorem dX7_copy_2_5 : decode cX7_copy_2 5 = .ok (.getfield 7, 3) := dk_180 0 7 (dk_at dksX7_copy_2_0 5 rfl rfl)
theorem dX7_copy_2_8 : decode cX7_copy_2 8 = .ok (.invokespecial 13, 3) := dk_183 0 13 (dk_at dksX7_copy_2_0 8 rfl rfl)
theorem dX7_copy_2_11 : decode cX7_copy_2 11 = .ok (.areturn, 1) := dk_176 (dk_at dksX7_copy_2_0 11 rfl rfl)
abbrev cX7_init : ByteArray := prog_3_method_1_code
def yX7_init : MethodName := ⟨RX7, "<init>", "(I)V"⟩
def dkwX7_init_0 : List UInt8 := [42, 183, 0, 1, 42, 27, 181, 0, 7, 177]
abbrev dktX7_init_0 : List UInt8 := dkwX7_init_0 ++ []
theorem dksX7_init_0 : cX7_init.data.toList.drop 0 = dktX7_init_0 := by decide +kernel
theorem dX7_init_0 : decode cX7_init 0 = .ok (.aload_n 0, 1) := dk_42 (dk_at dksX7_init_0 0 rfl rfl)
theorem dX7_init_1 : decode cX7_init 1 = .ok (.invokespecial 1, 3) := dk_183 0 1 (dk_at dksX7_init_0 1 rfl rfl)
theorem dX7_init_4 : decode cX7_init 4 = .ok (.aload_n 0, 1) := dk_42 (dk_at dksX7_init_0 4 rfl rfl)
theorem dX7_init_5 : decode cX7_init 5 = .ok (.iload_n 1, 1) := dk_27 (dk_at dksX7_init_0 5 rfl rfl)
theorem dX7_init_6 : decode cX7_init 6 = .ok (.putfield 7, 3) := dk_181 0 7 (dk_at dksX7_init_0 6 rfl rfl)
theorem dX7_init_9 : decode cX7_init 9 = .ok (.return_, 1) := dk_177 (dk_at dksX7_init_0 9 rfl rfl)
theorem q83 : (Jvm.Cond.initialized "HorsehairTrade$Cake") ∈ lw_all := lw_g (lw_at lw_m1 17 rfl) rfl
theorem q830 : (Jvm.Cond.castable "HorsehairTrade$Cake" "HorsehairTrade$Copied") ∈ lw_tbl := lw_at lw_m4 44 rfl
theorem q831 : (Jvm.Cond.selects "HorsehairTrade$Cake" ({ cls := "HorsehairTrade$Copied", name := "copy", desc := "()Ljava/lang/Object;" } : Jvm.MethodName) ({ cls := "HorsehairTrade$Cake", name := "copy", desc := "()Ljava/lang/Object;" } : Jvm.MethodName)) ∈ lw_all := lw_g (lw_at lw_m4 45 rfl) rfl
theorem q832 : (Jvm.Cond.unhidden "HorsehairTrade$Cake" "copy" "()Ljava/lang/Object;") ∈ lw_tbl := lw_at lw_m4 46 rfl
theorem q833 : (Jvm.Cond.instanceMethod ({ cls := "HorsehairTrade$Cake", name := "copy", desc := "()Ljava/lang/Object;" } : Jvm.MethodName)) ∈ lw_all := lw_g (lw_at lw_m4 47 rfl) rfl
theorem q834 : (Jvm.Cond.publicMethod ({ cls := "HorsehairTrade$Cake", name := "copy", desc := "()Ljava/lang/Object;" } : Jvm.MethodName)) ∈ lw_tbl := lw_at lw_m4 48 rfl
theorem q835 : (Jvm.Cond.code ({ cls := "HorsehairTrade$Cake", name := "copy", desc := "()Ljava/lang/Object;" } : Jvm.MethodName) prog_3_method_3_code (1 : Nat) (Option.some (Jvm.ClassFile.FieldType.object "java/lang/Object"))) ∈ lw_all := lw_g (lw_at lw_m4 49 rfl) rfl
theorem q836 : (Jvm.Cond.methodLink "HorsehairTrade$Cake" (16 : Nat) ({ cls := "HorsehairTrade$Cake", name := "copy", desc := "()LHorsehairTrade$Cake;" } : Jvm.MethodName)) ∈ lw_all := lw_g (lw_at lw_m4 50 rfl) rfl
theorem q837 : (Jvm.Cond.instanceMethod ({ cls := "HorsehairTrade$Cake", name := "copy", desc := "()LHorsehairTrade$Cake;" } : Jvm.MethodName)) ∈ lw_all := lw_g (lw_at lw_m4 51 rfl) rfl
theorem q838 : (Jvm.Cond.selects "HorsehairTrade$Cake" ({ cls := "HorsehairTrade$Cake", name := "copy", desc := "()LHorsehairTrade$Cake;" } : Jvm.MethodName) ({ cls := "HorsehairTrade$Cake", name := "copy", desc := "()LHorsehairTrade$Cake;" } : Jvm.MethodName)) ∈ lw_all := lw_g (lw_at lw_m4 52 rfl) rfl
theorem q839 : (Jvm.Cond.code ({ cls := "HorsehairTrade$Cake", name := "copy", desc := "()LHorsehairTrade$Cake;" } : Jvm.MethodName) prog_3_method_2_code (1 : Nat) (Option.some (Jvm.ClassFile.FieldType.object "HorsehairTrade$Cake"))) ∈ lw_all := lw_g (lw_at lw_m4 53 rfl) rfl
theorem q840 : (Jvm.Cond.classLink "HorsehairTrade$Cake" (8 : Nat) "HorsehairTrade$Cake") ∈ lw_all := lw_g (lw_at lw_m4 54 rfl) rfl
theorem q841 : (Jvm.Cond.instantiable "HorsehairTrade$Cake" (1 : Nat)) ∈ lw_all := lw_g (lw_at lw_m4 55 rfl) rfl
theorem q842 : (Jvm.Cond.methodLink "HorsehairTrade$Cake" (13 : Nat) ({ cls := "HorsehairTrade$Cake", name := "<init>", desc := "(I)V" } : Jvm.MethodName)) ∈ lw_all := lw_g (lw_at lw_m4 56 rfl) rfl
theorem q843 : (Jvm.Cond.instanceMethod ({ cls := "HorsehairTrade$Cake", name := "<init>", desc := "(I)V" } : Jvm.MethodName)) ∈ lw_all := lw_g (lw_at lw_m4 57 rfl) rfl
theorem q844 : (Jvm.Cond.code ({ cls := "HorsehairTrade$Cake", name := "<init>", desc := "(I)V" } : Jvm.MethodName) prog_3_method_1_code (2 : Nat) (Option.none : Option Jvm.ClassFile.FieldType)) ∈ lw_all := lw_g (lw_at lw_m4 58 rfl) rfl
theorem q845 : (Jvm.Cond.methodLink "HorsehairTrade$Cake" (1 : Nat) ({ cls := "java/lang/Object", name := "<init>", desc := "()V" } : Jvm.MethodName)) ∈ lw_all := lw_g (lw_at lw_m4 59 rfl) rfl
theorem q846 : (Jvm.Cond.fieldLink "HorsehairTrade$Cake" (7 : Nat) "HorsehairTrade$Cake" "size" "I") ∈ lw_all := lw_g (lw_at lw_m4 60 rfl) rfl
theorem q849 : (Jvm.Cond.lays "HorsehairTrade$Cake" "HorsehairTrade$Cake" "size" "I") ∈ lw_all := lw_g (lw_at lw_m4 63 rfl) rfl
theorem q850 : (Jvm.Cond.soleField "HorsehairTrade$Cake" "size") ∈ lw_all := lw_g (lw_at lw_m4 64 rfl) rfl
theorem q851 : (Jvm.Cond.superclass "HorsehairTrade$Cake" "java/lang/Object") ∈ lw_all := lw_g (lw_at lw_m4 65 rfl) rfl
theorem q954 : (Jvm.Cond.selects "HorsehairTrade$Cake" ({ cls := "java/lang/Object", name := "getClass", desc := "()Ljava/lang/Class;" } : Jvm.MethodName) ({ cls := "java/lang/Object", name := "getClass", desc := "()Ljava/lang/Class;" } : Jvm.MethodName)) ∈ lw_all := lw_g (lw_at lw_m4 168 rfl) rfl
theorem q2781 : (Jvm.Cond.castable "HorsehairTrade$Cake" "java/lang/Object") ∈ lw_tbl := lw_at lw_m12 75 rfl
theorem in_X7 : ∀ w ∈ wsX70, w ∈ lw_all := lw_in wsX70 [849] (by decide +kernel) (by decide +kernel)
/-! HorsehairTrade$Hank -/
set_option maxRecDepth 100000
def RX8 : String := "HorsehairTrade$Hank"
def TX8 : u_T := fun k => match k with
  | 0 => ("HorsehairTrade$Hank", "hairs", "I", false)
  | 1 => ("HorsehairTrade$Hank", "length", "I", false)
  | 2 => ("HorsehairTrade$Hank", "colour", "I", false)
  | _ => ("HorsehairTrade$Hank", "tail", "I", false)
def tyX8 : Nat → FieldType := fun k => match k with
  | 0 => .int
  | 1 => .int
  | 2 => .int
  | _ => .int
abbrev wsX80 : List Cond := u_ws RX8 TX8 4
theorem nmX8 : ∀ a, a < 4 → ∀ b, b < 4 → a ≠ b → (TX8 a).2.1 ≠ (TX8 b).2.1 := by decide +kernel
theorem tyX8_ok : ∀ k, k < 4 → parseFieldDescriptor (TX8 k).2.2.1 = some (tyX8 k) := by decide +kernel
abbrev cX8_sign : ByteArray := prog_7_method_7_code
def yX8_sign : MethodName := ⟨RX8, "sign", "()Ljava/lang/String;"⟩
def dkwX8_sign_2 : List UInt8 := [160, 0, 8, 18, 65, 167, 0, 5, 18, 55, 182, 0, 57, 182, 0, 67, 176]
abbrev dktX8_sign_2 : List UInt8 := dkwX8_sign_2 ++ []
def dkwX8_sign_1 : List UInt8 := [42, 180, 0, 9, 182, 0, 60, 18, 63, 182, 0, 57, 42, 180, 0, 15, 182, 0, 60, 42, 180, 0, 21, 2]
abbrev dktX8_sign_1 : List UInt8 := dkwX8_sign_1 ++ dktX8_sign_2
def dkwX8_sign_0 : List UInt8 := [187, 0, 40, 89, 183, 0, 42, 18, 43, 42, 180, 0, 18, 182, 0, 45, 182, 0, 51, 18, 55, 182, 0, 57]
abbrev dktX8_sign_0 : List UInt8 := dkwX8_sign_0 ++ dktX8_sign_1
theorem dksX8_sign_0 : cX8_sign.data.toList.drop 0 = dktX8_sign_0 := by decide +kernel
theorem dksX8_sign_1 : cX8_sign.data.toList.drop 24 = dktX8_sign_1 := dk_seg dksX8_sign_0 24 rfl rfl
theorem dksX8_sign_2 : cX8_sign.data.toList.drop 48 = dktX8_sign_2 := dk_seg dksX8_sign_1 24 rfl rfl
theorem dX8_sign_0 : decode cX8_sign 0 = .ok (.new 40, 3) := dk_187 0 40 (dk_at dksX8_sign_0 0 rfl rfl)
theorem dX8_sign_3 : decode cX8_sign 3 = .ok (.dup, 1) := dk_89 (dk_at dksX8_sign_0 3 rfl rfl)
theorem dX8_sign_4 : decode cX8_sign 4 = .ok (.invokespecial 42, 3) := dk_183 0 42 (dk_at dksX8_sign_0 4 rfl rfl)
theorem dX8_sign_7 : decode cX8_sign 7 = .ok (.ldc 43, 2) := dk_18 43 (dk_at dksX8_sign_0 7 rfl rfl)
theorem dX8_sign_9 : decode cX8_sign 9 = .ok (.aload_n 0, 1) := dk_42 (dk_at dksX8_sign_0 9 rfl rfl)
theorem dX8_sign_10 : decode cX8_sign 10 = .ok (.getfield 18, 3) := dk_180 0 18 (dk_at dksX8_sign_0 10 rfl rfl)
theorem dX8_sign_13 : decode cX8_sign 13 = .ok (.invokevirtual 45, 3) := dk_182 0 45 (dk_at dksX8_sign_0 13 rfl rfl)
theorem dX8_sign_16 : decode cX8_sign 16 = .ok (.invokevirtual 51, 3) := dk_182 0 51 (dk_at dksX8_sign_0 16 rfl rfl)
theorem dX8_sign_19 : decode cX8_sign 19 = .ok (.ldc 55, 2) := dk_18 55 (dk_at dksX8_sign_0 19 rfl rfl)
theorem dX8_sign_21 : decode cX8_sign 21 = .ok (.invokevirtual 57, 3) := dk_182 0 57 (dk_at dksX8_sign_0 21 rfl rfl)
theorem dX8_sign_24 : decode cX8_sign 24 = .ok (.aload_n 0, 1) := dk_42 (dk_at dksX8_sign_1 0 rfl rfl)
theorem dX8_sign_25 : decode cX8_sign 25 = .ok (.getfield 9, 3) := dk_180 0 9 (dk_at dksX8_sign_1 1 rfl rfl)
theorem dX8_sign_28 : decode cX8_sign 28 = .ok (.invokevirtual 60, 3) := dk_182 0 60 (dk_at dksX8_sign_1 4 rfl rfl)
theorem dX8_sign_31 : decode cX8_sign 31 = .ok (.ldc 63, 2) := dk_18 63 (dk_at dksX8_sign_1 7 rfl rfl)
theorem dX8_sign_33 : decode cX8_sign 33 = .ok (.invokevirtual 57, 3) := dk_182 0 57 (dk_at dksX8_sign_1 9 rfl rfl)
theorem dX8_sign_36 : decode cX8_sign 36 = .ok (.aload_n 0, 1) := dk_42 (dk_at dksX8_sign_1 12 rfl rfl)
theorem dX8_sign_37 : decode cX8_sign 37 = .ok (.getfield 15, 3) := dk_180 0 15 (dk_at dksX8_sign_1 13 rfl rfl)
theorem dX8_sign_40 : decode cX8_sign 40 = .ok (.invokevirtual 60, 3) := dk_182 0 60 (dk_at dksX8_sign_1 16 rfl rfl)
theorem dX8_sign_43 : decode cX8_sign 43 = .ok (.aload_n 0, 1) := dk_42 (dk_at dksX8_sign_1 19 rfl rfl)
theorem dX8_sign_44 : decode cX8_sign 44 = .ok (.getfield 21, 3) := dk_180 0 21 (dk_at dksX8_sign_1 20 rfl rfl)
theorem dX8_sign_47 : decode cX8_sign 47 = .ok (.iconst (-1), 1) := dk_2 (dk_at dksX8_sign_1 23 rfl rfl)
theorem dX8_sign_48 : decode cX8_sign 48 = .ok (.if_icmp .ne 8, 3) := dk_160 0 8 (dk_at dksX8_sign_2 0 rfl rfl)
theorem dX8_sign_51 : decode cX8_sign 51 = .ok (.ldc 65, 2) := dk_18 65 (dk_at dksX8_sign_2 3 rfl rfl)
theorem dX8_sign_53 : decode cX8_sign 53 = .ok (.goto 5, 3) := dk_167 0 5 (dk_at dksX8_sign_2 5 rfl rfl)
theorem dX8_sign_56 : decode cX8_sign 56 = .ok (.ldc 55, 2) := dk_18 55 (dk_at dksX8_sign_2 8 rfl rfl)
theorem dX8_sign_58 : decode cX8_sign 58 = .ok (.invokevirtual 57, 3) := dk_182 0 57 (dk_at dksX8_sign_2 10 rfl rfl)
theorem dX8_sign_61 : decode cX8_sign 61 = .ok (.invokevirtual 67, 3) := dk_182 0 67 (dk_at dksX8_sign_2 13 rfl rfl)
theorem dX8_sign_64 : decode cX8_sign 64 = .ok (.areturn, 1) := dk_176 (dk_at dksX8_sign_2 16 rfl rfl)
abbrev cX8_hairs : ByteArray := prog_7_method_3_code
def yX8_hairs : MethodName := ⟨RX8, "hairs", "()I"⟩
theorem dX8_hairs_0 : decode cX8_hairs 0 = .ok (.aload_n 0, 1) := by decide +kernel
theorem dX8_hairs_1 : decode cX8_hairs 1 = .ok (.getfield 9, 3) := by decide +kernel
theorem dX8_hairs_4 : decode cX8_hairs 4 = .ok (.ireturn, 1) := by decide +kernel
abbrev cX8_copy : ByteArray := prog_7_method_8_code
def yX8_copy : MethodName := ⟨RX8, "copy", "()Ljava/lang/Object;"⟩
theorem dX8_copy_0 : decode cX8_copy 0 = .ok (.aload_n 0, 1) := by decide +kernel
theorem dX8_copy_1 : decode cX8_copy 1 = .ok (.invokevirtual 71, 3) := by decide +kernel
theorem dX8_copy_4 : decode cX8_copy 4 = .ok (.areturn, 1) := by decide +kernel
abbrev cX8_copy_2 : ByteArray := prog_7_method_2_code
def yX8_copy_2 : MethodName := ⟨RX8, "copy", "()LHorsehairTrade$Hank;"⟩
def dkwX8_copy_2_0 : List UInt8 := [187, 0, 10, 89, 42, 180, 0, 9, 42, 180, 0, 15, 42, 180, 0, 18, 42, 180, 0, 21, 183, 0, 24, 176]
abbrev dktX8_copy_2_0 : List UInt8 := dkwX8_copy_2_0 ++ []
theorem dksX8_copy_2_0 : cX8_copy_2.data.toList.drop 0 = dktX8_copy_2_0 := by decide +kernel
theorem dX8_copy_2_0 : decode cX8_copy_2 0 = .ok (.new 10, 3) := dk_187 0 10 (dk_at dksX8_copy_2_0 0 rfl rfl)
theorem dX8_copy_2_3 : decode cX8_copy_2 3 = .ok (.dup, 1) := dk_89 (dk_at dksX8_copy_2_0 3 rfl rfl)
theorem dX8_copy_2_4 : decode cX8_copy_2 4 = .ok (.aload_n 0, 1) := dk_42 (dk_at dksX8_copy_2_0 4 rfl rfl)
theorem dX8_copy_2_5 : decode cX8_copy_2 5 = .ok (.getfield 9, 3) := dk_180 0 9 (dk_at dksX8_copy_2_0 5 rfl rfl)
theorem dX8_copy_2_8 : decode cX8_copy_2 8 = .ok (.aload_n 0, 1) := dk_42 (dk_at dksX8_copy_2_0 8 rfl rfl)
theorem dX8_copy_2_9 : decode cX8_copy_2 9 = .ok (.getfield 15, 3) := dk_180 0 15 (dk_at dksX8_copy_2_0 9 rfl rfl)
theorem dX8_copy_2_12 : decode cX8_copy_2 12 = .ok (.aload_n 0, 1) := dk_42 (dk_at dksX8_copy_2_0 12 rfl rfl)
theorem dX8_copy_2_13 : decode cX8_copy_2 13 = .ok (.getfield 18, 3) := dk_180 0 18 (dk_at dksX8_copy_2_0 13 rfl rfl)
theorem dX8_copy_2_16 : decode cX8_copy_2 16 = .ok (.aload_n 0, 1) := dk_42 (dk_at dksX8_copy_2_0 16 rfl rfl)
theorem dX8_copy_2_17 : decode cX8_copy_2 17 = .ok (.getfield 21, 3) := dk_180 0 21 (dk_at dksX8_copy_2_0 17 rfl rfl)
theorem dX8_copy_2_20 : decode cX8_copy_2 20 = .ok (.invokespecial 24, 3) := dk_183 0 24 (dk_at dksX8_copy_2_0 20 rfl rfl)
theorem dX8_copy_2_23 : decode cX8_copy_2 23 = .ok (.areturn, 1) := dk_176 (dk_at dksX8_copy_2_0 23 rfl rfl)
abbrev cX8_init : ByteArray := prog_7_method_1_code
def yX8_init : MethodName := ⟨RX8, "<init>", "(IIII)V"⟩
def dkwX8_init_1 : List UInt8 := [181, 0, 21, 177]
abbrev dktX8_init_1 : List UInt8 := dkwX8_init_1 ++ []
def dkwX8_init_0 : List UInt8 := [42, 183, 0, 3, 42, 27, 181, 0, 9, 42, 28, 181, 0, 15, 42, 29, 181, 0, 18, 42, 21, 4]
abbrev dktX8_init_0 : List UInt8 := dkwX8_init_0 ++ dktX8_init_1
theorem dksX8_init_0 : cX8_init.data.toList.drop 0 = dktX8_init_0 := by decide +kernel
theorem dksX8_init_1 : cX8_init.data.toList.drop 22 = dktX8_init_1 := dk_seg dksX8_init_0 22 rfl rfl
theorem dX8_init_0 : decode cX8_init 0 = .ok (.aload_n 0, 1) := dk_42 (dk_at dksX8_init_0 0 rfl rfl)
theorem dX8_init_1 : decode cX8_init 1 = .ok (.invokespecial 3, 3) := dk_183 0 3 (dk_at dksX8_init_0 1 rfl rfl)
theorem dX8_init_4 : decode cX8_init 4 = .ok (.aload_n 0, 1) := dk_42 (dk_at dksX8_init_0 4 rfl rfl)
theorem dX8_init_5 : decode cX8_init 5 = .ok (.iload_n 1, 1) := dk_27 (dk_at dksX8_init_0 5 rfl rfl)
theorem dX8_init_6 : decode cX8_init 6 = .ok (.putfield 9, 3) := dk_181 0 9 (dk_at dksX8_init_0 6 rfl rfl)
theorem dX8_init_9 : decode cX8_init 9 = .ok (.aload_n 0, 1) := dk_42 (dk_at dksX8_init_0 9 rfl rfl)
theorem dX8_init_10 : decode cX8_init 10 = .ok (.iload_n 2, 1) := dk_28 (dk_at dksX8_init_0 10 rfl rfl)
theorem dX8_init_11 : decode cX8_init 11 = .ok (.putfield 15, 3) := dk_181 0 15 (dk_at dksX8_init_0 11 rfl rfl)
theorem dX8_init_14 : decode cX8_init 14 = .ok (.aload_n 0, 1) := dk_42 (dk_at dksX8_init_0 14 rfl rfl)
theorem dX8_init_15 : decode cX8_init 15 = .ok (.iload_n 3, 1) := dk_29 (dk_at dksX8_init_0 15 rfl rfl)
theorem dX8_init_16 : decode cX8_init 16 = .ok (.putfield 18, 3) := dk_181 0 18 (dk_at dksX8_init_0 16 rfl rfl)
theorem dX8_init_19 : decode cX8_init 19 = .ok (.aload_n 0, 1) := dk_42 (dk_at dksX8_init_0 19 rfl rfl)
theorem dX8_init_20 : decode cX8_init 20 = .ok (.iload 4, 2) := dk_21 4 (dk_at dksX8_init_0 20 rfl rfl)
theorem dX8_init_22 : decode cX8_init 22 = .ok (.putfield 21, 3) := dk_181 0 21 (dk_at dksX8_init_1 0 rfl rfl)
theorem dX8_init_25 : decode cX8_init 25 = .ok (.return_, 1) := dk_177 (dk_at dksX8_init_1 3 rfl rfl)
abbrev cX8_isTiedWith : ByteArray := prog_7_method_4_code
def yX8_isTiedWith : MethodName := ⟨RX8, "isTiedWith", "(LHorsehairTrade$Hank;)V"⟩
def dkwX8_isTiedWith_3 : List UInt8 := [167, 0, 4, 2, 181, 0, 21, 177]
abbrev dktX8_isTiedWith_3 : List UInt8 := dkwX8_isTiedWith_3 ++ []
def dkwX8_isTiedWith_2 : List UInt8 := [167, 0, 4, 6, 181, 0, 18, 42, 42, 180, 0, 21, 43, 180, 0, 21, 160, 0, 10, 42, 180, 0, 21]
abbrev dktX8_isTiedWith_2 : List UInt8 := dkwX8_isTiedWith_2 ++ dktX8_isTiedWith_3
def dkwX8_isTiedWith_1 : List UInt8 := [184, 0, 27, 181, 0, 15, 42, 42, 180, 0, 18, 43, 180, 0, 18, 160, 0, 10, 42, 180, 0, 18]
abbrev dktX8_isTiedWith_1 : List UInt8 := dkwX8_isTiedWith_1 ++ dktX8_isTiedWith_2
def dkwX8_isTiedWith_0 : List UInt8 := [42, 89, 180, 0, 9, 43, 180, 0, 9, 96, 181, 0, 9, 42, 42, 180, 0, 15, 43, 180, 0, 15]
abbrev dktX8_isTiedWith_0 : List UInt8 := dkwX8_isTiedWith_0 ++ dktX8_isTiedWith_1
theorem dksX8_isTiedWith_0 : cX8_isTiedWith.data.toList.drop 0 = dktX8_isTiedWith_0 := by decide +kernel
theorem dksX8_isTiedWith_1 : cX8_isTiedWith.data.toList.drop 22 = dktX8_isTiedWith_1 := dk_seg dksX8_isTiedWith_0 22 rfl rfl
theorem dksX8_isTiedWith_2 : cX8_isTiedWith.data.toList.drop 44 = dktX8_isTiedWith_2 := dk_seg dksX8_isTiedWith_1 22 rfl rfl
theorem dksX8_isTiedWith_3 : cX8_isTiedWith.data.toList.drop 67 = dktX8_isTiedWith_3 := dk_seg dksX8_isTiedWith_2 23 rfl rfl
theorem dX8_isTiedWith_0 : decode cX8_isTiedWith 0 = .ok (.aload_n 0, 1) := dk_42 (dk_at dksX8_isTiedWith_0 0 rfl rfl)
theorem dX8_isTiedWith_1 : decode cX8_isTiedWith 1 = .ok (.dup, 1) := dk_89 (dk_at dksX8_isTiedWith_0 1 rfl rfl)
theorem dX8_isTiedWith_2 : decode cX8_isTiedWith 2 = .ok (.getfield 9, 3) := dk_180 0 9 (dk_at dksX8_isTiedWith_0 2 rfl rfl)
theorem dX8_isTiedWith_5 : decode cX8_isTiedWith 5 = .ok (.aload_n 1, 1) := dk_43 (dk_at dksX8_isTiedWith_0 5 rfl rfl)
theorem dX8_isTiedWith_6 : decode cX8_isTiedWith 6 = .ok (.getfield 9, 3) := dk_180 0 9 (dk_at dksX8_isTiedWith_0 6 rfl rfl)
theorem dX8_isTiedWith_9 : decode cX8_isTiedWith 9 = .ok (.iadd, 1) := dk_96 (dk_at dksX8_isTiedWith_0 9 rfl rfl)
theorem dX8_isTiedWith_10 : decode cX8_isTiedWith 10 = .ok (.putfield 9, 3) := dk_181 0 9 (dk_at dksX8_isTiedWith_0 10 rfl rfl)
theorem dX8_isTiedWith_13 : decode cX8_isTiedWith 13 = .ok (.aload_n 0, 1) := dk_42 (dk_at dksX8_isTiedWith_0 13 rfl rfl)
theorem dX8_isTiedWith_14 : decode cX8_isTiedWith 14 = .ok (.aload_n 0, 1) := dk_42 (dk_at dksX8_isTiedWith_0 14 rfl rfl)
theorem dX8_isTiedWith_15 : decode cX8_isTiedWith 15 = .ok (.getfield 15, 3) := dk_180 0 15 (dk_at dksX8_isTiedWith_0 15 rfl rfl)
theorem dX8_isTiedWith_18 : decode cX8_isTiedWith 18 = .ok (.aload_n 1, 1) := dk_43 (dk_at dksX8_isTiedWith_0 18 rfl rfl)
theorem dX8_isTiedWith_19 : decode cX8_isTiedWith 19 = .ok (.getfield 15, 3) := dk_180 0 15 (dk_at dksX8_isTiedWith_0 19 rfl rfl)
theorem dX8_isTiedWith_22 : decode cX8_isTiedWith 22 = .ok (.invokestatic 27, 3) := dk_184 0 27 (dk_at dksX8_isTiedWith_1 0 rfl rfl)
theorem dX8_isTiedWith_25 : decode cX8_isTiedWith 25 = .ok (.putfield 15, 3) := dk_181 0 15 (dk_at dksX8_isTiedWith_1 3 rfl rfl)
theorem dX8_isTiedWith_28 : decode cX8_isTiedWith 28 = .ok (.aload_n 0, 1) := dk_42 (dk_at dksX8_isTiedWith_1 6 rfl rfl)
theorem dX8_isTiedWith_29 : decode cX8_isTiedWith 29 = .ok (.aload_n 0, 1) := dk_42 (dk_at dksX8_isTiedWith_1 7 rfl rfl)
theorem dX8_isTiedWith_30 : decode cX8_isTiedWith 30 = .ok (.getfield 18, 3) := dk_180 0 18 (dk_at dksX8_isTiedWith_1 8 rfl rfl)
theorem dX8_isTiedWith_33 : decode cX8_isTiedWith 33 = .ok (.aload_n 1, 1) := dk_43 (dk_at dksX8_isTiedWith_1 11 rfl rfl)
theorem dX8_isTiedWith_34 : decode cX8_isTiedWith 34 = .ok (.getfield 18, 3) := dk_180 0 18 (dk_at dksX8_isTiedWith_1 12 rfl rfl)
theorem dX8_isTiedWith_37 : decode cX8_isTiedWith 37 = .ok (.if_icmp .ne 10, 3) := dk_160 0 10 (dk_at dksX8_isTiedWith_1 15 rfl rfl)
theorem dX8_isTiedWith_40 : decode cX8_isTiedWith 40 = .ok (.aload_n 0, 1) := dk_42 (dk_at dksX8_isTiedWith_1 18 rfl rfl)
theorem dX8_isTiedWith_41 : decode cX8_isTiedWith 41 = .ok (.getfield 18, 3) := dk_180 0 18 (dk_at dksX8_isTiedWith_1 19 rfl rfl)
theorem dX8_isTiedWith_44 : decode cX8_isTiedWith 44 = .ok (.goto 4, 3) := dk_167 0 4 (dk_at dksX8_isTiedWith_2 0 rfl rfl)
theorem dX8_isTiedWith_47 : decode cX8_isTiedWith 47 = .ok (.iconst 3, 1) := dk_6 (dk_at dksX8_isTiedWith_2 3 rfl rfl)
theorem dX8_isTiedWith_48 : decode cX8_isTiedWith 48 = .ok (.putfield 18, 3) := dk_181 0 18 (dk_at dksX8_isTiedWith_2 4 rfl rfl)
theorem dX8_isTiedWith_51 : decode cX8_isTiedWith 51 = .ok (.aload_n 0, 1) := dk_42 (dk_at dksX8_isTiedWith_2 7 rfl rfl)
theorem dX8_isTiedWith_52 : decode cX8_isTiedWith 52 = .ok (.aload_n 0, 1) := dk_42 (dk_at dksX8_isTiedWith_2 8 rfl rfl)
theorem dX8_isTiedWith_53 : decode cX8_isTiedWith 53 = .ok (.getfield 21, 3) := dk_180 0 21 (dk_at dksX8_isTiedWith_2 9 rfl rfl)
theorem dX8_isTiedWith_56 : decode cX8_isTiedWith 56 = .ok (.aload_n 1, 1) := dk_43 (dk_at dksX8_isTiedWith_2 12 rfl rfl)
theorem dX8_isTiedWith_57 : decode cX8_isTiedWith 57 = .ok (.getfield 21, 3) := dk_180 0 21 (dk_at dksX8_isTiedWith_2 13 rfl rfl)
theorem dX8_isTiedWith_60 : decode cX8_isTiedWith 60 = .ok (.if_icmp .ne 10, 3) := dk_160 0 10 (dk_at dksX8_isTiedWith_2 16 rfl rfl)
theorem dX8_isTiedWith_63 : decode cX8_isTiedWith 63 = .ok (.aload_n 0, 1) := dk_42 (dk_at dksX8_isTiedWith_2 19 rfl rfl)
theorem dX8_isTiedWith_64 : decode cX8_isTiedWith 64 = .ok (.getfield 21, 3) := dk_180 0 21 (dk_at dksX8_isTiedWith_2 20 rfl rfl)
theorem dX8_isTiedWith_67 : decode cX8_isTiedWith 67 = .ok (.goto 4, 3) := dk_167 0 4 (dk_at dksX8_isTiedWith_3 0 rfl rfl)
theorem dX8_isTiedWith_70 : decode cX8_isTiedWith 70 = .ok (.iconst (-1), 1) := dk_2 (dk_at dksX8_isTiedWith_3 3 rfl rfl)
theorem dX8_isTiedWith_71 : decode cX8_isTiedWith 71 = .ok (.putfield 21, 3) := dk_181 0 21 (dk_at dksX8_isTiedWith_3 4 rfl rfl)
theorem dX8_isTiedWith_74 : decode cX8_isTiedWith 74 = .ok (.return_, 1) := dk_177 (dk_at dksX8_isTiedWith_3 7 rfl rfl)
abbrev cX8_quality : ByteArray := prog_7_method_5_code
def yX8_quality : MethodName := ⟨RX8, "quality", "()I"⟩
def dkwX8_quality_1 : List UInt8 := [160, 0, 11, 42, 180, 0, 21, 2, 159, 0, 7, 4, 167, 0, 4, 3, 172]
abbrev dktX8_quality_1 : List UInt8 := dkwX8_quality_1 ++ []
def dkwX8_quality_0 : List UInt8 := [42, 180, 0, 18, 154, 0, 13, 42, 180, 0, 21, 2, 159, 0, 5, 5, 172, 42, 180, 0, 18, 6]
abbrev dktX8_quality_0 : List UInt8 := dkwX8_quality_0 ++ dktX8_quality_1
theorem dksX8_quality_0 : cX8_quality.data.toList.drop 0 = dktX8_quality_0 := by decide +kernel
theorem dksX8_quality_1 : cX8_quality.data.toList.drop 22 = dktX8_quality_1 := dk_seg dksX8_quality_0 22 rfl rfl
theorem dX8_quality_0 : decode cX8_quality 0 = .ok (.aload_n 0, 1) := dk_42 (dk_at dksX8_quality_0 0 rfl rfl)
theorem dX8_quality_1 : decode cX8_quality 1 = .ok (.getfield 18, 3) := dk_180 0 18 (dk_at dksX8_quality_0 1 rfl rfl)
theorem dX8_quality_4 : decode cX8_quality 4 = .ok (.ifCond .ne 13, 3) := dk_154 0 13 (dk_at dksX8_quality_0 4 rfl rfl)
theorem dX8_quality_7 : decode cX8_quality 7 = .ok (.aload_n 0, 1) := dk_42 (dk_at dksX8_quality_0 7 rfl rfl)
theorem dX8_quality_8 : decode cX8_quality 8 = .ok (.getfield 21, 3) := dk_180 0 21 (dk_at dksX8_quality_0 8 rfl rfl)
theorem dX8_quality_11 : decode cX8_quality 11 = .ok (.iconst (-1), 1) := dk_2 (dk_at dksX8_quality_0 11 rfl rfl)
theorem dX8_quality_12 : decode cX8_quality 12 = .ok (.if_icmp .eq 5, 3) := dk_159 0 5 (dk_at dksX8_quality_0 12 rfl rfl)
theorem dX8_quality_15 : decode cX8_quality 15 = .ok (.iconst 2, 1) := dk_5 (dk_at dksX8_quality_0 15 rfl rfl)
theorem dX8_quality_16 : decode cX8_quality 16 = .ok (.ireturn, 1) := dk_172 (dk_at dksX8_quality_0 16 rfl rfl)
theorem dX8_quality_17 : decode cX8_quality 17 = .ok (.aload_n 0, 1) := dk_42 (dk_at dksX8_quality_0 17 rfl rfl)
theorem dX8_quality_18 : decode cX8_quality 18 = .ok (.getfield 18, 3) := dk_180 0 18 (dk_at dksX8_quality_0 18 rfl rfl)
theorem dX8_quality_21 : decode cX8_quality 21 = .ok (.iconst 3, 1) := dk_6 (dk_at dksX8_quality_0 21 rfl rfl)
theorem dX8_quality_22 : decode cX8_quality 22 = .ok (.if_icmp .ne 11, 3) := dk_160 0 11 (dk_at dksX8_quality_1 0 rfl rfl)
theorem dX8_quality_25 : decode cX8_quality 25 = .ok (.aload_n 0, 1) := dk_42 (dk_at dksX8_quality_1 3 rfl rfl)
theorem dX8_quality_26 : decode cX8_quality 26 = .ok (.getfield 21, 3) := dk_180 0 21 (dk_at dksX8_quality_1 4 rfl rfl)
theorem dX8_quality_29 : decode cX8_quality 29 = .ok (.iconst (-1), 1) := dk_2 (dk_at dksX8_quality_1 7 rfl rfl)
theorem dX8_quality_30 : decode cX8_quality 30 = .ok (.if_icmp .eq 7, 3) := dk_159 0 7 (dk_at dksX8_quality_1 8 rfl rfl)
theorem dX8_quality_33 : decode cX8_quality 33 = .ok (.iconst 1, 1) := dk_4 (dk_at dksX8_quality_1 11 rfl rfl)
theorem dX8_quality_34 : decode cX8_quality 34 = .ok (.goto 4, 3) := dk_167 0 4 (dk_at dksX8_quality_1 12 rfl rfl)
theorem dX8_quality_37 : decode cX8_quality 37 = .ok (.iconst 0, 1) := dk_3 (dk_at dksX8_quality_1 15 rfl rfl)
theorem dX8_quality_38 : decode cX8_quality 38 = .ok (.ireturn, 1) := dk_172 (dk_at dksX8_quality_1 16 rfl rfl)
abbrev cX8_suits : ByteArray := prog_7_method_6_code
def yX8_suits : MethodName := ⟨RX8, "suits", "(I)Z"⟩
def dkwX8_suits_1 : List UInt8 := [4, 167, 0, 4, 3, 172]
abbrev dktX8_suits_1 : List UInt8 := dkwX8_suits_1 ++ []
def dkwX8_suits_0 : List UInt8 := [42, 180, 0, 15, 178, 0, 33, 27, 46, 161, 0, 19, 42, 180, 0, 9, 178, 0, 37, 27, 46, 161, 0, 7]
abbrev dktX8_suits_0 : List UInt8 := dkwX8_suits_0 ++ dktX8_suits_1
theorem dksX8_suits_0 : cX8_suits.data.toList.drop 0 = dktX8_suits_0 := by decide +kernel
theorem dksX8_suits_1 : cX8_suits.data.toList.drop 24 = dktX8_suits_1 := dk_seg dksX8_suits_0 24 rfl rfl
theorem dX8_suits_0 : decode cX8_suits 0 = .ok (.aload_n 0, 1) := dk_42 (dk_at dksX8_suits_0 0 rfl rfl)
theorem dX8_suits_1 : decode cX8_suits 1 = .ok (.getfield 15, 3) := dk_180 0 15 (dk_at dksX8_suits_0 1 rfl rfl)
theorem dX8_suits_4 : decode cX8_suits 4 = .ok (.getstatic 33, 3) := dk_178 0 33 (dk_at dksX8_suits_0 4 rfl rfl)
theorem dX8_suits_7 : decode cX8_suits 7 = .ok (.iload_n 1, 1) := dk_27 (dk_at dksX8_suits_0 7 rfl rfl)
theorem dX8_suits_8 : decode cX8_suits 8 = .ok (.iaload, 1) := dk_46 (dk_at dksX8_suits_0 8 rfl rfl)
theorem dX8_suits_9 : decode cX8_suits 9 = .ok (.if_icmp .lt 19, 3) := dk_161 0 19 (dk_at dksX8_suits_0 9 rfl rfl)
theorem dX8_suits_12 : decode cX8_suits 12 = .ok (.aload_n 0, 1) := dk_42 (dk_at dksX8_suits_0 12 rfl rfl)
theorem dX8_suits_13 : decode cX8_suits 13 = .ok (.getfield 9, 3) := dk_180 0 9 (dk_at dksX8_suits_0 13 rfl rfl)
theorem dX8_suits_16 : decode cX8_suits 16 = .ok (.getstatic 37, 3) := dk_178 0 37 (dk_at dksX8_suits_0 16 rfl rfl)
theorem dX8_suits_19 : decode cX8_suits 19 = .ok (.iload_n 1, 1) := dk_27 (dk_at dksX8_suits_0 19 rfl rfl)
theorem dX8_suits_20 : decode cX8_suits 20 = .ok (.iaload, 1) := dk_46 (dk_at dksX8_suits_0 20 rfl rfl)
theorem dX8_suits_21 : decode cX8_suits 21 = .ok (.if_icmp .lt 7, 3) := dk_161 0 7 (dk_at dksX8_suits_0 21 rfl rfl)
theorem dX8_suits_24 : decode cX8_suits 24 = .ok (.iconst 1, 1) := dk_4 (dk_at dksX8_suits_1 0 rfl rfl)
theorem dX8_suits_25 : decode cX8_suits 25 = .ok (.goto 4, 3) := dk_167 0 4 (dk_at dksX8_suits_1 1 rfl rfl)
theorem dX8_suits_28 : decode cX8_suits 28 = .ok (.iconst 0, 1) := dk_3 (dk_at dksX8_suits_1 4 rfl rfl)
theorem dX8_suits_29 : decode cX8_suits 29 = .ok (.ireturn, 1) := dk_172 (dk_at dksX8_suits_1 5 rfl rfl)
theorem q84 : (Jvm.Cond.initialized "HorsehairTrade$Hank") ∈ lw_all := lw_g (lw_at lw_m1 18 rfl) rfl
theorem q486 : (Jvm.Cond.instanceMethod ({ cls := "HorsehairTrade$Hank", name := "sign", desc := "()Ljava/lang/String;" } : Jvm.MethodName)) ∈ lw_all := lw_g (lw_at lw_m2 180 rfl) rfl
theorem q487 : (Jvm.Cond.selects "HorsehairTrade$Hank" ({ cls := "HorsehairTrade$Hank", name := "sign", desc := "()Ljava/lang/String;" } : Jvm.MethodName) ({ cls := "HorsehairTrade$Hank", name := "sign", desc := "()Ljava/lang/String;" } : Jvm.MethodName)) ∈ lw_all := lw_g (lw_at lw_m2 181 rfl) rfl
theorem q488 : (Jvm.Cond.code ({ cls := "HorsehairTrade$Hank", name := "sign", desc := "()Ljava/lang/String;" } : Jvm.MethodName) prog_7_method_7_code (1 : Nat) (Option.some (Jvm.ClassFile.FieldType.object "java/lang/String"))) ∈ lw_all := lw_g (lw_at lw_m2 182 rfl) rfl
theorem q489 : (Jvm.Cond.classLink "HorsehairTrade$Hank" (40 : Nat) "java/lang/StringBuilder") ∈ lw_all := lw_g (lw_at lw_m2 183 rfl) rfl
theorem q490 : (Jvm.Cond.methodLink "HorsehairTrade$Hank" (42 : Nat) ({ cls := "java/lang/StringBuilder", name := "<init>", desc := "()V" } : Jvm.MethodName)) ∈ lw_all := lw_g (lw_at lw_m2 184 rfl) rfl
theorem q491 : (Jvm.Cond.stringRef "HorsehairTrade$Hank" (43 : Nat) "wbrm") ∈ lw_tbl := lw_at lw_m2 185 rfl
theorem q492 : (Jvm.Cond.methodLink "HorsehairTrade$Hank" (45 : Nat) ({ cls := "java/lang/String", name := "charAt", desc := "(I)C" } : Jvm.MethodName)) ∈ lw_all := lw_g (lw_at lw_m2 186 rfl) rfl
theorem q517 : (Jvm.Cond.methodLink "HorsehairTrade$Hank" (51 : Nat) ({ cls := "java/lang/StringBuilder", name := "append", desc := "(C)Ljava/lang/StringBuilder;" } : Jvm.MethodName)) ∈ lw_all := lw_g (lw_at lw_m2 211 rfl) rfl
theorem q530 : (Jvm.Cond.stringRef "HorsehairTrade$Hank" (55 : Nat) "") ∈ lw_tbl := lw_at lw_m2 224 rfl
theorem q531 : (Jvm.Cond.methodLink "HorsehairTrade$Hank" (57 : Nat) ({ cls := "java/lang/StringBuilder", name := "append", desc := "(Ljava/lang/String;)Ljava/lang/StringBuilder;" } : Jvm.MethodName)) ∈ lw_all := lw_g (lw_at lw_m2 225 rfl) rfl
theorem q532 : (Jvm.Cond.methodLink "HorsehairTrade$Hank" (60 : Nat) ({ cls := "java/lang/StringBuilder", name := "append", desc := "(I)Ljava/lang/StringBuilder;" } : Jvm.MethodName)) ∈ lw_all := lw_g (lw_at lw_m2 226 rfl) rfl
theorem q557 : (Jvm.Cond.stringRef "HorsehairTrade$Hank" (63 : Nat) "/") ∈ lw_tbl := lw_at lw_m3 11 rfl
theorem q558 : (Jvm.Cond.stringRef "HorsehairTrade$Hank" (65 : Nat) "*") ∈ lw_tbl := lw_at lw_m3 12 rfl
theorem q559 : (Jvm.Cond.methodLink "HorsehairTrade$Hank" (67 : Nat) ({ cls := "java/lang/StringBuilder", name := "toString", desc := "()Ljava/lang/String;" } : Jvm.MethodName)) ∈ lw_all := lw_g (lw_at lw_m3 13 rfl) rfl
theorem q725 : (Jvm.Cond.castable "HorsehairTrade$Hank" "HorsehairTrade$Haired") ∈ lw_tbl := lw_at lw_m3 179 rfl
theorem q726 : (Jvm.Cond.selects "HorsehairTrade$Hank" ({ cls := "HorsehairTrade$Haired", name := "hairs", desc := "()I" } : Jvm.MethodName) ({ cls := "HorsehairTrade$Hank", name := "hairs", desc := "()I" } : Jvm.MethodName)) ∈ lw_all := lw_g (lw_at lw_m3 180 rfl) rfl
theorem q727 : (Jvm.Cond.unhidden "HorsehairTrade$Hank" "hairs" "()I") ∈ lw_tbl := lw_at lw_m3 181 rfl
theorem q728 : (Jvm.Cond.instanceMethod ({ cls := "HorsehairTrade$Hank", name := "hairs", desc := "()I" } : Jvm.MethodName)) ∈ lw_all := lw_g (lw_at lw_m3 182 rfl) rfl
theorem q729 : (Jvm.Cond.publicMethod ({ cls := "HorsehairTrade$Hank", name := "hairs", desc := "()I" } : Jvm.MethodName)) ∈ lw_tbl := lw_at lw_m3 183 rfl
theorem q730 : (Jvm.Cond.code ({ cls := "HorsehairTrade$Hank", name := "hairs", desc := "()I" } : Jvm.MethodName) prog_7_method_3_code (1 : Nat) (Option.some Jvm.ClassFile.FieldType.int)) ∈ lw_all := lw_g (lw_at lw_m3 184 rfl) rfl
theorem q852 : (Jvm.Cond.castable "HorsehairTrade$Hank" "HorsehairTrade$Copied") ∈ lw_tbl := lw_at lw_m4 66 rfl
theorem q853 : (Jvm.Cond.selects "HorsehairTrade$Hank" ({ cls := "HorsehairTrade$Copied", name := "copy", desc := "()Ljava/lang/Object;" } : Jvm.MethodName) ({ cls := "HorsehairTrade$Hank", name := "copy", desc := "()Ljava/lang/Object;" } : Jvm.MethodName)) ∈ lw_all := lw_g (lw_at lw_m4 67 rfl) rfl
theorem q854 : (Jvm.Cond.unhidden "HorsehairTrade$Hank" "copy" "()Ljava/lang/Object;") ∈ lw_tbl := lw_at lw_m4 68 rfl
theorem q855 : (Jvm.Cond.instanceMethod ({ cls := "HorsehairTrade$Hank", name := "copy", desc := "()Ljava/lang/Object;" } : Jvm.MethodName)) ∈ lw_all := lw_g (lw_at lw_m4 69 rfl) rfl
theorem q856 : (Jvm.Cond.publicMethod ({ cls := "HorsehairTrade$Hank", name := "copy", desc := "()Ljava/lang/Object;" } : Jvm.MethodName)) ∈ lw_tbl := lw_at lw_m4 70 rfl
theorem q857 : (Jvm.Cond.code ({ cls := "HorsehairTrade$Hank", name := "copy", desc := "()Ljava/lang/Object;" } : Jvm.MethodName) prog_7_method_8_code (1 : Nat) (Option.some (Jvm.ClassFile.FieldType.object "java/lang/Object"))) ∈ lw_all := lw_g (lw_at lw_m4 71 rfl) rfl
theorem q858 : (Jvm.Cond.methodLink "HorsehairTrade$Hank" (71 : Nat) ({ cls := "HorsehairTrade$Hank", name := "copy", desc := "()LHorsehairTrade$Hank;" } : Jvm.MethodName)) ∈ lw_all := lw_g (lw_at lw_m4 72 rfl) rfl
theorem q859 : (Jvm.Cond.instanceMethod ({ cls := "HorsehairTrade$Hank", name := "copy", desc := "()LHorsehairTrade$Hank;" } : Jvm.MethodName)) ∈ lw_all := lw_g (lw_at lw_m4 73 rfl) rfl
theorem q860 : (Jvm.Cond.selects "HorsehairTrade$Hank" ({ cls := "HorsehairTrade$Hank", name := "copy", desc := "()LHorsehairTrade$Hank;" } : Jvm.MethodName) ({ cls := "HorsehairTrade$Hank", name := "copy", desc := "()LHorsehairTrade$Hank;" } : Jvm.MethodName)) ∈ lw_all := lw_g (lw_at lw_m4 74 rfl) rfl
theorem q861 : (Jvm.Cond.code ({ cls := "HorsehairTrade$Hank", name := "copy", desc := "()LHorsehairTrade$Hank;" } : Jvm.MethodName) prog_7_method_2_code (1 : Nat) (Option.some (Jvm.ClassFile.FieldType.object "HorsehairTrade$Hank"))) ∈ lw_all := lw_g (lw_at lw_m4 75 rfl) rfl
theorem q862 : (Jvm.Cond.classLink "HorsehairTrade$Hank" (10 : Nat) "HorsehairTrade$Hank") ∈ lw_all := lw_g (lw_at lw_m4 76 rfl) rfl
theorem q863 : (Jvm.Cond.instantiable "HorsehairTrade$Hank" (4 : Nat)) ∈ lw_all := lw_g (lw_at lw_m4 77 rfl) rfl
theorem q864 : (Jvm.Cond.methodLink "HorsehairTrade$Hank" (24 : Nat) ({ cls := "HorsehairTrade$Hank", name := "<init>", desc := "(IIII)V" } : Jvm.MethodName)) ∈ lw_all := lw_g (lw_at lw_m4 78 rfl) rfl
theorem q865 : (Jvm.Cond.instanceMethod ({ cls := "HorsehairTrade$Hank", name := "<init>", desc := "(IIII)V" } : Jvm.MethodName)) ∈ lw_all := lw_g (lw_at lw_m4 79 rfl) rfl
theorem q866 : (Jvm.Cond.code ({ cls := "HorsehairTrade$Hank", name := "<init>", desc := "(IIII)V" } : Jvm.MethodName) prog_7_method_1_code (5 : Nat) (Option.none : Option Jvm.ClassFile.FieldType)) ∈ lw_all := lw_g (lw_at lw_m4 80 rfl) rfl
theorem q867 : (Jvm.Cond.methodLink "HorsehairTrade$Hank" (3 : Nat) ({ cls := "java/lang/Object", name := "<init>", desc := "()V" } : Jvm.MethodName)) ∈ lw_all := lw_g (lw_at lw_m4 81 rfl) rfl
theorem q868 : (Jvm.Cond.fieldLink "HorsehairTrade$Hank" (9 : Nat) "HorsehairTrade$Hank" "hairs" "I") ∈ lw_all := lw_g (lw_at lw_m4 82 rfl) rfl
theorem q871 : (Jvm.Cond.fieldLink "HorsehairTrade$Hank" (15 : Nat) "HorsehairTrade$Hank" "length" "I") ∈ lw_all := lw_g (lw_at lw_m4 85 rfl) rfl
theorem q874 : (Jvm.Cond.fieldLink "HorsehairTrade$Hank" (18 : Nat) "HorsehairTrade$Hank" "colour" "I") ∈ lw_all := lw_g (lw_at lw_m4 88 rfl) rfl
theorem q876 : (Jvm.Cond.fieldLink "HorsehairTrade$Hank" (21 : Nat) "HorsehairTrade$Hank" "tail" "I") ∈ lw_all := lw_g (lw_at lw_m4 90 rfl) rfl
theorem q879 : (Jvm.Cond.lays "HorsehairTrade$Hank" "HorsehairTrade$Hank" "hairs" "I") ∈ lw_all := lw_g (lw_at lw_m4 93 rfl) rfl
theorem q880 : (Jvm.Cond.soleField "HorsehairTrade$Hank" "hairs") ∈ lw_all := lw_g (lw_at lw_m4 94 rfl) rfl
theorem q881 : (Jvm.Cond.lays "HorsehairTrade$Hank" "HorsehairTrade$Hank" "length" "I") ∈ lw_all := lw_g (lw_at lw_m4 95 rfl) rfl
theorem q882 : (Jvm.Cond.soleField "HorsehairTrade$Hank" "length") ∈ lw_all := lw_g (lw_at lw_m4 96 rfl) rfl
theorem q883 : (Jvm.Cond.lays "HorsehairTrade$Hank" "HorsehairTrade$Hank" "colour" "I") ∈ lw_all := lw_g (lw_at lw_m4 97 rfl) rfl
theorem q884 : (Jvm.Cond.soleField "HorsehairTrade$Hank" "colour") ∈ lw_all := lw_g (lw_at lw_m4 98 rfl) rfl
theorem q885 : (Jvm.Cond.lays "HorsehairTrade$Hank" "HorsehairTrade$Hank" "tail" "I") ∈ lw_all := lw_g (lw_at lw_m4 99 rfl) rfl
theorem q886 : (Jvm.Cond.soleField "HorsehairTrade$Hank" "tail") ∈ lw_all := lw_g (lw_at lw_m4 100 rfl) rfl
theorem q887 : (Jvm.Cond.superclass "HorsehairTrade$Hank" "java/lang/Object") ∈ lw_all := lw_g (lw_at lw_m4 101 rfl) rfl
theorem q955 : (Jvm.Cond.selects "HorsehairTrade$Hank" ({ cls := "java/lang/Object", name := "getClass", desc := "()Ljava/lang/Class;" } : Jvm.MethodName) ({ cls := "java/lang/Object", name := "getClass", desc := "()Ljava/lang/Class;" } : Jvm.MethodName)) ∈ lw_all := lw_g (lw_at lw_m4 169 rfl) rfl
theorem q1165 : (Jvm.Cond.instanceMethod ({ cls := "HorsehairTrade$Hank", name := "isTiedWith", desc := "(LHorsehairTrade$Hank;)V" } : Jvm.MethodName)) ∈ lw_all := lw_g (lw_at lw_m5 139 rfl) rfl
theorem q1166 : (Jvm.Cond.selects "HorsehairTrade$Hank" ({ cls := "HorsehairTrade$Hank", name := "isTiedWith", desc := "(LHorsehairTrade$Hank;)V" } : Jvm.MethodName) ({ cls := "HorsehairTrade$Hank", name := "isTiedWith", desc := "(LHorsehairTrade$Hank;)V" } : Jvm.MethodName)) ∈ lw_all := lw_g (lw_at lw_m5 140 rfl) rfl
theorem q1167 : (Jvm.Cond.code ({ cls := "HorsehairTrade$Hank", name := "isTiedWith", desc := "(LHorsehairTrade$Hank;)V" } : Jvm.MethodName) prog_7_method_4_code (2 : Nat) (Option.none : Option Jvm.ClassFile.FieldType)) ∈ lw_all := lw_g (lw_at lw_m5 141 rfl) rfl
theorem q1168 : (Jvm.Cond.methodLink "HorsehairTrade$Hank" (27 : Nat) ({ cls := "java/lang/Math", name := "min", desc := "(II)I" } : Jvm.MethodName)) ∈ lw_all := lw_g (lw_at lw_m5 142 rfl) rfl
theorem q1210 : (Jvm.Cond.instanceMethod ({ cls := "HorsehairTrade$Hank", name := "quality", desc := "()I" } : Jvm.MethodName)) ∈ lw_all := lw_g (lw_at lw_m5 184 rfl) rfl
theorem q1211 : (Jvm.Cond.selects "HorsehairTrade$Hank" ({ cls := "HorsehairTrade$Hank", name := "quality", desc := "()I" } : Jvm.MethodName) ({ cls := "HorsehairTrade$Hank", name := "quality", desc := "()I" } : Jvm.MethodName)) ∈ lw_all := lw_g (lw_at lw_m5 185 rfl) rfl
theorem q1212 : (Jvm.Cond.code ({ cls := "HorsehairTrade$Hank", name := "quality", desc := "()I" } : Jvm.MethodName) prog_7_method_5_code (1 : Nat) (Option.some Jvm.ClassFile.FieldType.int)) ∈ lw_all := lw_g (lw_at lw_m5 186 rfl) rfl
theorem q1571 : (Jvm.Cond.instanceMethod ({ cls := "HorsehairTrade$Hank", name := "suits", desc := "(I)Z" } : Jvm.MethodName)) ∈ lw_all := lw_g (lw_at lw_m7 65 rfl) rfl
theorem q1572 : (Jvm.Cond.selects "HorsehairTrade$Hank" ({ cls := "HorsehairTrade$Hank", name := "suits", desc := "(I)Z" } : Jvm.MethodName) ({ cls := "HorsehairTrade$Hank", name := "suits", desc := "(I)Z" } : Jvm.MethodName)) ∈ lw_all := lw_g (lw_at lw_m7 66 rfl) rfl
theorem q1573 : (Jvm.Cond.code ({ cls := "HorsehairTrade$Hank", name := "suits", desc := "(I)Z" } : Jvm.MethodName) prog_7_method_6_code (2 : Nat) (Option.some Jvm.ClassFile.FieldType.boolean)) ∈ lw_all := lw_g (lw_at lw_m7 67 rfl) rfl
theorem q1574 : (Jvm.Cond.fieldLinkNest "HorsehairTrade$Hank" (33 : Nat) "HorsehairTrade" "LENGTHS" "[I" "HorsehairTrade") ∈ lw_tbl := lw_at lw_m7 68 rfl
theorem q1575 : (Jvm.Cond.fieldLinkNest "HorsehairTrade$Hank" (37 : Nat) "HorsehairTrade" "NEEDED" "[I" "HorsehairTrade") ∈ lw_tbl := lw_at lw_m7 69 rfl
theorem q2779 : (Jvm.Cond.castable "HorsehairTrade$Hank" "java/lang/Object") ∈ lw_tbl := lw_at lw_m12 73 rfl
theorem in_X8 : ∀ w ∈ wsX80, w ∈ lw_all := lw_in wsX80 [879, 881, 883, 885] (by decide +kernel) (by decide +kernel)
/-! HorsehairTrade$Tail -/
set_option maxRecDepth 100000
def RX9 : String := "HorsehairTrade$Tail"
def TX9 : u_T := fun k => match k with
  | 0 => ("HorsehairTrade$Tail", "colour", "I", true)
  | 1 => ("HorsehairTrade$Tail", "length", "I", true)
  | 2 => ("HorsehairTrade$Tail", "hairs", "I", false)
  | _ => ("HorsehairTrade$Tail", "hanks", "I", false)
def tyX9 : Nat → FieldType := fun k => match k with
  | 0 => .int
  | 1 => .int
  | 2 => .int
  | _ => .int
abbrev wsX90 : List Cond := u_ws RX9 TX9 4
theorem nmX9 : ∀ a, a < 4 → ∀ b, b < 4 → a ≠ b → (TX9 a).2.1 ≠ (TX9 b).2.1 := by decide +kernel
theorem tyX9_ok : ∀ k, k < 4 → parseFieldDescriptor (TX9 k).2.2.1 = some (tyX9 k) := by decide +kernel
abbrev cX9_hairs : ByteArray := prog_12_method_3_code
def yX9_hairs : MethodName := ⟨RX9, "hairs", "()I"⟩
theorem dX9_hairs_0 : decode cX9_hairs 0 = .ok (.aload_n 0, 1) := by decide +kernel
theorem dX9_hairs_1 : decode cX9_hairs 1 = .ok (.getfield 16, 3) := by decide +kernel
theorem dX9_hairs_4 : decode cX9_hairs 4 = .ok (.ireturn, 1) := by decide +kernel
abbrev cX9_copy : ByteArray := prog_12_method_5_code
def yX9_copy : MethodName := ⟨RX9, "copy", "()Ljava/lang/Object;"⟩
theorem dX9_copy_0 : decode cX9_copy 0 = .ok (.aload_n 0, 1) := by decide +kernel
theorem dX9_copy_1 : decode cX9_copy 1 = .ok (.invokevirtual 31, 3) := by decide +kernel
theorem dX9_copy_4 : decode cX9_copy 4 = .ok (.areturn, 1) := by decide +kernel
abbrev cX9_copy_2 : ByteArray := prog_12_method_2_code
def yX9_copy_2 : MethodName := ⟨RX9, "copy", "()LHorsehairTrade$Tail;"⟩
def dkwX9_copy_2_1 : List UInt8 := [180, 0, 22, 181, 0, 22, 43, 176]
abbrev dktX9_copy_2_1 : List UInt8 := dkwX9_copy_2_1 ++ []
def dkwX9_copy_2_0 : List UInt8 := [187, 0, 8, 89, 42, 180, 0, 7, 42, 180, 0, 13, 42, 180, 0, 16, 183, 0, 19, 76, 43, 42]
abbrev dktX9_copy_2_0 : List UInt8 := dkwX9_copy_2_0 ++ dktX9_copy_2_1
theorem dksX9_copy_2_0 : cX9_copy_2.data.toList.drop 0 = dktX9_copy_2_0 := by decide +kernel
theorem dksX9_copy_2_1 : cX9_copy_2.data.toList.drop 22 = dktX9_copy_2_1 := dk_seg dksX9_copy_2_0 22 rfl rfl
theorem dX9_copy_2_0 : decode cX9_copy_2 0 = .ok (.new 8, 3) := dk_187 0 8 (dk_at dksX9_copy_2_0 0 rfl rfl)
theorem dX9_copy_2_3 : decode cX9_copy_2 3 = .ok (.dup, 1) := dk_89 (dk_at dksX9_copy_2_0 3 rfl rfl)
theorem dX9_copy_2_4 : decode cX9_copy_2 4 = .ok (.aload_n 0, 1) := dk_42 (dk_at dksX9_copy_2_0 4 rfl rfl)
theorem dX9_copy_2_5 : decode cX9_copy_2 5 = .ok (.getfield 7, 3) := dk_180 0 7 (dk_at dksX9_copy_2_0 5 rfl rfl)
theorem dX9_copy_2_8 : decode cX9_copy_2 8 = .ok (.aload_n 0, 1) := dk_42 (dk_at dksX9_copy_2_0 8 rfl rfl)
theorem dX9_copy_2_9 : decode cX9_copy_2 9 = .ok (.getfield 13, 3) := dk_180 0 13 (dk_at dksX9_copy_2_0 9 rfl rfl)
theorem dX9_copy_2_12 : decode cX9_copy_2 12 = .ok (.aload_n 0, 1) := dk_42 (dk_at dksX9_copy_2_0 12 rfl rfl)
theorem dX9_copy_2_13 : decode cX9_copy_2 13 = .ok (.getfield 16, 3) := dk_180 0 16 (dk_at dksX9_copy_2_0 13 rfl rfl)
theorem dX9_copy_2_16 : decode cX9_copy_2 16 = .ok (.invokespecial 19, 3) := dk_183 0 19 (dk_at dksX9_copy_2_0 16 rfl rfl)
theorem dX9_copy_2_19 : decode cX9_copy_2 19 = .ok (.astore_n 1, 1) := dk_76 (dk_at dksX9_copy_2_0 19 rfl rfl)
theorem dX9_copy_2_20 : decode cX9_copy_2 20 = .ok (.aload_n 1, 1) := dk_43 (dk_at dksX9_copy_2_0 20 rfl rfl)
theorem dX9_copy_2_21 : decode cX9_copy_2 21 = .ok (.aload_n 0, 1) := dk_42 (dk_at dksX9_copy_2_0 21 rfl rfl)
theorem dX9_copy_2_22 : decode cX9_copy_2 22 = .ok (.getfield 22, 3) := dk_180 0 22 (dk_at dksX9_copy_2_1 0 rfl rfl)
theorem dX9_copy_2_25 : decode cX9_copy_2 25 = .ok (.putfield 22, 3) := dk_181 0 22 (dk_at dksX9_copy_2_1 3 rfl rfl)
theorem dX9_copy_2_28 : decode cX9_copy_2 28 = .ok (.aload_n 1, 1) := dk_43 (dk_at dksX9_copy_2_1 6 rfl rfl)
theorem dX9_copy_2_29 : decode cX9_copy_2 29 = .ok (.areturn, 1) := dk_176 (dk_at dksX9_copy_2_1 7 rfl rfl)
abbrev cX9_init : ByteArray := prog_12_method_1_code
def yX9_init : MethodName := ⟨RX9, "<init>", "(III)V"⟩
def dkwX9_init_0 : List UInt8 := [42, 183, 0, 1, 42, 27, 181, 0, 7, 42, 28, 181, 0, 13, 42, 29, 181, 0, 16, 177]
abbrev dktX9_init_0 : List UInt8 := dkwX9_init_0 ++ []
theorem dksX9_init_0 : cX9_init.data.toList.drop 0 = dktX9_init_0 := by decide +kernel
theorem dX9_init_0 : decode cX9_init 0 = .ok (.aload_n 0, 1) := dk_42 (dk_at dksX9_init_0 0 rfl rfl)
theorem dX9_init_1 : decode cX9_init 1 = .ok (.invokespecial 1, 3) := dk_183 0 1 (dk_at dksX9_init_0 1 rfl rfl)
theorem dX9_init_4 : decode cX9_init 4 = .ok (.aload_n 0, 1) := dk_42 (dk_at dksX9_init_0 4 rfl rfl)
theorem dX9_init_5 : decode cX9_init 5 = .ok (.iload_n 1, 1) := dk_27 (dk_at dksX9_init_0 5 rfl rfl)
theorem dX9_init_6 : decode cX9_init 6 = .ok (.putfield 7, 3) := dk_181 0 7 (dk_at dksX9_init_0 6 rfl rfl)
theorem dX9_init_9 : decode cX9_init 9 = .ok (.aload_n 0, 1) := dk_42 (dk_at dksX9_init_0 9 rfl rfl)
theorem dX9_init_10 : decode cX9_init 10 = .ok (.iload_n 2, 1) := dk_28 (dk_at dksX9_init_0 10 rfl rfl)
theorem dX9_init_11 : decode cX9_init 11 = .ok (.putfield 13, 3) := dk_181 0 13 (dk_at dksX9_init_0 11 rfl rfl)
theorem dX9_init_14 : decode cX9_init 14 = .ok (.aload_n 0, 1) := dk_42 (dk_at dksX9_init_0 14 rfl rfl)
theorem dX9_init_15 : decode cX9_init 15 = .ok (.iload_n 3, 1) := dk_29 (dk_at dksX9_init_0 15 rfl rfl)
theorem dX9_init_16 : decode cX9_init 16 = .ok (.putfield 16, 3) := dk_181 0 16 (dk_at dksX9_init_0 16 rfl rfl)
theorem dX9_init_19 : decode cX9_init 19 = .ok (.return_, 1) := dk_177 (dk_at dksX9_init_0 19 rfl rfl)
abbrev cX9_nextLength : ByteArray := prog_12_method_4_code
def yX9_nextLength : MethodName := ⟨RX9, "nextLength", "()I"⟩
def dkwX9_nextLength_0 : List UInt8 := [4, 42, 180, 0, 13, 5, 42, 180, 0, 22, 104, 100, 184, 0, 25, 172]
abbrev dktX9_nextLength_0 : List UInt8 := dkwX9_nextLength_0 ++ []
theorem dksX9_nextLength_0 : cX9_nextLength.data.toList.drop 0 = dktX9_nextLength_0 := by decide +kernel
theorem dX9_nextLength_0 : decode cX9_nextLength 0 = .ok (.iconst 1, 1) := dk_4 (dk_at dksX9_nextLength_0 0 rfl rfl)
theorem dX9_nextLength_1 : decode cX9_nextLength 1 = .ok (.aload_n 0, 1) := dk_42 (dk_at dksX9_nextLength_0 1 rfl rfl)
theorem dX9_nextLength_2 : decode cX9_nextLength 2 = .ok (.getfield 13, 3) := dk_180 0 13 (dk_at dksX9_nextLength_0 2 rfl rfl)
theorem dX9_nextLength_5 : decode cX9_nextLength 5 = .ok (.iconst 2, 1) := dk_5 (dk_at dksX9_nextLength_0 5 rfl rfl)
theorem dX9_nextLength_6 : decode cX9_nextLength 6 = .ok (.aload_n 0, 1) := dk_42 (dk_at dksX9_nextLength_0 6 rfl rfl)
theorem dX9_nextLength_7 : decode cX9_nextLength 7 = .ok (.getfield 22, 3) := dk_180 0 22 (dk_at dksX9_nextLength_0 7 rfl rfl)
theorem dX9_nextLength_10 : decode cX9_nextLength 10 = .ok (.imul, 1) := dk_104 (dk_at dksX9_nextLength_0 10 rfl rfl)
theorem dX9_nextLength_11 : decode cX9_nextLength 11 = .ok (.isub, 1) := dk_100 (dk_at dksX9_nextLength_0 11 rfl rfl)
theorem dX9_nextLength_12 : decode cX9_nextLength 12 = .ok (.invokestatic 25, 3) := dk_184 0 25 (dk_at dksX9_nextLength_0 12 rfl rfl)
theorem dX9_nextLength_15 : decode cX9_nextLength 15 = .ok (.ireturn, 1) := dk_172 (dk_at dksX9_nextLength_0 15 rfl rfl)
theorem q85 : (Jvm.Cond.initialized "HorsehairTrade$Tail") ∈ lw_all := lw_g (lw_at lw_m1 19 rfl) rfl
theorem q731 : (Jvm.Cond.castable "HorsehairTrade$Tail" "HorsehairTrade$Haired") ∈ lw_tbl := lw_at lw_m3 185 rfl
theorem q732 : (Jvm.Cond.selects "HorsehairTrade$Tail" ({ cls := "HorsehairTrade$Haired", name := "hairs", desc := "()I" } : Jvm.MethodName) ({ cls := "HorsehairTrade$Tail", name := "hairs", desc := "()I" } : Jvm.MethodName)) ∈ lw_all := lw_g (lw_at lw_m3 186 rfl) rfl
theorem q733 : (Jvm.Cond.unhidden "HorsehairTrade$Tail" "hairs" "()I") ∈ lw_tbl := lw_at lw_m3 187 rfl
theorem q734 : (Jvm.Cond.instanceMethod ({ cls := "HorsehairTrade$Tail", name := "hairs", desc := "()I" } : Jvm.MethodName)) ∈ lw_all := lw_g (lw_at lw_m3 188 rfl) rfl
theorem q735 : (Jvm.Cond.publicMethod ({ cls := "HorsehairTrade$Tail", name := "hairs", desc := "()I" } : Jvm.MethodName)) ∈ lw_tbl := lw_at lw_m3 189 rfl
theorem q736 : (Jvm.Cond.code ({ cls := "HorsehairTrade$Tail", name := "hairs", desc := "()I" } : Jvm.MethodName) prog_12_method_3_code (1 : Nat) (Option.some Jvm.ClassFile.FieldType.int)) ∈ lw_all := lw_g (lw_at lw_m3 190 rfl) rfl
theorem q888 : (Jvm.Cond.castable "HorsehairTrade$Tail" "HorsehairTrade$Copied") ∈ lw_tbl := lw_at lw_m4 102 rfl
theorem q889 : (Jvm.Cond.selects "HorsehairTrade$Tail" ({ cls := "HorsehairTrade$Copied", name := "copy", desc := "()Ljava/lang/Object;" } : Jvm.MethodName) ({ cls := "HorsehairTrade$Tail", name := "copy", desc := "()Ljava/lang/Object;" } : Jvm.MethodName)) ∈ lw_all := lw_g (lw_at lw_m4 103 rfl) rfl
theorem q890 : (Jvm.Cond.unhidden "HorsehairTrade$Tail" "copy" "()Ljava/lang/Object;") ∈ lw_tbl := lw_at lw_m4 104 rfl
theorem q891 : (Jvm.Cond.instanceMethod ({ cls := "HorsehairTrade$Tail", name := "copy", desc := "()Ljava/lang/Object;" } : Jvm.MethodName)) ∈ lw_all := lw_g (lw_at lw_m4 105 rfl) rfl
theorem q892 : (Jvm.Cond.publicMethod ({ cls := "HorsehairTrade$Tail", name := "copy", desc := "()Ljava/lang/Object;" } : Jvm.MethodName)) ∈ lw_tbl := lw_at lw_m4 106 rfl
theorem q893 : (Jvm.Cond.code ({ cls := "HorsehairTrade$Tail", name := "copy", desc := "()Ljava/lang/Object;" } : Jvm.MethodName) prog_12_method_5_code (1 : Nat) (Option.some (Jvm.ClassFile.FieldType.object "java/lang/Object"))) ∈ lw_all := lw_g (lw_at lw_m4 107 rfl) rfl
theorem q894 : (Jvm.Cond.methodLink "HorsehairTrade$Tail" (31 : Nat) ({ cls := "HorsehairTrade$Tail", name := "copy", desc := "()LHorsehairTrade$Tail;" } : Jvm.MethodName)) ∈ lw_all := lw_g (lw_at lw_m4 108 rfl) rfl
theorem q895 : (Jvm.Cond.instanceMethod ({ cls := "HorsehairTrade$Tail", name := "copy", desc := "()LHorsehairTrade$Tail;" } : Jvm.MethodName)) ∈ lw_all := lw_g (lw_at lw_m4 109 rfl) rfl
theorem q896 : (Jvm.Cond.selects "HorsehairTrade$Tail" ({ cls := "HorsehairTrade$Tail", name := "copy", desc := "()LHorsehairTrade$Tail;" } : Jvm.MethodName) ({ cls := "HorsehairTrade$Tail", name := "copy", desc := "()LHorsehairTrade$Tail;" } : Jvm.MethodName)) ∈ lw_all := lw_g (lw_at lw_m4 110 rfl) rfl
theorem q897 : (Jvm.Cond.code ({ cls := "HorsehairTrade$Tail", name := "copy", desc := "()LHorsehairTrade$Tail;" } : Jvm.MethodName) prog_12_method_2_code (2 : Nat) (Option.some (Jvm.ClassFile.FieldType.object "HorsehairTrade$Tail"))) ∈ lw_all := lw_g (lw_at lw_m4 111 rfl) rfl
theorem q898 : (Jvm.Cond.classLink "HorsehairTrade$Tail" (8 : Nat) "HorsehairTrade$Tail") ∈ lw_all := lw_g (lw_at lw_m4 112 rfl) rfl
theorem q899 : (Jvm.Cond.instantiable "HorsehairTrade$Tail" (4 : Nat)) ∈ lw_all := lw_g (lw_at lw_m4 113 rfl) rfl
theorem q900 : (Jvm.Cond.methodLink "HorsehairTrade$Tail" (19 : Nat) ({ cls := "HorsehairTrade$Tail", name := "<init>", desc := "(III)V" } : Jvm.MethodName)) ∈ lw_all := lw_g (lw_at lw_m4 114 rfl) rfl
theorem q901 : (Jvm.Cond.instanceMethod ({ cls := "HorsehairTrade$Tail", name := "<init>", desc := "(III)V" } : Jvm.MethodName)) ∈ lw_all := lw_g (lw_at lw_m4 115 rfl) rfl
theorem q902 : (Jvm.Cond.code ({ cls := "HorsehairTrade$Tail", name := "<init>", desc := "(III)V" } : Jvm.MethodName) prog_12_method_1_code (4 : Nat) (Option.none : Option Jvm.ClassFile.FieldType)) ∈ lw_all := lw_g (lw_at lw_m4 116 rfl) rfl
theorem q903 : (Jvm.Cond.methodLink "HorsehairTrade$Tail" (1 : Nat) ({ cls := "java/lang/Object", name := "<init>", desc := "()V" } : Jvm.MethodName)) ∈ lw_all := lw_g (lw_at lw_m4 117 rfl) rfl
theorem q904 : (Jvm.Cond.fieldLink "HorsehairTrade$Tail" (7 : Nat) "HorsehairTrade$Tail" "colour" "I") ∈ lw_all := lw_g (lw_at lw_m4 118 rfl) rfl
theorem q907 : (Jvm.Cond.fieldLink "HorsehairTrade$Tail" (13 : Nat) "HorsehairTrade$Tail" "length" "I") ∈ lw_all := lw_g (lw_at lw_m4 121 rfl) rfl
theorem q909 : (Jvm.Cond.fieldLink "HorsehairTrade$Tail" (16 : Nat) "HorsehairTrade$Tail" "hairs" "I") ∈ lw_all := lw_g (lw_at lw_m4 123 rfl) rfl
theorem q912 : (Jvm.Cond.fieldLink "HorsehairTrade$Tail" (22 : Nat) "HorsehairTrade$Tail" "hanks" "I") ∈ lw_all := lw_g (lw_at lw_m4 126 rfl) rfl
theorem q915 : (Jvm.Cond.laysFinal "HorsehairTrade$Tail" "HorsehairTrade$Tail" "colour" "I") ∈ lw_all := lw_g (lw_at lw_m4 129 rfl) rfl
theorem q916 : (Jvm.Cond.soleField "HorsehairTrade$Tail" "colour") ∈ lw_all := lw_g (lw_at lw_m4 130 rfl) rfl
theorem q917 : (Jvm.Cond.laysFinal "HorsehairTrade$Tail" "HorsehairTrade$Tail" "length" "I") ∈ lw_all := lw_g (lw_at lw_m4 131 rfl) rfl
theorem q918 : (Jvm.Cond.soleField "HorsehairTrade$Tail" "length") ∈ lw_all := lw_g (lw_at lw_m4 132 rfl) rfl
theorem q919 : (Jvm.Cond.lays "HorsehairTrade$Tail" "HorsehairTrade$Tail" "hairs" "I") ∈ lw_all := lw_g (lw_at lw_m4 133 rfl) rfl
theorem q920 : (Jvm.Cond.soleField "HorsehairTrade$Tail" "hairs") ∈ lw_all := lw_g (lw_at lw_m4 134 rfl) rfl
theorem q921 : (Jvm.Cond.lays "HorsehairTrade$Tail" "HorsehairTrade$Tail" "hanks" "I") ∈ lw_all := lw_g (lw_at lw_m4 135 rfl) rfl
theorem q922 : (Jvm.Cond.soleField "HorsehairTrade$Tail" "hanks") ∈ lw_all := lw_g (lw_at lw_m4 136 rfl) rfl
theorem q923 : (Jvm.Cond.superclass "HorsehairTrade$Tail" "java/lang/Object") ∈ lw_all := lw_g (lw_at lw_m4 137 rfl) rfl
theorem q960 : (Jvm.Cond.selects "HorsehairTrade$Tail" ({ cls := "java/lang/Object", name := "getClass", desc := "()Ljava/lang/Class;" } : Jvm.MethodName) ({ cls := "java/lang/Object", name := "getClass", desc := "()Ljava/lang/Class;" } : Jvm.MethodName)) ∈ lw_all := lw_g (lw_at lw_m4 174 rfl) rfl
theorem q1151 : (Jvm.Cond.instanceMethod ({ cls := "HorsehairTrade$Tail", name := "nextLength", desc := "()I" } : Jvm.MethodName)) ∈ lw_all := lw_g (lw_at lw_m5 125 rfl) rfl
theorem q1152 : (Jvm.Cond.selects "HorsehairTrade$Tail" ({ cls := "HorsehairTrade$Tail", name := "nextLength", desc := "()I" } : Jvm.MethodName) ({ cls := "HorsehairTrade$Tail", name := "nextLength", desc := "()I" } : Jvm.MethodName)) ∈ lw_all := lw_g (lw_at lw_m5 126 rfl) rfl
theorem q1153 : (Jvm.Cond.code ({ cls := "HorsehairTrade$Tail", name := "nextLength", desc := "()I" } : Jvm.MethodName) prog_12_method_4_code (1 : Nat) (Option.some Jvm.ClassFile.FieldType.int)) ∈ lw_all := lw_g (lw_at lw_m5 127 rfl) rfl
theorem q1154 : (Jvm.Cond.methodLink "HorsehairTrade$Tail" (25 : Nat) ({ cls := "java/lang/Math", name := "max", desc := "(II)I" } : Jvm.MethodName)) ∈ lw_all := lw_g (lw_at lw_m5 128 rfl) rfl
theorem q2778 : (Jvm.Cond.castable "HorsehairTrade$Tail" "java/lang/Object") ∈ lw_tbl := lw_at lw_m12 72 rfl
theorem in_X9 : ∀ w ∈ wsX90, w ∈ lw_all := lw_in wsX90 [915, 917, 919, 921] (by decide +kernel) (by decide +kernel)
/-! HorsehairTrade$Refused -/
set_option maxRecDepth 100000
def RX10 : String := "HorsehairTrade$Refused"
def TX10 : u_T := fun k => match k with
  | 0 => ("java/lang/Throwable", "cause", "Ljava/lang/Throwable;", false)
  | 1 => ("java/lang/Throwable", "stackTrace", "[Ljava/lang/StackTraceElement;", false)
  | 2 => ("java/lang/Throwable", "suppressedExceptions", "Ljava/util/List;", false)
  | 3 => ("java/lang/Throwable", "detailMessage", "Ljava/lang/String;", false)
  | 4 => ("java/lang/Throwable", "backtrace", "Ljava/lang/Object;", false)
  | 5 => ("java/lang/Throwable", "depth", "I", false)
  | 6 => ("HorsehairTrade$Refused", "reason", "I", true)
  | _ => ("HorsehairTrade$Refused", "detail", "I", true)
def tyX10 : Nat → FieldType := fun k => match k with
  | 0 => .object "java/lang/Throwable"
  | 1 => .array (.object "java/lang/StackTraceElement")
  | 2 => .object "java/util/List"
  | 3 => .object "java/lang/String"
  | 4 => .object "java/lang/Object"
  | 5 => .int
  | 6 => .int
  | _ => .int
abbrev wsX100 : List Cond := u_ws RX10 TX10 8
theorem nmX10 : ∀ a, a < 8 → ∀ b, b < 8 → a ≠ b → (TX10 a).2.1 ≠ (TX10 b).2.1 := by decide +kernel
theorem tyX10_ok : ∀ k, k < 8 → parseFieldDescriptor (TX10 k).2.2.1 = some (tyX10 k) := by decide +kernel
abbrev cX10_init : ByteArray := prog_10_method_1_code
def yX10_init : MethodName := ⟨RX10, "<init>", "(II)V"⟩
def dkwX10_init_0 : List UInt8 := [42, 183, 0, 1, 42, 27, 181, 0, 7, 42, 28, 181, 0, 13, 177]
abbrev dktX10_init_0 : List UInt8 := dkwX10_init_0 ++ []
theorem dksX10_init_0 : cX10_init.data.toList.drop 0 = dktX10_init_0 := by decide +kernel
theorem dX10_init_0 : decode cX10_init 0 = .ok (.aload_n 0, 1) := dk_42 (dk_at dksX10_init_0 0 rfl rfl)
theorem dX10_init_1 : decode cX10_init 1 = .ok (.invokespecial 1, 3) := dk_183 0 1 (dk_at dksX10_init_0 1 rfl rfl)
theorem dX10_init_4 : decode cX10_init 4 = .ok (.aload_n 0, 1) := dk_42 (dk_at dksX10_init_0 4 rfl rfl)
theorem dX10_init_5 : decode cX10_init 5 = .ok (.iload_n 1, 1) := dk_27 (dk_at dksX10_init_0 5 rfl rfl)
theorem dX10_init_6 : decode cX10_init 6 = .ok (.putfield 7, 3) := dk_181 0 7 (dk_at dksX10_init_0 6 rfl rfl)
theorem dX10_init_9 : decode cX10_init 9 = .ok (.aload_n 0, 1) := dk_42 (dk_at dksX10_init_0 9 rfl rfl)
theorem dX10_init_10 : decode cX10_init 10 = .ok (.iload_n 2, 1) := dk_28 (dk_at dksX10_init_0 10 rfl rfl)
theorem dX10_init_11 : decode cX10_init 11 = .ok (.putfield 13, 3) := dk_181 0 13 (dk_at dksX10_init_0 11 rfl rfl)
theorem dX10_init_14 : decode cX10_init 14 = .ok (.return_, 1) := dk_177 (dk_at dksX10_init_0 14 rfl rfl)
theorem q97 : (Jvm.Cond.initialized "HorsehairTrade$Refused") ∈ lw_all := lw_g (lw_at lw_m1 31 rfl) rfl
theorem q628 : (Jvm.Cond.selects "HorsehairTrade$Refused" ({ cls := "java/lang/Throwable", name := "fillInStackTrace", desc := "()Ljava/lang/Throwable;" } : Jvm.MethodName) ({ cls := "java/lang/Throwable", name := "fillInStackTrace", desc := "()Ljava/lang/Throwable;" } : Jvm.MethodName)) ∈ lw_all := lw_g (lw_at lw_m3 82 rfl) rfl
theorem q958 : (Jvm.Cond.selects "HorsehairTrade$Refused" ({ cls := "java/lang/Object", name := "getClass", desc := "()Ljava/lang/Class;" } : Jvm.MethodName) ({ cls := "java/lang/Object", name := "getClass", desc := "()Ljava/lang/Class;" } : Jvm.MethodName)) ∈ lw_all := lw_g (lw_at lw_m4 172 rfl) rfl
theorem q1096 : (Jvm.Cond.instantiable "HorsehairTrade$Refused" (8 : Nat)) ∈ lw_all := lw_g (lw_at lw_m5 70 rfl) rfl
theorem q1097 : (Jvm.Cond.castable "HorsehairTrade$Refused" "HorsehairTrade$Refused") ∈ lw_tbl := lw_at lw_m5 71 rfl
theorem q1098 : (Jvm.Cond.selects "HorsehairTrade$Refused" ({ cls := "java/lang/Throwable", name := "fillInStackTrace", desc := "(I)Ljava/lang/Throwable;" } : Jvm.MethodName) ({ cls := "java/lang/Throwable", name := "fillInStackTrace", desc := "(I)Ljava/lang/Throwable;" } : Jvm.MethodName)) ∈ lw_all := lw_g (lw_at lw_m5 72 rfl) rfl
theorem q1099 : (Jvm.Cond.lays "HorsehairTrade$Refused" "java/lang/Throwable" "cause" "Ljava/lang/Throwable;") ∈ lw_all := lw_g (lw_at lw_m5 73 rfl) rfl
theorem q1100 : (Jvm.Cond.lays "HorsehairTrade$Refused" "java/lang/Throwable" "stackTrace" "[Ljava/lang/StackTraceElement;") ∈ lw_all := lw_g (lw_at lw_m5 74 rfl) rfl
theorem q1101 : (Jvm.Cond.lays "HorsehairTrade$Refused" "java/lang/Throwable" "suppressedExceptions" "Ljava/util/List;") ∈ lw_all := lw_g (lw_at lw_m5 75 rfl) rfl
theorem q1102 : (Jvm.Cond.lays "HorsehairTrade$Refused" "java/lang/Throwable" "detailMessage" "Ljava/lang/String;") ∈ lw_all := lw_g (lw_at lw_m5 76 rfl) rfl
theorem q1103 : (Jvm.Cond.lays "HorsehairTrade$Refused" "java/lang/Throwable" "backtrace" "Ljava/lang/Object;") ∈ lw_all := lw_g (lw_at lw_m5 77 rfl) rfl
theorem q1105 : (Jvm.Cond.instanceMethod ({ cls := "HorsehairTrade$Refused", name := "<init>", desc := "(II)V" } : Jvm.MethodName)) ∈ lw_all := lw_g (lw_at lw_m5 79 rfl) rfl
theorem q1106 : (Jvm.Cond.code ({ cls := "HorsehairTrade$Refused", name := "<init>", desc := "(II)V" } : Jvm.MethodName) prog_10_method_1_code (3 : Nat) (Option.none : Option Jvm.ClassFile.FieldType)) ∈ lw_all := lw_g (lw_at lw_m5 80 rfl) rfl
theorem q1107 : (Jvm.Cond.methodLink "HorsehairTrade$Refused" (1 : Nat) ({ cls := "java/lang/Exception", name := "<init>", desc := "()V" } : Jvm.MethodName)) ∈ lw_all := lw_g (lw_at lw_m5 81 rfl) rfl
theorem q1111 : (Jvm.Cond.fieldLink "HorsehairTrade$Refused" (7 : Nat) "HorsehairTrade$Refused" "reason" "I") ∈ lw_all := lw_g (lw_at lw_m5 85 rfl) rfl
theorem q1113 : (Jvm.Cond.fieldLink "HorsehairTrade$Refused" (13 : Nat) "HorsehairTrade$Refused" "detail" "I") ∈ lw_all := lw_g (lw_at lw_m5 87 rfl) rfl
theorem q1115 : (Jvm.Cond.laysFinal "HorsehairTrade$Refused" "HorsehairTrade$Refused" "reason" "I") ∈ lw_all := lw_g (lw_at lw_m5 89 rfl) rfl
theorem q1116 : (Jvm.Cond.soleField "HorsehairTrade$Refused" "reason") ∈ lw_all := lw_g (lw_at lw_m5 90 rfl) rfl
theorem q1117 : (Jvm.Cond.laysFinal "HorsehairTrade$Refused" "HorsehairTrade$Refused" "detail" "I") ∈ lw_all := lw_g (lw_at lw_m5 91 rfl) rfl
theorem q1118 : (Jvm.Cond.soleField "HorsehairTrade$Refused" "detail") ∈ lw_all := lw_g (lw_at lw_m5 92 rfl) rfl
theorem q1119 : (Jvm.Cond.lays "HorsehairTrade$Refused" "java/lang/Throwable" "depth" "I") ∈ lw_all := lw_g (lw_at lw_m5 93 rfl) rfl
theorem q1120 : (Jvm.Cond.superclass "HorsehairTrade$Refused" "java/lang/Exception") ∈ lw_all := lw_g (lw_at lw_m5 94 rfl) rfl
theorem q2777 : (Jvm.Cond.castable "HorsehairTrade$Refused" "java/lang/Object") ∈ lw_tbl := lw_at lw_m12 71 rfl
theorem in_X10 : ∀ w ∈ wsX100, w ∈ lw_all := lw_in wsX100 [1099, 1100, 1101, 1102, 1103, 1119, 1115, 1117] (by decide +kernel) (by decide +kernel)
/-! HorsehairTrade$Trade$ByUse -/
set_option maxRecDepth 100000
def RX11 : String := "HorsehairTrade$Trade$ByUse"
def TX11 : u_T := fun k => match k with
  | _ => ("HorsehairTrade$Trade$ByUse", "this$0", "LHorsehairTrade$Trade;", true)
def tyX11 : Nat → FieldType := fun k => match k with
  | _ => .object "HorsehairTrade$Trade"
abbrev wsX110 : List Cond := u_ws RX11 TX11 1
theorem nmX11 : ∀ a, a < 1 → ∀ b, b < 1 → a ≠ b → (TX11 a).2.1 ≠ (TX11 b).2.1 := by decide +kernel
theorem tyX11_ok : ∀ k, k < 1 → parseFieldDescriptor (TX11 k).2.2.1 = some (tyX11 k) := by decide +kernel
abbrev cX11_init : ByteArray := prog_15_method_1_code
def yX11_init : MethodName := ⟨RX11, "<init>", "(LHorsehairTrade$Trade;)V"⟩
def dkwX11_init_0 : List UInt8 := [42, 43, 181, 0, 1, 42, 183, 0, 7, 177]
abbrev dktX11_init_0 : List UInt8 := dkwX11_init_0 ++ []
theorem dksX11_init_0 : cX11_init.data.toList.drop 0 = dktX11_init_0 := by decide +kernel
theorem dX11_init_0 : decode cX11_init 0 = .ok (.aload_n 0, 1) := dk_42 (dk_at dksX11_init_0 0 rfl rfl)
theorem dX11_init_1 : decode cX11_init 1 = .ok (.aload_n 1, 1) := dk_43 (dk_at dksX11_init_0 1 rfl rfl)
theorem dX11_init_2 : decode cX11_init 2 = .ok (.putfield 1, 3) := dk_181 0 1 (dk_at dksX11_init_0 2 rfl rfl)
theorem dX11_init_5 : decode cX11_init 5 = .ok (.aload_n 0, 1) := dk_42 (dk_at dksX11_init_0 5 rfl rfl)
theorem dX11_init_6 : decode cX11_init 6 = .ok (.invokespecial 7, 3) := dk_183 0 7 (dk_at dksX11_init_0 6 rfl rfl)
theorem dX11_init_9 : decode cX11_init 9 = .ok (.return_, 1) := dk_177 (dk_at dksX11_init_0 9 rfl rfl)
abbrev cX11_compare : ByteArray := prog_15_method_3_code
def yX11_compare : MethodName := ⟨RX11, "compare", "(Ljava/lang/Object;Ljava/lang/Object;)I"⟩
def dkwX11_compare_0 : List UInt8 := [42, 43, 192, 0, 14, 44, 192, 0, 14, 182, 0, 29, 172]
abbrev dktX11_compare_0 : List UInt8 := dkwX11_compare_0 ++ []
theorem dksX11_compare_0 : cX11_compare.data.toList.drop 0 = dktX11_compare_0 := by decide +kernel
theorem dX11_compare_0 : decode cX11_compare 0 = .ok (.aload_n 0, 1) := dk_42 (dk_at dksX11_compare_0 0 rfl rfl)
theorem dX11_compare_1 : decode cX11_compare 1 = .ok (.aload_n 1, 1) := dk_43 (dk_at dksX11_compare_0 1 rfl rfl)
theorem dX11_compare_2 : decode cX11_compare 2 = .ok (.checkcast 14, 3) := dk_192 0 14 (dk_at dksX11_compare_0 2 rfl rfl)
theorem dX11_compare_5 : decode cX11_compare 5 = .ok (.aload_n 2, 1) := dk_44 (dk_at dksX11_compare_0 5 rfl rfl)
theorem dX11_compare_6 : decode cX11_compare 6 = .ok (.checkcast 14, 3) := dk_192 0 14 (dk_at dksX11_compare_0 6 rfl rfl)
theorem dX11_compare_9 : decode cX11_compare 9 = .ok (.invokevirtual 29, 3) := dk_182 0 29 (dk_at dksX11_compare_0 9 rfl rfl)
theorem dX11_compare_12 : decode cX11_compare 12 = .ok (.ireturn, 1) := dk_172 (dk_at dksX11_compare_0 12 rfl rfl)
abbrev cX11_compare_2 : ByteArray := prog_15_method_2_code
def yX11_compare_2 : MethodName := ⟨RX11, "compare", "(Ljava/lang/Integer;Ljava/lang/Integer;)I"⟩
def dkwX11_compare_2_1 : List UInt8 := [182, 0, 23, 153, 0, 7, 2, 167, 0, 4, 4, 172]
abbrev dktX11_compare_2_1 : List UInt8 := dkwX11_compare_2_1 ++ []
def dkwX11_compare_2_0 : List UInt8 := [43, 44, 182, 0, 13, 153, 0, 7, 3, 167, 0, 26, 42, 180, 0, 1, 43, 182, 0, 19, 44, 182, 0, 19]
abbrev dktX11_compare_2_0 : List UInt8 := dkwX11_compare_2_0 ++ dktX11_compare_2_1
theorem dksX11_compare_2_0 : cX11_compare_2.data.toList.drop 0 = dktX11_compare_2_0 := by decide +kernel
theorem dksX11_compare_2_1 : cX11_compare_2.data.toList.drop 24 = dktX11_compare_2_1 := dk_seg dksX11_compare_2_0 24 rfl rfl
theorem dX11_compare_2_0 : decode cX11_compare_2 0 = .ok (.aload_n 1, 1) := dk_43 (dk_at dksX11_compare_2_0 0 rfl rfl)
theorem dX11_compare_2_1 : decode cX11_compare_2 1 = .ok (.aload_n 2, 1) := dk_44 (dk_at dksX11_compare_2_0 1 rfl rfl)
theorem dX11_compare_2_2 : decode cX11_compare_2 2 = .ok (.invokevirtual 13, 3) := dk_182 0 13 (dk_at dksX11_compare_2_0 2 rfl rfl)
theorem dX11_compare_2_5 : decode cX11_compare_2 5 = .ok (.ifCond .eq 7, 3) := dk_153 0 7 (dk_at dksX11_compare_2_0 5 rfl rfl)
theorem dX11_compare_2_8 : decode cX11_compare_2 8 = .ok (.iconst 0, 1) := dk_3 (dk_at dksX11_compare_2_0 8 rfl rfl)
theorem dX11_compare_2_9 : decode cX11_compare_2 9 = .ok (.goto 26, 3) := dk_167 0 26 (dk_at dksX11_compare_2_0 9 rfl rfl)
theorem dX11_compare_2_12 : decode cX11_compare_2 12 = .ok (.aload_n 0, 1) := dk_42 (dk_at dksX11_compare_2_0 12 rfl rfl)
theorem dX11_compare_2_13 : decode cX11_compare_2 13 = .ok (.getfield 1, 3) := dk_180 0 1 (dk_at dksX11_compare_2_0 13 rfl rfl)
theorem dX11_compare_2_16 : decode cX11_compare_2 16 = .ok (.aload_n 1, 1) := dk_43 (dk_at dksX11_compare_2_0 16 rfl rfl)
theorem dX11_compare_2_17 : decode cX11_compare_2 17 = .ok (.invokevirtual 19, 3) := dk_182 0 19 (dk_at dksX11_compare_2_0 17 rfl rfl)
theorem dX11_compare_2_20 : decode cX11_compare_2 20 = .ok (.aload_n 2, 1) := dk_44 (dk_at dksX11_compare_2_0 20 rfl rfl)
theorem dX11_compare_2_21 : decode cX11_compare_2 21 = .ok (.invokevirtual 19, 3) := dk_182 0 19 (dk_at dksX11_compare_2_0 21 rfl rfl)
theorem dX11_compare_2_24 : decode cX11_compare_2 24 = .ok (.invokevirtual 23, 3) := dk_182 0 23 (dk_at dksX11_compare_2_1 0 rfl rfl)
theorem dX11_compare_2_27 : decode cX11_compare_2 27 = .ok (.ifCond .eq 7, 3) := dk_153 0 7 (dk_at dksX11_compare_2_1 3 rfl rfl)
theorem dX11_compare_2_30 : decode cX11_compare_2 30 = .ok (.iconst (-1), 1) := dk_2 (dk_at dksX11_compare_2_1 6 rfl rfl)
theorem dX11_compare_2_31 : decode cX11_compare_2 31 = .ok (.goto 4, 3) := dk_167 0 4 (dk_at dksX11_compare_2_1 7 rfl rfl)
theorem dX11_compare_2_34 : decode cX11_compare_2 34 = .ok (.iconst 1, 1) := dk_4 (dk_at dksX11_compare_2_1 10 rfl rfl)
theorem dX11_compare_2_35 : decode cX11_compare_2 35 = .ok (.ireturn, 1) := dk_172 (dk_at dksX11_compare_2_1 11 rfl rfl)
theorem q104 : (Jvm.Cond.initialized "HorsehairTrade$Trade$ByUse") ∈ lw_all := lw_g (lw_at lw_m1 38 rfl) rfl
theorem q963 : (Jvm.Cond.selects "HorsehairTrade$Trade$ByUse" ({ cls := "java/lang/Object", name := "getClass", desc := "()Ljava/lang/Class;" } : Jvm.MethodName) ({ cls := "java/lang/Object", name := "getClass", desc := "()Ljava/lang/Class;" } : Jvm.MethodName)) ∈ lw_all := lw_g (lw_at lw_m4 177 rfl) rfl
theorem q1621 : (Jvm.Cond.instantiable "HorsehairTrade$Trade$ByUse" (1 : Nat)) ∈ lw_all := lw_g (lw_at lw_m7 115 rfl) rfl
theorem q1623 : (Jvm.Cond.instanceMethod ({ cls := "HorsehairTrade$Trade$ByUse", name := "<init>", desc := "(LHorsehairTrade$Trade;)V" } : Jvm.MethodName)) ∈ lw_all := lw_g (lw_at lw_m7 117 rfl) rfl
theorem q1624 : (Jvm.Cond.code ({ cls := "HorsehairTrade$Trade$ByUse", name := "<init>", desc := "(LHorsehairTrade$Trade;)V" } : Jvm.MethodName) prog_15_method_1_code (2 : Nat) (Option.none : Option Jvm.ClassFile.FieldType)) ∈ lw_all := lw_g (lw_at lw_m7 118 rfl) rfl
theorem q1625 : (Jvm.Cond.methodLink "HorsehairTrade$Trade$ByUse" (7 : Nat) ({ cls := "java/lang/Object", name := "<init>", desc := "()V" } : Jvm.MethodName)) ∈ lw_all := lw_g (lw_at lw_m7 119 rfl) rfl
theorem q1626 : (Jvm.Cond.fieldLink "HorsehairTrade$Trade$ByUse" (1 : Nat) "HorsehairTrade$Trade$ByUse" "this$0" "LHorsehairTrade$Trade;") ∈ lw_all := lw_g (lw_at lw_m7 120 rfl) rfl
theorem q1627 : (Jvm.Cond.laysFinal "HorsehairTrade$Trade$ByUse" "HorsehairTrade$Trade$ByUse" "this$0" "LHorsehairTrade$Trade;") ∈ lw_all := lw_g (lw_at lw_m7 121 rfl) rfl
theorem q1628 : (Jvm.Cond.soleField "HorsehairTrade$Trade$ByUse" "this$0") ∈ lw_all := lw_g (lw_at lw_m7 122 rfl) rfl
theorem q1629 : (Jvm.Cond.superclass "HorsehairTrade$Trade$ByUse" "java/lang/Object") ∈ lw_all := lw_g (lw_at lw_m7 123 rfl) rfl
theorem q1950 : (Jvm.Cond.castable "HorsehairTrade$Trade$ByUse" "java/util/Comparator") ∈ lw_tbl := lw_at lw_m8 204 rfl
theorem q1951 : (Jvm.Cond.selects "HorsehairTrade$Trade$ByUse" ({ cls := "java/util/Comparator", name := "compare", desc := "(Ljava/lang/Object;Ljava/lang/Object;)I" } : Jvm.MethodName) ({ cls := "HorsehairTrade$Trade$ByUse", name := "compare", desc := "(Ljava/lang/Object;Ljava/lang/Object;)I" } : Jvm.MethodName)) ∈ lw_all := lw_g (lw_at lw_m8 205 rfl) rfl
theorem q1952 : (Jvm.Cond.unhidden "HorsehairTrade$Trade$ByUse" "compare" "(Ljava/lang/Object;Ljava/lang/Object;)I") ∈ lw_tbl := lw_at lw_m8 206 rfl
theorem q1953 : (Jvm.Cond.instanceMethod ({ cls := "HorsehairTrade$Trade$ByUse", name := "compare", desc := "(Ljava/lang/Object;Ljava/lang/Object;)I" } : Jvm.MethodName)) ∈ lw_all := lw_g (lw_at lw_m8 207 rfl) rfl
theorem q1954 : (Jvm.Cond.publicMethod ({ cls := "HorsehairTrade$Trade$ByUse", name := "compare", desc := "(Ljava/lang/Object;Ljava/lang/Object;)I" } : Jvm.MethodName)) ∈ lw_tbl := lw_at lw_m8 208 rfl
theorem q1955 : (Jvm.Cond.code ({ cls := "HorsehairTrade$Trade$ByUse", name := "compare", desc := "(Ljava/lang/Object;Ljava/lang/Object;)I" } : Jvm.MethodName) prog_15_method_3_code (3 : Nat) (Option.some Jvm.ClassFile.FieldType.int)) ∈ lw_all := lw_g (lw_at lw_m8 209 rfl) rfl
theorem q1956 : (Jvm.Cond.classLink "HorsehairTrade$Trade$ByUse" (14 : Nat) "java/lang/Integer") ∈ lw_all := lw_g (lw_at lw_m8 210 rfl) rfl
theorem q1957 : (Jvm.Cond.methodLink "HorsehairTrade$Trade$ByUse" (29 : Nat) ({ cls := "HorsehairTrade$Trade$ByUse", name := "compare", desc := "(Ljava/lang/Integer;Ljava/lang/Integer;)I" } : Jvm.MethodName)) ∈ lw_all := lw_g (lw_at lw_m8 211 rfl) rfl
theorem q1958 : (Jvm.Cond.instanceMethod ({ cls := "HorsehairTrade$Trade$ByUse", name := "compare", desc := "(Ljava/lang/Integer;Ljava/lang/Integer;)I" } : Jvm.MethodName)) ∈ lw_all := lw_g (lw_at lw_m8 212 rfl) rfl
theorem q1959 : (Jvm.Cond.selects "HorsehairTrade$Trade$ByUse" ({ cls := "HorsehairTrade$Trade$ByUse", name := "compare", desc := "(Ljava/lang/Integer;Ljava/lang/Integer;)I" } : Jvm.MethodName) ({ cls := "HorsehairTrade$Trade$ByUse", name := "compare", desc := "(Ljava/lang/Integer;Ljava/lang/Integer;)I" } : Jvm.MethodName)) ∈ lw_all := lw_g (lw_at lw_m8 213 rfl) rfl
theorem q1960 : (Jvm.Cond.code ({ cls := "HorsehairTrade$Trade$ByUse", name := "compare", desc := "(Ljava/lang/Integer;Ljava/lang/Integer;)I" } : Jvm.MethodName) prog_15_method_2_code (3 : Nat) (Option.some Jvm.ClassFile.FieldType.int)) ∈ lw_all := lw_g (lw_at lw_m8 214 rfl) rfl
theorem q1961 : (Jvm.Cond.methodLink "HorsehairTrade$Trade$ByUse" (13 : Nat) ({ cls := "java/lang/Integer", name := "equals", desc := "(Ljava/lang/Object;)Z" } : Jvm.MethodName)) ∈ lw_all := lw_g (lw_at lw_m8 215 rfl) rfl
theorem q1969 : (Jvm.Cond.methodLink "HorsehairTrade$Trade$ByUse" (19 : Nat) ({ cls := "java/lang/Integer", name := "intValue", desc := "()I" } : Jvm.MethodName)) ∈ lw_all := lw_g (lw_at lw_m8 223 rfl) rfl
theorem q1970 : (Jvm.Cond.methodLinkNest "HorsehairTrade$Trade$ByUse" (23 : Nat) ({ cls := "HorsehairTrade$Trade", name := "isBetter", desc := "(II)Z" } : Jvm.MethodName) "HorsehairTrade") ∈ lw_tbl := lw_at lw_m8 224 rfl
theorem q2788 : (Jvm.Cond.castable "HorsehairTrade$Trade$ByUse" "java/lang/Object") ∈ lw_tbl := lw_at lw_m12 82 rfl
theorem in_X11 : ∀ w ∈ wsX110, w ∈ lw_all := lw_in wsX110 [1627] (by decide +kernel) (by decide +kernel)
/-! HorsehairTrade$Reader -/
set_option maxRecDepth 100000
def RX12 : String := "HorsehairTrade$Reader"
def TX12 : u_T := fun k => match k with
  | 0 => ("HorsehairTrade$Reader", "text", "Ljava/lang/String;", true)
  | _ => ("HorsehairTrade$Reader", "at", "I", false)
def tyX12 : Nat → FieldType := fun k => match k with
  | 0 => .object "java/lang/String"
  | _ => .int
abbrev wsX120 : List Cond := u_ws RX12 TX12 2
theorem nmX12 : ∀ a, a < 2 → ∀ b, b < 2 → a ≠ b → (TX12 a).2.1 ≠ (TX12 b).2.1 := by decide +kernel
theorem tyX12_ok : ∀ k, k < 2 → parseFieldDescriptor (TX12 k).2.2.1 = some (tyX12 k) := by decide +kernel
abbrev cX12_init : ByteArray := prog_9_method_1_code
def yX12_init : MethodName := ⟨RX12, "<init>", "(Ljava/lang/String;)V"⟩
def dkwX12_init_0 : List UInt8 := [42, 183, 0, 1, 42, 43, 181, 0, 7, 177]
abbrev dktX12_init_0 : List UInt8 := dkwX12_init_0 ++ []
theorem dksX12_init_0 : cX12_init.data.toList.drop 0 = dktX12_init_0 := by decide +kernel
theorem dX12_init_0 : decode cX12_init 0 = .ok (.aload_n 0, 1) := dk_42 (dk_at dksX12_init_0 0 rfl rfl)
theorem dX12_init_1 : decode cX12_init 1 = .ok (.invokespecial 1, 3) := dk_183 0 1 (dk_at dksX12_init_0 1 rfl rfl)
theorem dX12_init_4 : decode cX12_init 4 = .ok (.aload_n 0, 1) := dk_42 (dk_at dksX12_init_0 4 rfl rfl)
theorem dX12_init_5 : decode cX12_init 5 = .ok (.aload_n 1, 1) := dk_43 (dk_at dksX12_init_0 5 rfl rfl)
theorem dX12_init_6 : decode cX12_init 6 = .ok (.putfield 7, 3) := dk_181 0 7 (dk_at dksX12_init_0 6 rfl rfl)
theorem dX12_init_9 : decode cX12_init 9 = .ok (.return_, 1) := dk_177 (dk_at dksX12_init_0 9 rfl rfl)
abbrev cX12_whole : ByteArray := prog_9_method_11_code
def yX12_whole : MethodName := ⟨RX12, "whole", "()Ljava/util/List;"⟩
def dkwX12_whole_2 : List UInt8 := [167, 0, 4, 3, 182, 0, 40, 43, 176]
abbrev dktX12_whole_2 : List UInt8 := dkwX12_whole_2 ++ []
def dkwX12_whole_1 : List UInt8 := [182, 0, 36, 154, 255, 239, 42, 42, 180, 0, 13, 42, 180, 0, 7, 182, 0, 17, 160, 0, 7, 4]
abbrev dktX12_whole_1 : List UInt8 := dkwX12_whole_1 ++ dktX12_whole_2
def dkwX12_whole_0 : List UInt8 := [187, 0, 111, 89, 183, 0, 113, 76, 43, 42, 182, 0, 114, 185, 0, 117, 2, 0, 87, 42, 16, 59]
abbrev dktX12_whole_0 : List UInt8 := dkwX12_whole_0 ++ dktX12_whole_1
theorem dksX12_whole_0 : cX12_whole.data.toList.drop 0 = dktX12_whole_0 := by decide +kernel
theorem dksX12_whole_1 : cX12_whole.data.toList.drop 22 = dktX12_whole_1 := dk_seg dksX12_whole_0 22 rfl rfl
theorem dksX12_whole_2 : cX12_whole.data.toList.drop 44 = dktX12_whole_2 := dk_seg dksX12_whole_1 22 rfl rfl
theorem dX12_whole_0 : decode cX12_whole 0 = .ok (.new 111, 3) := dk_187 0 111 (dk_at dksX12_whole_0 0 rfl rfl)
theorem dX12_whole_3 : decode cX12_whole 3 = .ok (.dup, 1) := dk_89 (dk_at dksX12_whole_0 3 rfl rfl)
theorem dX12_whole_4 : decode cX12_whole 4 = .ok (.invokespecial 113, 3) := dk_183 0 113 (dk_at dksX12_whole_0 4 rfl rfl)
theorem dX12_whole_7 : decode cX12_whole 7 = .ok (.astore_n 1, 1) := dk_76 (dk_at dksX12_whole_0 7 rfl rfl)
theorem dX12_whole_8 : decode cX12_whole 8 = .ok (.aload_n 1, 1) := dk_43 (dk_at dksX12_whole_0 8 rfl rfl)
theorem dX12_whole_9 : decode cX12_whole 9 = .ok (.aload_n 0, 1) := dk_42 (dk_at dksX12_whole_0 9 rfl rfl)
theorem dX12_whole_10 : decode cX12_whole 10 = .ok (.invokevirtual 114, 3) := dk_182 0 114 (dk_at dksX12_whole_0 10 rfl rfl)
theorem dX12_whole_13 : decode cX12_whole 13 = .ok (.invokeinterface 117 2, 5) := by decide +kernel
theorem dX12_whole_18 : decode cX12_whole 18 = .ok (.pop, 1) := dk_87 (dk_at dksX12_whole_0 18 rfl rfl)
theorem dX12_whole_19 : decode cX12_whole 19 = .ok (.aload_n 0, 1) := dk_42 (dk_at dksX12_whole_0 19 rfl rfl)
theorem dX12_whole_20 : decode cX12_whole 20 = .ok (.bipush 59, 2) := dk_16 59 (dk_at dksX12_whole_0 20 rfl rfl)
theorem dX12_whole_22 : decode cX12_whole 22 = .ok (.invokevirtual 36, 3) := dk_182 0 36 (dk_at dksX12_whole_1 0 rfl rfl)
theorem dX12_whole_25 : decode cX12_whole 25 = .ok (.ifCond .ne (-17), 3) := dk_154 255 239 (dk_at dksX12_whole_1 3 rfl rfl)
theorem dX12_whole_28 : decode cX12_whole 28 = .ok (.aload_n 0, 1) := dk_42 (dk_at dksX12_whole_1 6 rfl rfl)
theorem dX12_whole_29 : decode cX12_whole 29 = .ok (.aload_n 0, 1) := dk_42 (dk_at dksX12_whole_1 7 rfl rfl)
theorem dX12_whole_30 : decode cX12_whole 30 = .ok (.getfield 13, 3) := dk_180 0 13 (dk_at dksX12_whole_1 8 rfl rfl)
theorem dX12_whole_33 : decode cX12_whole 33 = .ok (.aload_n 0, 1) := dk_42 (dk_at dksX12_whole_1 11 rfl rfl)
theorem dX12_whole_34 : decode cX12_whole 34 = .ok (.getfield 7, 3) := dk_180 0 7 (dk_at dksX12_whole_1 12 rfl rfl)
theorem dX12_whole_37 : decode cX12_whole 37 = .ok (.invokevirtual 17, 3) := dk_182 0 17 (dk_at dksX12_whole_1 15 rfl rfl)
theorem dX12_whole_40 : decode cX12_whole 40 = .ok (.if_icmp .ne 7, 3) := dk_160 0 7 (dk_at dksX12_whole_1 18 rfl rfl)
theorem dX12_whole_43 : decode cX12_whole 43 = .ok (.iconst 1, 1) := dk_4 (dk_at dksX12_whole_1 21 rfl rfl)
theorem dX12_whole_44 : decode cX12_whole 44 = .ok (.goto 4, 3) := dk_167 0 4 (dk_at dksX12_whole_2 0 rfl rfl)
theorem dX12_whole_47 : decode cX12_whole 47 = .ok (.iconst 0, 1) := dk_3 (dk_at dksX12_whole_2 3 rfl rfl)
theorem dX12_whole_48 : decode cX12_whole 48 = .ok (.invokevirtual 40, 3) := dk_182 0 40 (dk_at dksX12_whole_2 4 rfl rfl)
theorem dX12_whole_51 : decode cX12_whole 51 = .ok (.aload_n 1, 1) := dk_43 (dk_at dksX12_whole_2 7 rfl rfl)
theorem dX12_whole_52 : decode cX12_whole 52 = .ok (.areturn, 1) := dk_176 (dk_at dksX12_whole_2 8 rfl rfl)
abbrev cX12_order : ByteArray := prog_9_method_10_code
def yX12_order : MethodName := ⟨RX12, "order", "()LHorsehairTrade$Order;"⟩
def dkwX12_order_6 : List UInt8 := [42, 182, 0, 44, 79, 183, 0, 56, 176]
abbrev dktX12_order_6 : List UInt8 := dkwX12_order_6 ++ []
def dkwX12_order_5 : List UInt8 := [18, 105, 4, 182, 0, 65, 176, 42, 18, 107, 182, 0, 47, 187, 0, 54, 89, 18, 109, 4, 188, 10, 89, 3]
abbrev dktX12_order_5 : List UInt8 := dkwX12_order_5 ++ dktX12_order_6
def dkwX12_order_4 : List UInt8 := [3, 18, 99, 3, 182, 0, 65, 176, 42, 16, 112, 182, 0, 36, 153, 0, 16, 42, 18, 101, 18, 103, 3]
abbrev dktX12_order_4 : List UInt8 := dkwX12_order_4 ++ dktX12_order_5
def dkwX12_order_3 : List UInt8 := [18, 91, 3, 18, 93, 4, 182, 0, 65, 176, 42, 16, 114, 182, 0, 36, 153, 0, 16, 42, 18, 95, 18, 97]
abbrev dktX12_order_3 : List UInt8 := dkwX12_order_3 ++ dktX12_order_4
def dkwX12_order_2 : List UInt8 := [182, 0, 36, 153, 0, 8, 42, 182, 0, 85, 176, 42, 16, 104, 182, 0, 36, 153, 0, 16, 42, 18, 89]
abbrev dktX12_order_2 : List UInt8 := dkwX12_order_2 ++ dktX12_order_3
def dkwX12_order_1 : List UInt8 := [16, 116, 182, 0, 36, 153, 0, 16, 42, 18, 79, 18, 81, 4, 18, 83, 4, 182, 0, 65, 176, 42, 16, 119]
abbrev dktX12_order_1 : List UInt8 := dkwX12_order_1 ++ dktX12_order_2
def dkwX12_order_0 : List UInt8 := [42, 16, 99, 182, 0, 36, 153, 0, 16, 42, 18, 73, 18, 75, 3, 18, 77, 4, 182, 0, 65, 176, 42]
abbrev dktX12_order_0 : List UInt8 := dkwX12_order_0 ++ dktX12_order_1
theorem dksX12_order_0 : cX12_order.data.toList.drop 0 = dktX12_order_0 := by decide +kernel
theorem dksX12_order_1 : cX12_order.data.toList.drop 23 = dktX12_order_1 := dk_seg dksX12_order_0 23 rfl rfl
theorem dksX12_order_2 : cX12_order.data.toList.drop 47 = dktX12_order_2 := dk_seg dksX12_order_1 24 rfl rfl
theorem dksX12_order_3 : cX12_order.data.toList.drop 70 = dktX12_order_3 := dk_seg dksX12_order_2 23 rfl rfl
theorem dksX12_order_4 : cX12_order.data.toList.drop 94 = dktX12_order_4 := dk_seg dksX12_order_3 24 rfl rfl
theorem dksX12_order_5 : cX12_order.data.toList.drop 117 = dktX12_order_5 := dk_seg dksX12_order_4 23 rfl rfl
theorem dksX12_order_6 : cX12_order.data.toList.drop 141 = dktX12_order_6 := dk_seg dksX12_order_5 24 rfl rfl
theorem dX12_order_0 : decode cX12_order 0 = .ok (.aload_n 0, 1) := dk_42 (dk_at dksX12_order_0 0 rfl rfl)
theorem dX12_order_1 : decode cX12_order 1 = .ok (.bipush 99, 2) := dk_16 99 (dk_at dksX12_order_0 1 rfl rfl)
theorem dX12_order_3 : decode cX12_order 3 = .ok (.invokevirtual 36, 3) := dk_182 0 36 (dk_at dksX12_order_0 3 rfl rfl)
theorem dX12_order_6 : decode cX12_order 6 = .ok (.ifCond .eq 16, 3) := dk_153 0 16 (dk_at dksX12_order_0 6 rfl rfl)
theorem dX12_order_9 : decode cX12_order 9 = .ok (.aload_n 0, 1) := dk_42 (dk_at dksX12_order_0 9 rfl rfl)
theorem dX12_order_10 : decode cX12_order 10 = .ok (.ldc 73, 2) := dk_18 73 (dk_at dksX12_order_0 10 rfl rfl)
theorem dX12_order_12 : decode cX12_order 12 = .ok (.ldc 75, 2) := dk_18 75 (dk_at dksX12_order_0 12 rfl rfl)
theorem dX12_order_14 : decode cX12_order 14 = .ok (.iconst 0, 1) := dk_3 (dk_at dksX12_order_0 14 rfl rfl)
theorem dX12_order_15 : decode cX12_order 15 = .ok (.ldc 77, 2) := dk_18 77 (dk_at dksX12_order_0 15 rfl rfl)
theorem dX12_order_17 : decode cX12_order 17 = .ok (.iconst 1, 1) := dk_4 (dk_at dksX12_order_0 17 rfl rfl)
theorem dX12_order_18 : decode cX12_order 18 = .ok (.invokevirtual 65, 3) := dk_182 0 65 (dk_at dksX12_order_0 18 rfl rfl)
theorem dX12_order_21 : decode cX12_order 21 = .ok (.areturn, 1) := dk_176 (dk_at dksX12_order_0 21 rfl rfl)
theorem dX12_order_22 : decode cX12_order 22 = .ok (.aload_n 0, 1) := dk_42 (dk_at dksX12_order_0 22 rfl rfl)
theorem dX12_order_23 : decode cX12_order 23 = .ok (.bipush 116, 2) := dk_16 116 (dk_at dksX12_order_1 0 rfl rfl)
theorem dX12_order_25 : decode cX12_order 25 = .ok (.invokevirtual 36, 3) := dk_182 0 36 (dk_at dksX12_order_1 2 rfl rfl)
theorem dX12_order_28 : decode cX12_order 28 = .ok (.ifCond .eq 16, 3) := dk_153 0 16 (dk_at dksX12_order_1 5 rfl rfl)
theorem dX12_order_31 : decode cX12_order 31 = .ok (.aload_n 0, 1) := dk_42 (dk_at dksX12_order_1 8 rfl rfl)
theorem dX12_order_32 : decode cX12_order 32 = .ok (.ldc 79, 2) := dk_18 79 (dk_at dksX12_order_1 9 rfl rfl)
theorem dX12_order_34 : decode cX12_order 34 = .ok (.ldc 81, 2) := dk_18 81 (dk_at dksX12_order_1 11 rfl rfl)
theorem dX12_order_36 : decode cX12_order 36 = .ok (.iconst 1, 1) := dk_4 (dk_at dksX12_order_1 13 rfl rfl)
theorem dX12_order_37 : decode cX12_order 37 = .ok (.ldc 83, 2) := dk_18 83 (dk_at dksX12_order_1 14 rfl rfl)
theorem dX12_order_39 : decode cX12_order 39 = .ok (.iconst 1, 1) := dk_4 (dk_at dksX12_order_1 16 rfl rfl)
theorem dX12_order_40 : decode cX12_order 40 = .ok (.invokevirtual 65, 3) := dk_182 0 65 (dk_at dksX12_order_1 17 rfl rfl)
theorem dX12_order_43 : decode cX12_order 43 = .ok (.areturn, 1) := dk_176 (dk_at dksX12_order_1 20 rfl rfl)
theorem dX12_order_44 : decode cX12_order 44 = .ok (.aload_n 0, 1) := dk_42 (dk_at dksX12_order_1 21 rfl rfl)
theorem dX12_order_45 : decode cX12_order 45 = .ok (.bipush 119, 2) := dk_16 119 (dk_at dksX12_order_1 22 rfl rfl)
theorem dX12_order_47 : decode cX12_order 47 = .ok (.invokevirtual 36, 3) := dk_182 0 36 (dk_at dksX12_order_2 0 rfl rfl)
theorem dX12_order_50 : decode cX12_order 50 = .ok (.ifCond .eq 8, 3) := dk_153 0 8 (dk_at dksX12_order_2 3 rfl rfl)
theorem dX12_order_53 : decode cX12_order 53 = .ok (.aload_n 0, 1) := dk_42 (dk_at dksX12_order_2 6 rfl rfl)
theorem dX12_order_54 : decode cX12_order 54 = .ok (.invokevirtual 85, 3) := dk_182 0 85 (dk_at dksX12_order_2 7 rfl rfl)
theorem dX12_order_57 : decode cX12_order 57 = .ok (.areturn, 1) := dk_176 (dk_at dksX12_order_2 10 rfl rfl)
theorem dX12_order_58 : decode cX12_order 58 = .ok (.aload_n 0, 1) := dk_42 (dk_at dksX12_order_2 11 rfl rfl)
theorem dX12_order_59 : decode cX12_order 59 = .ok (.bipush 104, 2) := dk_16 104 (dk_at dksX12_order_2 12 rfl rfl)
theorem dX12_order_61 : decode cX12_order 61 = .ok (.invokevirtual 36, 3) := dk_182 0 36 (dk_at dksX12_order_2 14 rfl rfl)
theorem dX12_order_64 : decode cX12_order 64 = .ok (.ifCond .eq 16, 3) := dk_153 0 16 (dk_at dksX12_order_2 17 rfl rfl)
theorem dX12_order_67 : decode cX12_order 67 = .ok (.aload_n 0, 1) := dk_42 (dk_at dksX12_order_2 20 rfl rfl)
theorem dX12_order_68 : decode cX12_order 68 = .ok (.ldc 89, 2) := dk_18 89 (dk_at dksX12_order_2 21 rfl rfl)
theorem dX12_order_70 : decode cX12_order 70 = .ok (.ldc 91, 2) := dk_18 91 (dk_at dksX12_order_3 0 rfl rfl)
theorem dX12_order_72 : decode cX12_order 72 = .ok (.iconst 0, 1) := dk_3 (dk_at dksX12_order_3 2 rfl rfl)
theorem dX12_order_73 : decode cX12_order 73 = .ok (.ldc 93, 2) := dk_18 93 (dk_at dksX12_order_3 3 rfl rfl)
theorem dX12_order_75 : decode cX12_order 75 = .ok (.iconst 1, 1) := dk_4 (dk_at dksX12_order_3 5 rfl rfl)
theorem dX12_order_76 : decode cX12_order 76 = .ok (.invokevirtual 65, 3) := dk_182 0 65 (dk_at dksX12_order_3 6 rfl rfl)
theorem dX12_order_79 : decode cX12_order 79 = .ok (.areturn, 1) := dk_176 (dk_at dksX12_order_3 9 rfl rfl)
theorem dX12_order_80 : decode cX12_order 80 = .ok (.aload_n 0, 1) := dk_42 (dk_at dksX12_order_3 10 rfl rfl)
theorem dX12_order_81 : decode cX12_order 81 = .ok (.bipush 114, 2) := dk_16 114 (dk_at dksX12_order_3 11 rfl rfl)
theorem dX12_order_83 : decode cX12_order 83 = .ok (.invokevirtual 36, 3) := dk_182 0 36 (dk_at dksX12_order_3 13 rfl rfl)
theorem dX12_order_86 : decode cX12_order 86 = .ok (.ifCond .eq 16, 3) := dk_153 0 16 (dk_at dksX12_order_3 16 rfl rfl)
theorem dX12_order_89 : decode cX12_order 89 = .ok (.aload_n 0, 1) := dk_42 (dk_at dksX12_order_3 19 rfl rfl)
theorem dX12_order_90 : decode cX12_order 90 = .ok (.ldc 95, 2) := dk_18 95 (dk_at dksX12_order_3 20 rfl rfl)
theorem dX12_order_92 : decode cX12_order 92 = .ok (.ldc 97, 2) := dk_18 97 (dk_at dksX12_order_3 22 rfl rfl)
theorem dX12_order_94 : decode cX12_order 94 = .ok (.iconst 0, 1) := dk_3 (dk_at dksX12_order_4 0 rfl rfl)
theorem dX12_order_95 : decode cX12_order 95 = .ok (.ldc 99, 2) := dk_18 99 (dk_at dksX12_order_4 1 rfl rfl)
theorem dX12_order_97 : decode cX12_order 97 = .ok (.iconst 0, 1) := dk_3 (dk_at dksX12_order_4 3 rfl rfl)
theorem dX12_order_98 : decode cX12_order 98 = .ok (.invokevirtual 65, 3) := dk_182 0 65 (dk_at dksX12_order_4 4 rfl rfl)
theorem dX12_order_101 : decode cX12_order 101 = .ok (.areturn, 1) := dk_176 (dk_at dksX12_order_4 7 rfl rfl)
theorem dX12_order_102 : decode cX12_order 102 = .ok (.aload_n 0, 1) := dk_42 (dk_at dksX12_order_4 8 rfl rfl)
theorem dX12_order_103 : decode cX12_order 103 = .ok (.bipush 112, 2) := dk_16 112 (dk_at dksX12_order_4 9 rfl rfl)
theorem dX12_order_105 : decode cX12_order 105 = .ok (.invokevirtual 36, 3) := dk_182 0 36 (dk_at dksX12_order_4 11 rfl rfl)
theorem dX12_order_108 : decode cX12_order 108 = .ok (.ifCond .eq 16, 3) := dk_153 0 16 (dk_at dksX12_order_4 14 rfl rfl)
theorem dX12_order_111 : decode cX12_order 111 = .ok (.aload_n 0, 1) := dk_42 (dk_at dksX12_order_4 17 rfl rfl)
theorem dX12_order_112 : decode cX12_order 112 = .ok (.ldc 101, 2) := dk_18 101 (dk_at dksX12_order_4 18 rfl rfl)
theorem dX12_order_114 : decode cX12_order 114 = .ok (.ldc 103, 2) := dk_18 103 (dk_at dksX12_order_4 20 rfl rfl)
theorem dX12_order_116 : decode cX12_order 116 = .ok (.iconst 0, 1) := dk_3 (dk_at dksX12_order_4 22 rfl rfl)
theorem dX12_order_117 : decode cX12_order 117 = .ok (.ldc 105, 2) := dk_18 105 (dk_at dksX12_order_5 0 rfl rfl)
theorem dX12_order_119 : decode cX12_order 119 = .ok (.iconst 1, 1) := dk_4 (dk_at dksX12_order_5 2 rfl rfl)
theorem dX12_order_120 : decode cX12_order 120 = .ok (.invokevirtual 65, 3) := dk_182 0 65 (dk_at dksX12_order_5 3 rfl rfl)
theorem dX12_order_123 : decode cX12_order 123 = .ok (.areturn, 1) := dk_176 (dk_at dksX12_order_5 6 rfl rfl)
theorem dX12_order_124 : decode cX12_order 124 = .ok (.aload_n 0, 1) := dk_42 (dk_at dksX12_order_5 7 rfl rfl)
theorem dX12_order_125 : decode cX12_order 125 = .ok (.ldc 107, 2) := dk_18 107 (dk_at dksX12_order_5 8 rfl rfl)
theorem dX12_order_127 : decode cX12_order 127 = .ok (.invokevirtual 47, 3) := dk_182 0 47 (dk_at dksX12_order_5 10 rfl rfl)
theorem dX12_order_130 : decode cX12_order 130 = .ok (.new 54, 3) := dk_187 0 54 (dk_at dksX12_order_5 13 rfl rfl)
theorem dX12_order_133 : decode cX12_order 133 = .ok (.dup, 1) := dk_89 (dk_at dksX12_order_5 16 rfl rfl)
theorem dX12_order_134 : decode cX12_order 134 = .ok (.ldc 109, 2) := dk_18 109 (dk_at dksX12_order_5 17 rfl rfl)
theorem dX12_order_136 : decode cX12_order 136 = .ok (.iconst 1, 1) := dk_4 (dk_at dksX12_order_5 19 rfl rfl)
theorem dX12_order_137 : decode cX12_order 137 = .ok (.newarray .int, 2) := dk_188_10 (dk_at dksX12_order_5 20 rfl rfl)
theorem dX12_order_139 : decode cX12_order 139 = .ok (.dup, 1) := dk_89 (dk_at dksX12_order_5 22 rfl rfl)
theorem dX12_order_140 : decode cX12_order 140 = .ok (.iconst 0, 1) := dk_3 (dk_at dksX12_order_5 23 rfl rfl)
theorem dX12_order_141 : decode cX12_order 141 = .ok (.aload_n 0, 1) := dk_42 (dk_at dksX12_order_6 0 rfl rfl)
theorem dX12_order_142 : decode cX12_order 142 = .ok (.invokevirtual 44, 3) := dk_182 0 44 (dk_at dksX12_order_6 1 rfl rfl)
theorem dX12_order_145 : decode cX12_order 145 = .ok (.iastore, 1) := dk_79 (dk_at dksX12_order_6 4 rfl rfl)
theorem dX12_order_146 : decode cX12_order 146 = .ok (.invokespecial 56, 3) := dk_183 0 56 (dk_at dksX12_order_6 5 rfl rfl)
theorem dX12_order_149 : decode cX12_order 149 = .ok (.areturn, 1) := dk_176 (dk_at dksX12_order_6 8 rfl rfl)
abbrev cX12_passes : ByteArray := prog_9_method_3_code
def yX12_passes : MethodName := ⟨RX12, "passes", "(C)Z"⟩
def dkwX12_passes_1 : List UInt8 := [181, 0, 13, 28, 172]
abbrev dktX12_passes_1 : List UInt8 := dkwX12_passes_1 ++ []
def dkwX12_passes_0 : List UInt8 := [42, 27, 27, 182, 0, 27, 61, 42, 89, 180, 0, 13, 28, 153, 0, 7, 4, 167, 0, 4, 3, 96]
abbrev dktX12_passes_0 : List UInt8 := dkwX12_passes_0 ++ dktX12_passes_1
theorem dksX12_passes_0 : cX12_passes.data.toList.drop 0 = dktX12_passes_0 := by decide +kernel
theorem dksX12_passes_1 : cX12_passes.data.toList.drop 22 = dktX12_passes_1 := dk_seg dksX12_passes_0 22 rfl rfl
theorem dX12_passes_0 : decode cX12_passes 0 = .ok (.aload_n 0, 1) := dk_42 (dk_at dksX12_passes_0 0 rfl rfl)
theorem dX12_passes_1 : decode cX12_passes 1 = .ok (.iload_n 1, 1) := dk_27 (dk_at dksX12_passes_0 1 rfl rfl)
theorem dX12_passes_2 : decode cX12_passes 2 = .ok (.iload_n 1, 1) := dk_27 (dk_at dksX12_passes_0 2 rfl rfl)
theorem dX12_passes_3 : decode cX12_passes 3 = .ok (.invokevirtual 27, 3) := dk_182 0 27 (dk_at dksX12_passes_0 3 rfl rfl)
theorem dX12_passes_6 : decode cX12_passes 6 = .ok (.istore_n 2, 1) := dk_61 (dk_at dksX12_passes_0 6 rfl rfl)
theorem dX12_passes_7 : decode cX12_passes 7 = .ok (.aload_n 0, 1) := dk_42 (dk_at dksX12_passes_0 7 rfl rfl)
theorem dX12_passes_8 : decode cX12_passes 8 = .ok (.dup, 1) := dk_89 (dk_at dksX12_passes_0 8 rfl rfl)
theorem dX12_passes_9 : decode cX12_passes 9 = .ok (.getfield 13, 3) := dk_180 0 13 (dk_at dksX12_passes_0 9 rfl rfl)
theorem dX12_passes_12 : decode cX12_passes 12 = .ok (.iload_n 2, 1) := dk_28 (dk_at dksX12_passes_0 12 rfl rfl)
theorem dX12_passes_13 : decode cX12_passes 13 = .ok (.ifCond .eq 7, 3) := dk_153 0 7 (dk_at dksX12_passes_0 13 rfl rfl)
theorem dX12_passes_16 : decode cX12_passes 16 = .ok (.iconst 1, 1) := dk_4 (dk_at dksX12_passes_0 16 rfl rfl)
theorem dX12_passes_17 : decode cX12_passes 17 = .ok (.goto 4, 3) := dk_167 0 4 (dk_at dksX12_passes_0 17 rfl rfl)
theorem dX12_passes_20 : decode cX12_passes 20 = .ok (.iconst 0, 1) := dk_3 (dk_at dksX12_passes_0 20 rfl rfl)
theorem dX12_passes_21 : decode cX12_passes 21 = .ok (.iadd, 1) := dk_96 (dk_at dksX12_passes_0 21 rfl rfl)
theorem dX12_passes_22 : decode cX12_passes 22 = .ok (.putfield 13, 3) := dk_181 0 13 (dk_at dksX12_passes_1 0 rfl rfl)
theorem dX12_passes_25 : decode cX12_passes 25 = .ok (.iload_n 2, 1) := dk_28 (dk_at dksX12_passes_1 3 rfl rfl)
theorem dX12_passes_26 : decode cX12_passes 26 = .ok (.ireturn, 1) := dk_172 (dk_at dksX12_passes_1 4 rfl rfl)
abbrev cX12_isNext : ByteArray := prog_9_method_2_code
def yX12_isNext : MethodName := ⟨RX12, "isNext", "(CC)Z"⟩
def dkwX12_isNext_2 : List UInt8 := [167, 0, 4, 3, 172]
abbrev dktX12_isNext_2 : List UInt8 := dkwX12_isNext_2 ++ []
def dkwX12_isNext_1 : List UInt8 := [182, 0, 23, 163, 0, 22, 42, 180, 0, 7, 42, 180, 0, 13, 182, 0, 23, 28, 163, 0, 7, 4]
abbrev dktX12_isNext_1 : List UInt8 := dkwX12_isNext_1 ++ dktX12_isNext_2
def dkwX12_isNext_0 : List UInt8 := [42, 180, 0, 13, 42, 180, 0, 7, 182, 0, 17, 162, 0, 37, 27, 42, 180, 0, 7, 42, 180, 0, 13]
abbrev dktX12_isNext_0 : List UInt8 := dkwX12_isNext_0 ++ dktX12_isNext_1
theorem dksX12_isNext_0 : cX12_isNext.data.toList.drop 0 = dktX12_isNext_0 := by decide +kernel
theorem dksX12_isNext_1 : cX12_isNext.data.toList.drop 23 = dktX12_isNext_1 := dk_seg dksX12_isNext_0 23 rfl rfl
theorem dksX12_isNext_2 : cX12_isNext.data.toList.drop 45 = dktX12_isNext_2 := dk_seg dksX12_isNext_1 22 rfl rfl
theorem dX12_isNext_0 : decode cX12_isNext 0 = .ok (.aload_n 0, 1) := dk_42 (dk_at dksX12_isNext_0 0 rfl rfl)
theorem dX12_isNext_1 : decode cX12_isNext 1 = .ok (.getfield 13, 3) := dk_180 0 13 (dk_at dksX12_isNext_0 1 rfl rfl)
theorem dX12_isNext_4 : decode cX12_isNext 4 = .ok (.aload_n 0, 1) := dk_42 (dk_at dksX12_isNext_0 4 rfl rfl)
theorem dX12_isNext_5 : decode cX12_isNext 5 = .ok (.getfield 7, 3) := dk_180 0 7 (dk_at dksX12_isNext_0 5 rfl rfl)
theorem dX12_isNext_8 : decode cX12_isNext 8 = .ok (.invokevirtual 17, 3) := dk_182 0 17 (dk_at dksX12_isNext_0 8 rfl rfl)
theorem dX12_isNext_11 : decode cX12_isNext 11 = .ok (.if_icmp .ge 37, 3) := dk_162 0 37 (dk_at dksX12_isNext_0 11 rfl rfl)
theorem dX12_isNext_14 : decode cX12_isNext 14 = .ok (.iload_n 1, 1) := dk_27 (dk_at dksX12_isNext_0 14 rfl rfl)
theorem dX12_isNext_15 : decode cX12_isNext 15 = .ok (.aload_n 0, 1) := dk_42 (dk_at dksX12_isNext_0 15 rfl rfl)
theorem dX12_isNext_16 : decode cX12_isNext 16 = .ok (.getfield 7, 3) := dk_180 0 7 (dk_at dksX12_isNext_0 16 rfl rfl)
theorem dX12_isNext_19 : decode cX12_isNext 19 = .ok (.aload_n 0, 1) := dk_42 (dk_at dksX12_isNext_0 19 rfl rfl)
theorem dX12_isNext_20 : decode cX12_isNext 20 = .ok (.getfield 13, 3) := dk_180 0 13 (dk_at dksX12_isNext_0 20 rfl rfl)
theorem dX12_isNext_23 : decode cX12_isNext 23 = .ok (.invokevirtual 23, 3) := dk_182 0 23 (dk_at dksX12_isNext_1 0 rfl rfl)
theorem dX12_isNext_26 : decode cX12_isNext 26 = .ok (.if_icmp .gt 22, 3) := dk_163 0 22 (dk_at dksX12_isNext_1 3 rfl rfl)
theorem dX12_isNext_29 : decode cX12_isNext 29 = .ok (.aload_n 0, 1) := dk_42 (dk_at dksX12_isNext_1 6 rfl rfl)
theorem dX12_isNext_30 : decode cX12_isNext 30 = .ok (.getfield 7, 3) := dk_180 0 7 (dk_at dksX12_isNext_1 7 rfl rfl)
theorem dX12_isNext_33 : decode cX12_isNext 33 = .ok (.aload_n 0, 1) := dk_42 (dk_at dksX12_isNext_1 10 rfl rfl)
theorem dX12_isNext_34 : decode cX12_isNext 34 = .ok (.getfield 13, 3) := dk_180 0 13 (dk_at dksX12_isNext_1 11 rfl rfl)
theorem dX12_isNext_37 : decode cX12_isNext 37 = .ok (.invokevirtual 23, 3) := dk_182 0 23 (dk_at dksX12_isNext_1 14 rfl rfl)
theorem dX12_isNext_40 : decode cX12_isNext 40 = .ok (.iload_n 2, 1) := dk_28 (dk_at dksX12_isNext_1 17 rfl rfl)
theorem dX12_isNext_41 : decode cX12_isNext 41 = .ok (.if_icmp .gt 7, 3) := dk_163 0 7 (dk_at dksX12_isNext_1 18 rfl rfl)
theorem dX12_isNext_44 : decode cX12_isNext 44 = .ok (.iconst 1, 1) := dk_4 (dk_at dksX12_isNext_1 21 rfl rfl)
theorem dX12_isNext_45 : decode cX12_isNext 45 = .ok (.goto 4, 3) := dk_167 0 4 (dk_at dksX12_isNext_2 0 rfl rfl)
theorem dX12_isNext_48 : decode cX12_isNext 48 = .ok (.iconst 0, 1) := dk_3 (dk_at dksX12_isNext_2 3 rfl rfl)
theorem dX12_isNext_49 : decode cX12_isNext 49 = .ok (.ireturn, 1) := dk_172 (dk_at dksX12_isNext_2 4 rfl rfl)
abbrev cX12_two : ByteArray := prog_9_method_8_code
def yX12_two : MethodName := ⟨RX12, "two", "(Ljava/lang/String;Ljava/lang/String;ZLjava/lang/String;Z)LHorsehairTrade$Order;"⟩
def dkwX12_two_2 : List UInt8 := [153, 0, 10, 42, 182, 0, 51, 167, 0, 7, 42, 182, 0, 44, 79, 183, 0, 56, 176]
abbrev dktX12_two_2 : List UInt8 := dkwX12_two_2 ++ []
def dkwX12_two_1 : List UInt8 := [25, 4, 182, 0, 47, 187, 0, 54, 89, 43, 5, 188, 10, 89, 3, 21, 6, 79, 89, 4, 21, 5]
abbrev dktX12_two_1 : List UInt8 := dkwX12_two_1 ++ dktX12_two_2
def dkwX12_two_0 : List UInt8 := [42, 44, 182, 0, 47, 29, 153, 0, 10, 42, 182, 0, 51, 167, 0, 7, 42, 182, 0, 44, 54, 6, 42]
abbrev dktX12_two_0 : List UInt8 := dkwX12_two_0 ++ dktX12_two_1
theorem dksX12_two_0 : cX12_two.data.toList.drop 0 = dktX12_two_0 := by decide +kernel
theorem dksX12_two_1 : cX12_two.data.toList.drop 23 = dktX12_two_1 := dk_seg dksX12_two_0 23 rfl rfl
theorem dksX12_two_2 : cX12_two.data.toList.drop 45 = dktX12_two_2 := dk_seg dksX12_two_1 22 rfl rfl
theorem dX12_two_0 : decode cX12_two 0 = .ok (.aload_n 0, 1) := dk_42 (dk_at dksX12_two_0 0 rfl rfl)
theorem dX12_two_1 : decode cX12_two 1 = .ok (.aload_n 2, 1) := dk_44 (dk_at dksX12_two_0 1 rfl rfl)
theorem dX12_two_2 : decode cX12_two 2 = .ok (.invokevirtual 47, 3) := dk_182 0 47 (dk_at dksX12_two_0 2 rfl rfl)
theorem dX12_two_5 : decode cX12_two 5 = .ok (.iload_n 3, 1) := dk_29 (dk_at dksX12_two_0 5 rfl rfl)
theorem dX12_two_6 : decode cX12_two 6 = .ok (.ifCond .eq 10, 3) := dk_153 0 10 (dk_at dksX12_two_0 6 rfl rfl)
theorem dX12_two_9 : decode cX12_two 9 = .ok (.aload_n 0, 1) := dk_42 (dk_at dksX12_two_0 9 rfl rfl)
theorem dX12_two_10 : decode cX12_two 10 = .ok (.invokevirtual 51, 3) := dk_182 0 51 (dk_at dksX12_two_0 10 rfl rfl)
theorem dX12_two_13 : decode cX12_two 13 = .ok (.goto 7, 3) := dk_167 0 7 (dk_at dksX12_two_0 13 rfl rfl)
theorem dX12_two_16 : decode cX12_two 16 = .ok (.aload_n 0, 1) := dk_42 (dk_at dksX12_two_0 16 rfl rfl)
theorem dX12_two_17 : decode cX12_two 17 = .ok (.invokevirtual 44, 3) := dk_182 0 44 (dk_at dksX12_two_0 17 rfl rfl)
theorem dX12_two_20 : decode cX12_two 20 = .ok (.istore 6, 2) := dk_54 6 (dk_at dksX12_two_0 20 rfl rfl)
theorem dX12_two_22 : decode cX12_two 22 = .ok (.aload_n 0, 1) := dk_42 (dk_at dksX12_two_0 22 rfl rfl)
theorem dX12_two_23 : decode cX12_two 23 = .ok (.aload 4, 2) := dk_25 4 (dk_at dksX12_two_1 0 rfl rfl)
theorem dX12_two_25 : decode cX12_two 25 = .ok (.invokevirtual 47, 3) := dk_182 0 47 (dk_at dksX12_two_1 2 rfl rfl)
theorem dX12_two_28 : decode cX12_two 28 = .ok (.new 54, 3) := dk_187 0 54 (dk_at dksX12_two_1 5 rfl rfl)
theorem dX12_two_31 : decode cX12_two 31 = .ok (.dup, 1) := dk_89 (dk_at dksX12_two_1 8 rfl rfl)
theorem dX12_two_32 : decode cX12_two 32 = .ok (.aload_n 1, 1) := dk_43 (dk_at dksX12_two_1 9 rfl rfl)
theorem dX12_two_33 : decode cX12_two 33 = .ok (.iconst 2, 1) := dk_5 (dk_at dksX12_two_1 10 rfl rfl)
theorem dX12_two_34 : decode cX12_two 34 = .ok (.newarray .int, 2) := dk_188_10 (dk_at dksX12_two_1 11 rfl rfl)
theorem dX12_two_36 : decode cX12_two 36 = .ok (.dup, 1) := dk_89 (dk_at dksX12_two_1 13 rfl rfl)
theorem dX12_two_37 : decode cX12_two 37 = .ok (.iconst 0, 1) := dk_3 (dk_at dksX12_two_1 14 rfl rfl)
theorem dX12_two_38 : decode cX12_two 38 = .ok (.iload 6, 2) := dk_21 6 (dk_at dksX12_two_1 15 rfl rfl)
theorem dX12_two_40 : decode cX12_two 40 = .ok (.iastore, 1) := dk_79 (dk_at dksX12_two_1 17 rfl rfl)
theorem dX12_two_41 : decode cX12_two 41 = .ok (.dup, 1) := dk_89 (dk_at dksX12_two_1 18 rfl rfl)
theorem dX12_two_42 : decode cX12_two 42 = .ok (.iconst 1, 1) := dk_4 (dk_at dksX12_two_1 19 rfl rfl)
theorem dX12_two_43 : decode cX12_two 43 = .ok (.iload 5, 2) := dk_21 5 (dk_at dksX12_two_1 20 rfl rfl)
theorem dX12_two_45 : decode cX12_two 45 = .ok (.ifCond .eq 10, 3) := dk_153 0 10 (dk_at dksX12_two_2 0 rfl rfl)
theorem dX12_two_48 : decode cX12_two 48 = .ok (.aload_n 0, 1) := dk_42 (dk_at dksX12_two_2 3 rfl rfl)
theorem dX12_two_49 : decode cX12_two 49 = .ok (.invokevirtual 51, 3) := dk_182 0 51 (dk_at dksX12_two_2 4 rfl rfl)
theorem dX12_two_52 : decode cX12_two 52 = .ok (.goto 7, 3) := dk_167 0 7 (dk_at dksX12_two_2 7 rfl rfl)
theorem dX12_two_55 : decode cX12_two 55 = .ok (.aload_n 0, 1) := dk_42 (dk_at dksX12_two_2 10 rfl rfl)
theorem dX12_two_56 : decode cX12_two 56 = .ok (.invokevirtual 44, 3) := dk_182 0 44 (dk_at dksX12_two_2 11 rfl rfl)
theorem dX12_two_59 : decode cX12_two 59 = .ok (.iastore, 1) := dk_79 (dk_at dksX12_two_2 14 rfl rfl)
theorem dX12_two_60 : decode cX12_two 60 = .ok (.invokespecial 56, 3) := dk_183 0 56 (dk_at dksX12_two_2 15 rfl rfl)
theorem dX12_two_63 : decode cX12_two 63 = .ok (.areturn, 1) := dk_176 (dk_at dksX12_two_2 18 rfl rfl)
abbrev cX12_word : ByteArray := prog_9_method_5_code
def yX12_word : MethodName := ⟨RX12, "word", "(Ljava/lang/String;)V"⟩
def dkwX12_word_1 : List UInt8 := [132, 2, 1, 167, 255, 232, 177]
abbrev dktX12_word_1 : List UInt8 := dkwX12_word_1 ++ []
def dkwX12_word_0 : List UInt8 := [3, 61, 28, 43, 182, 0, 17, 162, 0, 22, 42, 42, 43, 28, 182, 0, 23, 182, 0, 36, 182, 0, 40]
abbrev dktX12_word_0 : List UInt8 := dkwX12_word_0 ++ dktX12_word_1
theorem dksX12_word_0 : cX12_word.data.toList.drop 0 = dktX12_word_0 := by decide +kernel
theorem dksX12_word_1 : cX12_word.data.toList.drop 23 = dktX12_word_1 := dk_seg dksX12_word_0 23 rfl rfl
theorem dX12_word_0 : decode cX12_word 0 = .ok (.iconst 0, 1) := dk_3 (dk_at dksX12_word_0 0 rfl rfl)
theorem dX12_word_1 : decode cX12_word 1 = .ok (.istore_n 2, 1) := dk_61 (dk_at dksX12_word_0 1 rfl rfl)
theorem dX12_word_2 : decode cX12_word 2 = .ok (.iload_n 2, 1) := dk_28 (dk_at dksX12_word_0 2 rfl rfl)
theorem dX12_word_3 : decode cX12_word 3 = .ok (.aload_n 1, 1) := dk_43 (dk_at dksX12_word_0 3 rfl rfl)
theorem dX12_word_4 : decode cX12_word 4 = .ok (.invokevirtual 17, 3) := dk_182 0 17 (dk_at dksX12_word_0 4 rfl rfl)
theorem dX12_word_7 : decode cX12_word 7 = .ok (.if_icmp .ge 22, 3) := dk_162 0 22 (dk_at dksX12_word_0 7 rfl rfl)
theorem dX12_word_10 : decode cX12_word 10 = .ok (.aload_n 0, 1) := dk_42 (dk_at dksX12_word_0 10 rfl rfl)
theorem dX12_word_11 : decode cX12_word 11 = .ok (.aload_n 0, 1) := dk_42 (dk_at dksX12_word_0 11 rfl rfl)
theorem dX12_word_12 : decode cX12_word 12 = .ok (.aload_n 1, 1) := dk_43 (dk_at dksX12_word_0 12 rfl rfl)
theorem dX12_word_13 : decode cX12_word 13 = .ok (.iload_n 2, 1) := dk_28 (dk_at dksX12_word_0 13 rfl rfl)
theorem dX12_word_14 : decode cX12_word 14 = .ok (.invokevirtual 23, 3) := dk_182 0 23 (dk_at dksX12_word_0 14 rfl rfl)
theorem dX12_word_17 : decode cX12_word 17 = .ok (.invokevirtual 36, 3) := dk_182 0 36 (dk_at dksX12_word_0 17 rfl rfl)
theorem dX12_word_20 : decode cX12_word 20 = .ok (.invokevirtual 40, 3) := dk_182 0 40 (dk_at dksX12_word_0 20 rfl rfl)
theorem dX12_word_23 : decode cX12_word 23 = .ok (.iinc 2 1, 3) := dk_132 2 1 (dk_at dksX12_word_1 0 rfl rfl)
theorem dX12_word_26 : decode cX12_word 26 = .ok (.goto (-24), 3) := dk_167 255 232 (dk_at dksX12_word_1 3 rfl rfl)
theorem dX12_word_29 : decode cX12_word 29 = .ok (.return_, 1) := dk_177 (dk_at dksX12_word_1 6 rfl rfl)
abbrev cX12_expect : ByteArray := prog_9_method_4_code
def yX12_expect : MethodName := ⟨RX12, "expect", "(Z)V"⟩
def dkwX12_expect_0 : List UInt8 := [27, 154, 0, 15, 187, 0, 31, 89, 42, 180, 0, 13, 183, 0, 33, 191, 177]
abbrev dktX12_expect_0 : List UInt8 := dkwX12_expect_0 ++ []
theorem dksX12_expect_0 : cX12_expect.data.toList.drop 0 = dktX12_expect_0 := by decide +kernel
theorem dX12_expect_0 : decode cX12_expect 0 = .ok (.iload_n 1, 1) := dk_27 (dk_at dksX12_expect_0 0 rfl rfl)
theorem dX12_expect_1 : decode cX12_expect 1 = .ok (.ifCond .ne 15, 3) := dk_154 0 15 (dk_at dksX12_expect_0 1 rfl rfl)
theorem dX12_expect_4 : decode cX12_expect 4 = .ok (.new 31, 3) := dk_187 0 31 (dk_at dksX12_expect_0 4 rfl rfl)
theorem dX12_expect_7 : decode cX12_expect 7 = .ok (.dup, 1) := dk_89 (dk_at dksX12_expect_0 7 rfl rfl)
theorem dX12_expect_8 : decode cX12_expect 8 = .ok (.aload_n 0, 1) := dk_42 (dk_at dksX12_expect_0 8 rfl rfl)
theorem dX12_expect_9 : decode cX12_expect 9 = .ok (.getfield 13, 3) := dk_180 0 13 (dk_at dksX12_expect_0 9 rfl rfl)
theorem dX12_expect_12 : decode cX12_expect 12 = .ok (.invokespecial 33, 3) := dk_183 0 33 (dk_at dksX12_expect_0 12 rfl rfl)
theorem dX12_expect_15 : decode cX12_expect 15 = .ok (.athrow, 1) := dk_191 (dk_at dksX12_expect_0 15 rfl rfl)
theorem dX12_expect_16 : decode cX12_expect 16 = .ok (.return_, 1) := dk_177 (dk_at dksX12_expect_0 16 rfl rfl)
abbrev cX12_number : ByteArray := prog_9_method_7_code
def yX12_number : MethodName := ⟨RX12, "number", "()I"⟩
def dkwX12_number_1 : List UInt8 := [16, 10, 27, 104, 42, 182, 0, 44, 96, 60, 132, 2, 1, 167, 255, 227, 27, 172]
abbrev dktX12_number_1 : List UInt8 := dkwX12_number_1 ++ []
def dkwX12_number_0 : List UInt8 := [42, 182, 0, 44, 60, 4, 61, 28, 6, 162, 0, 30, 42, 16, 48, 16, 57, 182, 0, 27, 153, 0, 19]
abbrev dktX12_number_0 : List UInt8 := dkwX12_number_0 ++ dktX12_number_1
theorem dksX12_number_0 : cX12_number.data.toList.drop 0 = dktX12_number_0 := by decide +kernel
theorem dksX12_number_1 : cX12_number.data.toList.drop 23 = dktX12_number_1 := dk_seg dksX12_number_0 23 rfl rfl
theorem dX12_number_0 : decode cX12_number 0 = .ok (.aload_n 0, 1) := dk_42 (dk_at dksX12_number_0 0 rfl rfl)
theorem dX12_number_1 : decode cX12_number 1 = .ok (.invokevirtual 44, 3) := dk_182 0 44 (dk_at dksX12_number_0 1 rfl rfl)
theorem dX12_number_4 : decode cX12_number 4 = .ok (.istore_n 1, 1) := dk_60 (dk_at dksX12_number_0 4 rfl rfl)
theorem dX12_number_5 : decode cX12_number 5 = .ok (.iconst 1, 1) := dk_4 (dk_at dksX12_number_0 5 rfl rfl)
theorem dX12_number_6 : decode cX12_number 6 = .ok (.istore_n 2, 1) := dk_61 (dk_at dksX12_number_0 6 rfl rfl)
theorem dX12_number_7 : decode cX12_number 7 = .ok (.iload_n 2, 1) := dk_28 (dk_at dksX12_number_0 7 rfl rfl)
theorem dX12_number_8 : decode cX12_number 8 = .ok (.iconst 3, 1) := dk_6 (dk_at dksX12_number_0 8 rfl rfl)
theorem dX12_number_9 : decode cX12_number 9 = .ok (.if_icmp .ge 30, 3) := dk_162 0 30 (dk_at dksX12_number_0 9 rfl rfl)
theorem dX12_number_12 : decode cX12_number 12 = .ok (.aload_n 0, 1) := dk_42 (dk_at dksX12_number_0 12 rfl rfl)
theorem dX12_number_13 : decode cX12_number 13 = .ok (.bipush 48, 2) := dk_16 48 (dk_at dksX12_number_0 13 rfl rfl)
theorem dX12_number_15 : decode cX12_number 15 = .ok (.bipush 57, 2) := dk_16 57 (dk_at dksX12_number_0 15 rfl rfl)
theorem dX12_number_17 : decode cX12_number 17 = .ok (.invokevirtual 27, 3) := dk_182 0 27 (dk_at dksX12_number_0 17 rfl rfl)
theorem dX12_number_20 : decode cX12_number 20 = .ok (.ifCond .eq 19, 3) := dk_153 0 19 (dk_at dksX12_number_0 20 rfl rfl)
theorem dX12_number_23 : decode cX12_number 23 = .ok (.bipush 10, 2) := dk_16 10 (dk_at dksX12_number_1 0 rfl rfl)
theorem dX12_number_25 : decode cX12_number 25 = .ok (.iload_n 1, 1) := dk_27 (dk_at dksX12_number_1 2 rfl rfl)
theorem dX12_number_26 : decode cX12_number 26 = .ok (.imul, 1) := dk_104 (dk_at dksX12_number_1 3 rfl rfl)
theorem dX12_number_27 : decode cX12_number 27 = .ok (.aload_n 0, 1) := dk_42 (dk_at dksX12_number_1 4 rfl rfl)
theorem dX12_number_28 : decode cX12_number 28 = .ok (.invokevirtual 44, 3) := dk_182 0 44 (dk_at dksX12_number_1 5 rfl rfl)
theorem dX12_number_31 : decode cX12_number 31 = .ok (.iadd, 1) := dk_96 (dk_at dksX12_number_1 8 rfl rfl)
theorem dX12_number_32 : decode cX12_number 32 = .ok (.istore_n 1, 1) := dk_60 (dk_at dksX12_number_1 9 rfl rfl)
theorem dX12_number_33 : decode cX12_number 33 = .ok (.iinc 2 1, 3) := dk_132 2 1 (dk_at dksX12_number_1 10 rfl rfl)
theorem dX12_number_36 : decode cX12_number 36 = .ok (.goto (-29), 3) := dk_167 255 227 (dk_at dksX12_number_1 13 rfl rfl)
theorem dX12_number_39 : decode cX12_number 39 = .ok (.iload_n 1, 1) := dk_27 (dk_at dksX12_number_1 16 rfl rfl)
theorem dX12_number_40 : decode cX12_number 40 = .ok (.ireturn, 1) := dk_172 (dk_at dksX12_number_1 17 rfl rfl)
abbrev cX12_digit : ByteArray := prog_9_method_6_code
def yX12_digit : MethodName := ⟨RX12, "digit", "()I"⟩
def dkwX12_digit_1 : List UInt8 := [180, 0, 7, 42, 180, 0, 13, 4, 100, 182, 0, 23, 16, 48, 100, 172]
abbrev dktX12_digit_1 : List UInt8 := dkwX12_digit_1 ++ []
def dkwX12_digit_0 : List UInt8 := [42, 42, 16, 48, 16, 57, 182, 0, 27, 182, 0, 40, 42, 89, 180, 0, 13, 4, 96, 181, 0, 13, 42]
abbrev dktX12_digit_0 : List UInt8 := dkwX12_digit_0 ++ dktX12_digit_1
theorem dksX12_digit_0 : cX12_digit.data.toList.drop 0 = dktX12_digit_0 := by decide +kernel
theorem dksX12_digit_1 : cX12_digit.data.toList.drop 23 = dktX12_digit_1 := dk_seg dksX12_digit_0 23 rfl rfl
theorem dX12_digit_0 : decode cX12_digit 0 = .ok (.aload_n 0, 1) := dk_42 (dk_at dksX12_digit_0 0 rfl rfl)
theorem dX12_digit_1 : decode cX12_digit 1 = .ok (.aload_n 0, 1) := dk_42 (dk_at dksX12_digit_0 1 rfl rfl)
theorem dX12_digit_2 : decode cX12_digit 2 = .ok (.bipush 48, 2) := dk_16 48 (dk_at dksX12_digit_0 2 rfl rfl)
theorem dX12_digit_4 : decode cX12_digit 4 = .ok (.bipush 57, 2) := dk_16 57 (dk_at dksX12_digit_0 4 rfl rfl)
theorem dX12_digit_6 : decode cX12_digit 6 = .ok (.invokevirtual 27, 3) := dk_182 0 27 (dk_at dksX12_digit_0 6 rfl rfl)
theorem dX12_digit_9 : decode cX12_digit 9 = .ok (.invokevirtual 40, 3) := dk_182 0 40 (dk_at dksX12_digit_0 9 rfl rfl)
theorem dX12_digit_12 : decode cX12_digit 12 = .ok (.aload_n 0, 1) := dk_42 (dk_at dksX12_digit_0 12 rfl rfl)
theorem dX12_digit_13 : decode cX12_digit 13 = .ok (.dup, 1) := dk_89 (dk_at dksX12_digit_0 13 rfl rfl)
theorem dX12_digit_14 : decode cX12_digit 14 = .ok (.getfield 13, 3) := dk_180 0 13 (dk_at dksX12_digit_0 14 rfl rfl)
theorem dX12_digit_17 : decode cX12_digit 17 = .ok (.iconst 1, 1) := dk_4 (dk_at dksX12_digit_0 17 rfl rfl)
theorem dX12_digit_18 : decode cX12_digit 18 = .ok (.iadd, 1) := dk_96 (dk_at dksX12_digit_0 18 rfl rfl)
theorem dX12_digit_19 : decode cX12_digit 19 = .ok (.putfield 13, 3) := dk_181 0 13 (dk_at dksX12_digit_0 19 rfl rfl)
theorem dX12_digit_22 : decode cX12_digit 22 = .ok (.aload_n 0, 1) := dk_42 (dk_at dksX12_digit_0 22 rfl rfl)
theorem dX12_digit_23 : decode cX12_digit 23 = .ok (.getfield 7, 3) := dk_180 0 7 (dk_at dksX12_digit_1 0 rfl rfl)
theorem dX12_digit_26 : decode cX12_digit 26 = .ok (.aload_n 0, 1) := dk_42 (dk_at dksX12_digit_1 3 rfl rfl)
theorem dX12_digit_27 : decode cX12_digit 27 = .ok (.getfield 13, 3) := dk_180 0 13 (dk_at dksX12_digit_1 4 rfl rfl)
theorem dX12_digit_30 : decode cX12_digit 30 = .ok (.iconst 1, 1) := dk_4 (dk_at dksX12_digit_1 7 rfl rfl)
theorem dX12_digit_31 : decode cX12_digit 31 = .ok (.isub, 1) := dk_100 (dk_at dksX12_digit_1 8 rfl rfl)
theorem dX12_digit_32 : decode cX12_digit 32 = .ok (.invokevirtual 23, 3) := dk_182 0 23 (dk_at dksX12_digit_1 9 rfl rfl)
theorem dX12_digit_35 : decode cX12_digit 35 = .ok (.bipush 48, 2) := dk_16 48 (dk_at dksX12_digit_1 12 rfl rfl)
theorem dX12_digit_37 : decode cX12_digit 37 = .ok (.isub, 1) := dk_100 (dk_at dksX12_digit_1 14 rfl rfl)
theorem dX12_digit_38 : decode cX12_digit 38 = .ok (.ireturn, 1) := dk_172 (dk_at dksX12_digit_1 15 rfl rfl)
abbrev cX12_withW : ByteArray := prog_9_method_9_code
def yX12_withW : MethodName := ⟨RX12, "withW", "()LHorsehairTrade$Order;"⟩
def dkwX12_withW_2 : List UInt8 := [176]
abbrev dktX12_withW_2 : List UInt8 := dkwX12_withW_2 ++ []
def dkwX12_withW_1 : List UInt8 := [18, 69, 182, 0, 47, 187, 0, 54, 89, 18, 71, 4, 188, 10, 89, 3, 42, 182, 0, 44, 79, 183, 0, 56]
abbrev dktX12_withW_1 : List UInt8 := dkwX12_withW_1 ++ dktX12_withW_2
def dkwX12_withW_0 : List UInt8 := [42, 16, 101, 182, 0, 36, 153, 0, 16, 42, 18, 59, 18, 61, 4, 18, 63, 3, 182, 0, 65, 176, 42]
abbrev dktX12_withW_0 : List UInt8 := dkwX12_withW_0 ++ dktX12_withW_1
theorem dksX12_withW_0 : cX12_withW.data.toList.drop 0 = dktX12_withW_0 := by decide +kernel
theorem dksX12_withW_1 : cX12_withW.data.toList.drop 23 = dktX12_withW_1 := dk_seg dksX12_withW_0 23 rfl rfl
theorem dksX12_withW_2 : cX12_withW.data.toList.drop 47 = dktX12_withW_2 := dk_seg dksX12_withW_1 24 rfl rfl
theorem dX12_withW_0 : decode cX12_withW 0 = .ok (.aload_n 0, 1) := dk_42 (dk_at dksX12_withW_0 0 rfl rfl)
theorem dX12_withW_1 : decode cX12_withW 1 = .ok (.bipush 101, 2) := dk_16 101 (dk_at dksX12_withW_0 1 rfl rfl)
theorem dX12_withW_3 : decode cX12_withW 3 = .ok (.invokevirtual 36, 3) := dk_182 0 36 (dk_at dksX12_withW_0 3 rfl rfl)
theorem dX12_withW_6 : decode cX12_withW 6 = .ok (.ifCond .eq 16, 3) := dk_153 0 16 (dk_at dksX12_withW_0 6 rfl rfl)
theorem dX12_withW_9 : decode cX12_withW 9 = .ok (.aload_n 0, 1) := dk_42 (dk_at dksX12_withW_0 9 rfl rfl)
theorem dX12_withW_10 : decode cX12_withW 10 = .ok (.ldc 59, 2) := dk_18 59 (dk_at dksX12_withW_0 10 rfl rfl)
theorem dX12_withW_12 : decode cX12_withW 12 = .ok (.ldc 61, 2) := dk_18 61 (dk_at dksX12_withW_0 12 rfl rfl)
theorem dX12_withW_14 : decode cX12_withW 14 = .ok (.iconst 1, 1) := dk_4 (dk_at dksX12_withW_0 14 rfl rfl)
theorem dX12_withW_15 : decode cX12_withW 15 = .ok (.ldc 63, 2) := dk_18 63 (dk_at dksX12_withW_0 15 rfl rfl)
theorem dX12_withW_17 : decode cX12_withW 17 = .ok (.iconst 0, 1) := dk_3 (dk_at dksX12_withW_0 17 rfl rfl)
theorem dX12_withW_18 : decode cX12_withW 18 = .ok (.invokevirtual 65, 3) := dk_182 0 65 (dk_at dksX12_withW_0 18 rfl rfl)
theorem dX12_withW_21 : decode cX12_withW 21 = .ok (.areturn, 1) := dk_176 (dk_at dksX12_withW_0 21 rfl rfl)
theorem dX12_withW_22 : decode cX12_withW 22 = .ok (.aload_n 0, 1) := dk_42 (dk_at dksX12_withW_0 22 rfl rfl)
theorem dX12_withW_23 : decode cX12_withW 23 = .ok (.ldc 69, 2) := dk_18 69 (dk_at dksX12_withW_1 0 rfl rfl)
theorem dX12_withW_25 : decode cX12_withW 25 = .ok (.invokevirtual 47, 3) := dk_182 0 47 (dk_at dksX12_withW_1 2 rfl rfl)
theorem dX12_withW_28 : decode cX12_withW 28 = .ok (.new 54, 3) := dk_187 0 54 (dk_at dksX12_withW_1 5 rfl rfl)
theorem dX12_withW_31 : decode cX12_withW 31 = .ok (.dup, 1) := dk_89 (dk_at dksX12_withW_1 8 rfl rfl)
theorem dX12_withW_32 : decode cX12_withW 32 = .ok (.ldc 71, 2) := dk_18 71 (dk_at dksX12_withW_1 9 rfl rfl)
theorem dX12_withW_34 : decode cX12_withW 34 = .ok (.iconst 1, 1) := dk_4 (dk_at dksX12_withW_1 11 rfl rfl)
theorem dX12_withW_35 : decode cX12_withW 35 = .ok (.newarray .int, 2) := dk_188_10 (dk_at dksX12_withW_1 12 rfl rfl)
theorem dX12_withW_37 : decode cX12_withW 37 = .ok (.dup, 1) := dk_89 (dk_at dksX12_withW_1 14 rfl rfl)
theorem dX12_withW_38 : decode cX12_withW 38 = .ok (.iconst 0, 1) := dk_3 (dk_at dksX12_withW_1 15 rfl rfl)
theorem dX12_withW_39 : decode cX12_withW 39 = .ok (.aload_n 0, 1) := dk_42 (dk_at dksX12_withW_1 16 rfl rfl)
theorem dX12_withW_40 : decode cX12_withW 40 = .ok (.invokevirtual 44, 3) := dk_182 0 44 (dk_at dksX12_withW_1 17 rfl rfl)
theorem dX12_withW_43 : decode cX12_withW 43 = .ok (.iastore, 1) := dk_79 (dk_at dksX12_withW_1 20 rfl rfl)
theorem dX12_withW_44 : decode cX12_withW 44 = .ok (.invokespecial 56, 3) := dk_183 0 56 (dk_at dksX12_withW_1 21 rfl rfl)
theorem dX12_withW_47 : decode cX12_withW 47 = .ok (.areturn, 1) := dk_176 (dk_at dksX12_withW_2 0 rfl rfl)
theorem q111 : (Jvm.Cond.initialized "HorsehairTrade$Reader") ∈ lw_all := lw_g (lw_at lw_m1 45 rfl) rfl
theorem q957 : (Jvm.Cond.selects "HorsehairTrade$Reader" ({ cls := "java/lang/Object", name := "getClass", desc := "()Ljava/lang/Class;" } : Jvm.MethodName) ({ cls := "java/lang/Object", name := "getClass", desc := "()Ljava/lang/Class;" } : Jvm.MethodName)) ∈ lw_all := lw_g (lw_at lw_m4 171 rfl) rfl
theorem q2029 : (Jvm.Cond.instantiable "HorsehairTrade$Reader" (2 : Nat)) ∈ lw_all := lw_g (lw_at lw_m9 43 rfl) rfl
theorem q2031 : (Jvm.Cond.instanceMethod ({ cls := "HorsehairTrade$Reader", name := "<init>", desc := "(Ljava/lang/String;)V" } : Jvm.MethodName)) ∈ lw_all := lw_g (lw_at lw_m9 45 rfl) rfl
theorem q2032 : (Jvm.Cond.code ({ cls := "HorsehairTrade$Reader", name := "<init>", desc := "(Ljava/lang/String;)V" } : Jvm.MethodName) prog_9_method_1_code (2 : Nat) (Option.none : Option Jvm.ClassFile.FieldType)) ∈ lw_all := lw_g (lw_at lw_m9 46 rfl) rfl
theorem q2033 : (Jvm.Cond.methodLink "HorsehairTrade$Reader" (1 : Nat) ({ cls := "java/lang/Object", name := "<init>", desc := "()V" } : Jvm.MethodName)) ∈ lw_all := lw_g (lw_at lw_m9 47 rfl) rfl
theorem q2034 : (Jvm.Cond.fieldLink "HorsehairTrade$Reader" (7 : Nat) "HorsehairTrade$Reader" "text" "Ljava/lang/String;") ∈ lw_all := lw_g (lw_at lw_m9 48 rfl) rfl
theorem q2035 : (Jvm.Cond.fieldLink "HorsehairTrade$Reader" (13 : Nat) "HorsehairTrade$Reader" "at" "I") ∈ lw_all := lw_g (lw_at lw_m9 49 rfl) rfl
theorem q2036 : (Jvm.Cond.laysFinal "HorsehairTrade$Reader" "HorsehairTrade$Reader" "text" "Ljava/lang/String;") ∈ lw_all := lw_g (lw_at lw_m9 50 rfl) rfl
theorem q2037 : (Jvm.Cond.soleField "HorsehairTrade$Reader" "text") ∈ lw_all := lw_g (lw_at lw_m9 51 rfl) rfl
theorem q2038 : (Jvm.Cond.lays "HorsehairTrade$Reader" "HorsehairTrade$Reader" "at" "I") ∈ lw_all := lw_g (lw_at lw_m9 52 rfl) rfl
theorem q2039 : (Jvm.Cond.soleField "HorsehairTrade$Reader" "at") ∈ lw_all := lw_g (lw_at lw_m9 53 rfl) rfl
theorem q2040 : (Jvm.Cond.superclass "HorsehairTrade$Reader" "java/lang/Object") ∈ lw_all := lw_g (lw_at lw_m9 54 rfl) rfl
theorem q2094 : (Jvm.Cond.instanceMethod ({ cls := "HorsehairTrade$Reader", name := "whole", desc := "()Ljava/util/List;" } : Jvm.MethodName)) ∈ lw_all := lw_g (lw_at lw_m9 108 rfl) rfl
theorem q2095 : (Jvm.Cond.selects "HorsehairTrade$Reader" ({ cls := "HorsehairTrade$Reader", name := "whole", desc := "()Ljava/util/List;" } : Jvm.MethodName) ({ cls := "HorsehairTrade$Reader", name := "whole", desc := "()Ljava/util/List;" } : Jvm.MethodName)) ∈ lw_all := lw_g (lw_at lw_m9 109 rfl) rfl
theorem q2096 : (Jvm.Cond.code ({ cls := "HorsehairTrade$Reader", name := "whole", desc := "()Ljava/util/List;" } : Jvm.MethodName) prog_9_method_11_code (2 : Nat) (Option.some (Jvm.ClassFile.FieldType.object "java/util/List"))) ∈ lw_all := lw_g (lw_at lw_m9 110 rfl) rfl
theorem q2097 : (Jvm.Cond.classLink "HorsehairTrade$Reader" (111 : Nat) "java/util/ArrayList") ∈ lw_all := lw_g (lw_at lw_m9 111 rfl) rfl
theorem q2098 : (Jvm.Cond.methodLink "HorsehairTrade$Reader" (113 : Nat) ({ cls := "java/util/ArrayList", name := "<init>", desc := "()V" } : Jvm.MethodName)) ∈ lw_all := lw_g (lw_at lw_m9 112 rfl) rfl
theorem q2099 : (Jvm.Cond.methodLink "HorsehairTrade$Reader" (114 : Nat) ({ cls := "HorsehairTrade$Reader", name := "order", desc := "()LHorsehairTrade$Order;" } : Jvm.MethodName)) ∈ lw_all := lw_g (lw_at lw_m9 113 rfl) rfl
theorem q2100 : (Jvm.Cond.privateMethod ({ cls := "HorsehairTrade$Reader", name := "order", desc := "()LHorsehairTrade$Order;" } : Jvm.MethodName)) ∈ lw_tbl := lw_at lw_m9 114 rfl
theorem q2101 : (Jvm.Cond.instanceMethod ({ cls := "HorsehairTrade$Reader", name := "order", desc := "()LHorsehairTrade$Order;" } : Jvm.MethodName)) ∈ lw_all := lw_g (lw_at lw_m9 115 rfl) rfl
theorem q2102 : (Jvm.Cond.code ({ cls := "HorsehairTrade$Reader", name := "order", desc := "()LHorsehairTrade$Order;" } : Jvm.MethodName) prog_9_method_10_code (1 : Nat) (Option.some (Jvm.ClassFile.FieldType.object "HorsehairTrade$Order"))) ∈ lw_all := lw_g (lw_at lw_m9 116 rfl) rfl
theorem q2103 : (Jvm.Cond.methodLink "HorsehairTrade$Reader" (36 : Nat) ({ cls := "HorsehairTrade$Reader", name := "passes", desc := "(C)Z" } : Jvm.MethodName)) ∈ lw_all := lw_g (lw_at lw_m9 117 rfl) rfl
theorem q2104 : (Jvm.Cond.privateMethod ({ cls := "HorsehairTrade$Reader", name := "passes", desc := "(C)Z" } : Jvm.MethodName)) ∈ lw_tbl := lw_at lw_m9 118 rfl
theorem q2105 : (Jvm.Cond.instanceMethod ({ cls := "HorsehairTrade$Reader", name := "passes", desc := "(C)Z" } : Jvm.MethodName)) ∈ lw_all := lw_g (lw_at lw_m9 119 rfl) rfl
theorem q2106 : (Jvm.Cond.code ({ cls := "HorsehairTrade$Reader", name := "passes", desc := "(C)Z" } : Jvm.MethodName) prog_9_method_3_code (3 : Nat) (Option.some Jvm.ClassFile.FieldType.boolean)) ∈ lw_all := lw_g (lw_at lw_m9 120 rfl) rfl
theorem q2107 : (Jvm.Cond.methodLink "HorsehairTrade$Reader" (27 : Nat) ({ cls := "HorsehairTrade$Reader", name := "isNext", desc := "(CC)Z" } : Jvm.MethodName)) ∈ lw_all := lw_g (lw_at lw_m9 121 rfl) rfl
theorem q2108 : (Jvm.Cond.privateMethod ({ cls := "HorsehairTrade$Reader", name := "isNext", desc := "(CC)Z" } : Jvm.MethodName)) ∈ lw_tbl := lw_at lw_m9 122 rfl
theorem q2109 : (Jvm.Cond.instanceMethod ({ cls := "HorsehairTrade$Reader", name := "isNext", desc := "(CC)Z" } : Jvm.MethodName)) ∈ lw_all := lw_g (lw_at lw_m9 123 rfl) rfl
theorem q2110 : (Jvm.Cond.code ({ cls := "HorsehairTrade$Reader", name := "isNext", desc := "(CC)Z" } : Jvm.MethodName) prog_9_method_2_code (3 : Nat) (Option.some Jvm.ClassFile.FieldType.boolean)) ∈ lw_all := lw_g (lw_at lw_m9 124 rfl) rfl
theorem q2111 : (Jvm.Cond.methodLink "HorsehairTrade$Reader" (17 : Nat) ({ cls := "java/lang/String", name := "length", desc := "()I" } : Jvm.MethodName)) ∈ lw_all := lw_g (lw_at lw_m9 125 rfl) rfl
theorem q2112 : (Jvm.Cond.methodLink "HorsehairTrade$Reader" (23 : Nat) ({ cls := "java/lang/String", name := "charAt", desc := "(I)C" } : Jvm.MethodName)) ∈ lw_all := lw_g (lw_at lw_m9 126 rfl) rfl
theorem q2113 : (Jvm.Cond.stringRef "HorsehairTrade$Reader" (73 : Nat) "comb") ∈ lw_tbl := lw_at lw_m9 127 rfl
theorem q2114 : (Jvm.Cond.stringRef "HorsehairTrade$Reader" (75 : Nat) "omb ") ∈ lw_tbl := lw_at lw_m9 128 rfl
theorem q2115 : (Jvm.Cond.stringRef "HorsehairTrade$Reader" (77 : Nat) ":") ∈ lw_tbl := lw_at lw_m9 129 rfl
theorem q2116 : (Jvm.Cond.methodLink "HorsehairTrade$Reader" (65 : Nat) ({ cls := "HorsehairTrade$Reader", name := "two", desc := "(Ljava/lang/String;Ljava/lang/String;ZLjava/lang/String;Z)LHorsehairTrade$Order;" } : Jvm.MethodName)) ∈ lw_all := lw_g (lw_at lw_m9 130 rfl) rfl
theorem q2117 : (Jvm.Cond.privateMethod ({ cls := "HorsehairTrade$Reader", name := "two", desc := "(Ljava/lang/String;Ljava/lang/String;ZLjava/lang/String;Z)LHorsehairTrade$Order;" } : Jvm.MethodName)) ∈ lw_tbl := lw_at lw_m9 131 rfl
theorem q2118 : (Jvm.Cond.instanceMethod ({ cls := "HorsehairTrade$Reader", name := "two", desc := "(Ljava/lang/String;Ljava/lang/String;ZLjava/lang/String;Z)LHorsehairTrade$Order;" } : Jvm.MethodName)) ∈ lw_all := lw_g (lw_at lw_m9 132 rfl) rfl
theorem q2119 : (Jvm.Cond.code ({ cls := "HorsehairTrade$Reader", name := "two", desc := "(Ljava/lang/String;Ljava/lang/String;ZLjava/lang/String;Z)LHorsehairTrade$Order;" } : Jvm.MethodName) prog_9_method_8_code (7 : Nat) (Option.some (Jvm.ClassFile.FieldType.object "HorsehairTrade$Order"))) ∈ lw_all := lw_g (lw_at lw_m9 133 rfl) rfl
theorem q2120 : (Jvm.Cond.methodLink "HorsehairTrade$Reader" (47 : Nat) ({ cls := "HorsehairTrade$Reader", name := "word", desc := "(Ljava/lang/String;)V" } : Jvm.MethodName)) ∈ lw_all := lw_g (lw_at lw_m9 134 rfl) rfl
theorem q2121 : (Jvm.Cond.privateMethod ({ cls := "HorsehairTrade$Reader", name := "word", desc := "(Ljava/lang/String;)V" } : Jvm.MethodName)) ∈ lw_tbl := lw_at lw_m9 135 rfl
theorem q2122 : (Jvm.Cond.instanceMethod ({ cls := "HorsehairTrade$Reader", name := "word", desc := "(Ljava/lang/String;)V" } : Jvm.MethodName)) ∈ lw_all := lw_g (lw_at lw_m9 136 rfl) rfl
theorem q2123 : (Jvm.Cond.code ({ cls := "HorsehairTrade$Reader", name := "word", desc := "(Ljava/lang/String;)V" } : Jvm.MethodName) prog_9_method_5_code (3 : Nat) (Option.none : Option Jvm.ClassFile.FieldType)) ∈ lw_all := lw_g (lw_at lw_m9 137 rfl) rfl
theorem q2124 : (Jvm.Cond.methodLink "HorsehairTrade$Reader" (40 : Nat) ({ cls := "HorsehairTrade$Reader", name := "expect", desc := "(Z)V" } : Jvm.MethodName)) ∈ lw_all := lw_g (lw_at lw_m9 138 rfl) rfl
theorem q2125 : (Jvm.Cond.privateMethod ({ cls := "HorsehairTrade$Reader", name := "expect", desc := "(Z)V" } : Jvm.MethodName)) ∈ lw_tbl := lw_at lw_m9 139 rfl
theorem q2126 : (Jvm.Cond.instanceMethod ({ cls := "HorsehairTrade$Reader", name := "expect", desc := "(Z)V" } : Jvm.MethodName)) ∈ lw_all := lw_g (lw_at lw_m9 140 rfl) rfl
theorem q2127 : (Jvm.Cond.code ({ cls := "HorsehairTrade$Reader", name := "expect", desc := "(Z)V" } : Jvm.MethodName) prog_9_method_4_code (2 : Nat) (Option.none : Option Jvm.ClassFile.FieldType)) ∈ lw_all := lw_g (lw_at lw_m9 141 rfl) rfl
theorem q2128 : (Jvm.Cond.classLink "HorsehairTrade$Reader" (31 : Nat) "HorsehairTrade$TextException") ∈ lw_all := lw_g (lw_at lw_m9 142 rfl) rfl
theorem q2137 : (Jvm.Cond.methodLink "HorsehairTrade$Reader" (33 : Nat) ({ cls := "HorsehairTrade$TextException", name := "<init>", desc := "(I)V" } : Jvm.MethodName)) ∈ lw_all := lw_g (lw_at lw_m9 151 rfl) rfl
theorem q2147 : (Jvm.Cond.methodLink "HorsehairTrade$Reader" (51 : Nat) ({ cls := "HorsehairTrade$Reader", name := "number", desc := "()I" } : Jvm.MethodName)) ∈ lw_all := lw_g (lw_at lw_m9 161 rfl) rfl
theorem q2148 : (Jvm.Cond.privateMethod ({ cls := "HorsehairTrade$Reader", name := "number", desc := "()I" } : Jvm.MethodName)) ∈ lw_tbl := lw_at lw_m9 162 rfl
theorem q2149 : (Jvm.Cond.instanceMethod ({ cls := "HorsehairTrade$Reader", name := "number", desc := "()I" } : Jvm.MethodName)) ∈ lw_all := lw_g (lw_at lw_m9 163 rfl) rfl
theorem q2150 : (Jvm.Cond.code ({ cls := "HorsehairTrade$Reader", name := "number", desc := "()I" } : Jvm.MethodName) prog_9_method_7_code (3 : Nat) (Option.some Jvm.ClassFile.FieldType.int)) ∈ lw_all := lw_g (lw_at lw_m9 164 rfl) rfl
theorem q2151 : (Jvm.Cond.methodLink "HorsehairTrade$Reader" (44 : Nat) ({ cls := "HorsehairTrade$Reader", name := "digit", desc := "()I" } : Jvm.MethodName)) ∈ lw_all := lw_g (lw_at lw_m9 165 rfl) rfl
theorem q2152 : (Jvm.Cond.privateMethod ({ cls := "HorsehairTrade$Reader", name := "digit", desc := "()I" } : Jvm.MethodName)) ∈ lw_tbl := lw_at lw_m9 166 rfl
theorem q2153 : (Jvm.Cond.instanceMethod ({ cls := "HorsehairTrade$Reader", name := "digit", desc := "()I" } : Jvm.MethodName)) ∈ lw_all := lw_g (lw_at lw_m9 167 rfl) rfl
theorem q2154 : (Jvm.Cond.code ({ cls := "HorsehairTrade$Reader", name := "digit", desc := "()I" } : Jvm.MethodName) prog_9_method_6_code (1 : Nat) (Option.some Jvm.ClassFile.FieldType.int)) ∈ lw_all := lw_g (lw_at lw_m9 168 rfl) rfl
theorem q2155 : (Jvm.Cond.classLink "HorsehairTrade$Reader" (54 : Nat) "HorsehairTrade$Order") ∈ lw_all := lw_g (lw_at lw_m9 169 rfl) rfl
theorem q2156 : (Jvm.Cond.methodLink "HorsehairTrade$Reader" (56 : Nat) ({ cls := "HorsehairTrade$Order", name := "<init>", desc := "(Ljava/lang/String;[I)V" } : Jvm.MethodName)) ∈ lw_all := lw_g (lw_at lw_m9 170 rfl) rfl
theorem q2157 : (Jvm.Cond.stringRef "HorsehairTrade$Reader" (79 : Nat) "tie") ∈ lw_tbl := lw_at lw_m9 171 rfl
theorem q2158 : (Jvm.Cond.stringRef "HorsehairTrade$Reader" (81 : Nat) "ie ") ∈ lw_tbl := lw_at lw_m9 172 rfl
theorem q2159 : (Jvm.Cond.stringRef "HorsehairTrade$Reader" (83 : Nat) "+") ∈ lw_tbl := lw_at lw_m9 173 rfl
theorem q2160 : (Jvm.Cond.methodLink "HorsehairTrade$Reader" (85 : Nat) ({ cls := "HorsehairTrade$Reader", name := "withW", desc := "()LHorsehairTrade$Order;" } : Jvm.MethodName)) ∈ lw_all := lw_g (lw_at lw_m9 174 rfl) rfl
theorem q2161 : (Jvm.Cond.privateMethod ({ cls := "HorsehairTrade$Reader", name := "withW", desc := "()LHorsehairTrade$Order;" } : Jvm.MethodName)) ∈ lw_tbl := lw_at lw_m9 175 rfl
theorem q2162 : (Jvm.Cond.instanceMethod ({ cls := "HorsehairTrade$Reader", name := "withW", desc := "()LHorsehairTrade$Order;" } : Jvm.MethodName)) ∈ lw_all := lw_g (lw_at lw_m9 176 rfl) rfl
theorem q2163 : (Jvm.Cond.code ({ cls := "HorsehairTrade$Reader", name := "withW", desc := "()LHorsehairTrade$Order;" } : Jvm.MethodName) prog_9_method_9_code (1 : Nat) (Option.some (Jvm.ClassFile.FieldType.object "HorsehairTrade$Order"))) ∈ lw_all := lw_g (lw_at lw_m9 177 rfl) rfl
theorem q2164 : (Jvm.Cond.stringRef "HorsehairTrade$Reader" (59 : Nat) "weave") ∈ lw_tbl := lw_at lw_m9 178 rfl
theorem q2165 : (Jvm.Cond.stringRef "HorsehairTrade$Reader" (61 : Nat) "ave ") ∈ lw_tbl := lw_at lw_m9 179 rfl
theorem q2166 : (Jvm.Cond.stringRef "HorsehairTrade$Reader" (63 : Nat) "#") ∈ lw_tbl := lw_at lw_m9 180 rfl
theorem q2167 : (Jvm.Cond.stringRef "HorsehairTrade$Reader" (69 : Nat) "alk ") ∈ lw_tbl := lw_at lw_m9 181 rfl
theorem q2168 : (Jvm.Cond.stringRef "HorsehairTrade$Reader" (71 : Nat) "walk") ∈ lw_tbl := lw_at lw_m9 182 rfl
theorem q2169 : (Jvm.Cond.stringRef "HorsehairTrade$Reader" (89 : Nat) "hair") ∈ lw_tbl := lw_at lw_m9 183 rfl
theorem q2170 : (Jvm.Cond.stringRef "HorsehairTrade$Reader" (91 : Nat) "air ") ∈ lw_tbl := lw_at lw_m9 184 rfl
theorem q2171 : (Jvm.Cond.stringRef "HorsehairTrade$Reader" (93 : Nat) "<") ∈ lw_tbl := lw_at lw_m9 185 rfl
theorem q2172 : (Jvm.Cond.stringRef "HorsehairTrade$Reader" (95 : Nat) "rosin") ∈ lw_tbl := lw_at lw_m9 186 rfl
theorem q2173 : (Jvm.Cond.stringRef "HorsehairTrade$Reader" (97 : Nat) "osin ") ∈ lw_tbl := lw_at lw_m9 187 rfl
theorem q2174 : (Jvm.Cond.stringRef "HorsehairTrade$Reader" (99 : Nat) "/") ∈ lw_tbl := lw_at lw_m9 188 rfl
theorem q2175 : (Jvm.Cond.stringRef "HorsehairTrade$Reader" (101 : Nat) "play") ∈ lw_tbl := lw_at lw_m9 189 rfl
theorem q2176 : (Jvm.Cond.stringRef "HorsehairTrade$Reader" (103 : Nat) "lay ") ∈ lw_tbl := lw_at lw_m9 190 rfl
theorem q2177 : (Jvm.Cond.stringRef "HorsehairTrade$Reader" (105 : Nat) " ") ∈ lw_tbl := lw_at lw_m9 191 rfl
theorem q2178 : (Jvm.Cond.stringRef "HorsehairTrade$Reader" (107 : Nat) "sell ") ∈ lw_tbl := lw_at lw_m9 192 rfl
theorem q2179 : (Jvm.Cond.stringRef "HorsehairTrade$Reader" (109 : Nat) "sell") ∈ lw_tbl := lw_at lw_m9 193 rfl
theorem q2180 : (Jvm.Cond.interfaceEntry "HorsehairTrade$Reader" (117 : Nat)) ∈ lw_tbl := lw_at lw_m9 194 rfl
theorem q2181 : (Jvm.Cond.methodLink "HorsehairTrade$Reader" (117 : Nat) ({ cls := "java/util/List", name := "add", desc := "(Ljava/lang/Object;)Z" } : Jvm.MethodName)) ∈ lw_all := lw_g (lw_at lw_m9 195 rfl) rfl
theorem q2792 : (Jvm.Cond.castable "HorsehairTrade$Reader" "java/lang/Object") ∈ lw_tbl := lw_at lw_m12 86 rfl
theorem in_X12 : ∀ w ∈ wsX120, w ∈ lw_all := lw_in wsX120 [2036, 2038] (by decide +kernel) (by decide +kernel)
/-! HorsehairTrade$TextException -/
set_option maxRecDepth 100000
def RX13 : String := "HorsehairTrade$TextException"
def TX13 : u_T := fun k => match k with
  | 0 => ("java/lang/Throwable", "cause", "Ljava/lang/Throwable;", false)
  | 1 => ("java/lang/Throwable", "stackTrace", "[Ljava/lang/StackTraceElement;", false)
  | 2 => ("java/lang/Throwable", "suppressedExceptions", "Ljava/util/List;", false)
  | 3 => ("java/lang/Throwable", "detailMessage", "Ljava/lang/String;", false)
  | 4 => ("java/lang/Throwable", "backtrace", "Ljava/lang/Object;", false)
  | 5 => ("java/lang/Throwable", "depth", "I", false)
  | _ => ("HorsehairTrade$TextException", "position", "I", true)
def tyX13 : Nat → FieldType := fun k => match k with
  | 0 => .object "java/lang/Throwable"
  | 1 => .array (.object "java/lang/StackTraceElement")
  | 2 => .object "java/util/List"
  | 3 => .object "java/lang/String"
  | 4 => .object "java/lang/Object"
  | 5 => .int
  | _ => .int
abbrev wsX130 : List Cond := u_ws RX13 TX13 7
theorem nmX13 : ∀ a, a < 7 → ∀ b, b < 7 → a ≠ b → (TX13 a).2.1 ≠ (TX13 b).2.1 := by decide +kernel
theorem tyX13_ok : ∀ k, k < 7 → parseFieldDescriptor (TX13 k).2.2.1 = some (tyX13 k) := by decide +kernel
abbrev cX13_init : ByteArray := prog_13_method_1_code
def yX13_init : MethodName := ⟨RX13, "<init>", "(I)V"⟩
def dkwX13_init_0 : List UInt8 := [42, 183, 0, 1, 42, 27, 181, 0, 7, 177]
abbrev dktX13_init_0 : List UInt8 := dkwX13_init_0 ++ []
theorem dksX13_init_0 : cX13_init.data.toList.drop 0 = dktX13_init_0 := by decide +kernel
theorem dX13_init_0 : decode cX13_init 0 = .ok (.aload_n 0, 1) := dk_42 (dk_at dksX13_init_0 0 rfl rfl)
theorem dX13_init_1 : decode cX13_init 1 = .ok (.invokespecial 1, 3) := dk_183 0 1 (dk_at dksX13_init_0 1 rfl rfl)
theorem dX13_init_4 : decode cX13_init 4 = .ok (.aload_n 0, 1) := dk_42 (dk_at dksX13_init_0 4 rfl rfl)
theorem dX13_init_5 : decode cX13_init 5 = .ok (.iload_n 1, 1) := dk_27 (dk_at dksX13_init_0 5 rfl rfl)
theorem dX13_init_6 : decode cX13_init 6 = .ok (.putfield 7, 3) := dk_181 0 7 (dk_at dksX13_init_0 6 rfl rfl)
theorem dX13_init_9 : decode cX13_init 9 = .ok (.return_, 1) := dk_177 (dk_at dksX13_init_0 9 rfl rfl)
theorem q113 : (Jvm.Cond.initialized "HorsehairTrade$TextException") ∈ lw_all := lw_g (lw_at lw_m1 47 rfl) rfl
theorem q629 : (Jvm.Cond.selects "HorsehairTrade$TextException" ({ cls := "java/lang/Throwable", name := "fillInStackTrace", desc := "()Ljava/lang/Throwable;" } : Jvm.MethodName) ({ cls := "java/lang/Throwable", name := "fillInStackTrace", desc := "()Ljava/lang/Throwable;" } : Jvm.MethodName)) ∈ lw_all := lw_g (lw_at lw_m3 83 rfl) rfl
theorem q961 : (Jvm.Cond.selects "HorsehairTrade$TextException" ({ cls := "java/lang/Object", name := "getClass", desc := "()Ljava/lang/Class;" } : Jvm.MethodName) ({ cls := "java/lang/Object", name := "getClass", desc := "()Ljava/lang/Class;" } : Jvm.MethodName)) ∈ lw_all := lw_g (lw_at lw_m4 175 rfl) rfl
theorem q2129 : (Jvm.Cond.instantiable "HorsehairTrade$TextException" (7 : Nat)) ∈ lw_all := lw_g (lw_at lw_m9 143 rfl) rfl
theorem q2130 : (Jvm.Cond.castable "HorsehairTrade$TextException" "HorsehairTrade$TextException") ∈ lw_tbl := lw_at lw_m9 144 rfl
theorem q2131 : (Jvm.Cond.selects "HorsehairTrade$TextException" ({ cls := "java/lang/Throwable", name := "fillInStackTrace", desc := "(I)Ljava/lang/Throwable;" } : Jvm.MethodName) ({ cls := "java/lang/Throwable", name := "fillInStackTrace", desc := "(I)Ljava/lang/Throwable;" } : Jvm.MethodName)) ∈ lw_all := lw_g (lw_at lw_m9 145 rfl) rfl
theorem q2132 : (Jvm.Cond.lays "HorsehairTrade$TextException" "java/lang/Throwable" "cause" "Ljava/lang/Throwable;") ∈ lw_all := lw_g (lw_at lw_m9 146 rfl) rfl
theorem q2133 : (Jvm.Cond.lays "HorsehairTrade$TextException" "java/lang/Throwable" "stackTrace" "[Ljava/lang/StackTraceElement;") ∈ lw_all := lw_g (lw_at lw_m9 147 rfl) rfl
theorem q2134 : (Jvm.Cond.lays "HorsehairTrade$TextException" "java/lang/Throwable" "suppressedExceptions" "Ljava/util/List;") ∈ lw_all := lw_g (lw_at lw_m9 148 rfl) rfl
theorem q2135 : (Jvm.Cond.lays "HorsehairTrade$TextException" "java/lang/Throwable" "detailMessage" "Ljava/lang/String;") ∈ lw_all := lw_g (lw_at lw_m9 149 rfl) rfl
theorem q2136 : (Jvm.Cond.lays "HorsehairTrade$TextException" "java/lang/Throwable" "backtrace" "Ljava/lang/Object;") ∈ lw_all := lw_g (lw_at lw_m9 150 rfl) rfl
theorem q2138 : (Jvm.Cond.instanceMethod ({ cls := "HorsehairTrade$TextException", name := "<init>", desc := "(I)V" } : Jvm.MethodName)) ∈ lw_all := lw_g (lw_at lw_m9 152 rfl) rfl
theorem q2139 : (Jvm.Cond.code ({ cls := "HorsehairTrade$TextException", name := "<init>", desc := "(I)V" } : Jvm.MethodName) prog_13_method_1_code (2 : Nat) (Option.none : Option Jvm.ClassFile.FieldType)) ∈ lw_all := lw_g (lw_at lw_m9 153 rfl) rfl
theorem q2140 : (Jvm.Cond.methodLink "HorsehairTrade$TextException" (1 : Nat) ({ cls := "java/lang/Exception", name := "<init>", desc := "()V" } : Jvm.MethodName)) ∈ lw_all := lw_g (lw_at lw_m9 154 rfl) rfl
theorem q2141 : (Jvm.Cond.fieldLink "HorsehairTrade$TextException" (7 : Nat) "HorsehairTrade$TextException" "position" "I") ∈ lw_all := lw_g (lw_at lw_m9 155 rfl) rfl
theorem q2143 : (Jvm.Cond.laysFinal "HorsehairTrade$TextException" "HorsehairTrade$TextException" "position" "I") ∈ lw_all := lw_g (lw_at lw_m9 157 rfl) rfl
theorem q2144 : (Jvm.Cond.soleField "HorsehairTrade$TextException" "position") ∈ lw_all := lw_g (lw_at lw_m9 158 rfl) rfl
theorem q2145 : (Jvm.Cond.lays "HorsehairTrade$TextException" "java/lang/Throwable" "depth" "I") ∈ lw_all := lw_g (lw_at lw_m9 159 rfl) rfl
theorem q2146 : (Jvm.Cond.superclass "HorsehairTrade$TextException" "java/lang/Exception") ∈ lw_all := lw_g (lw_at lw_m9 160 rfl) rfl
theorem q2794 : (Jvm.Cond.castable "HorsehairTrade$TextException" "java/lang/Object") ∈ lw_tbl := lw_at lw_m12 88 rfl
theorem in_X13 : ∀ w ∈ wsX130, w ∈ lw_all := lw_in wsX130 [2132, 2133, 2134, 2135, 2136, 2145, 2143] (by decide +kernel) (by decide +kernel)
