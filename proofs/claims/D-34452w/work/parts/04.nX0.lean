/-! HexsteadLaw -/
set_option maxRecDepth 100000
def RX0 : String := "HexsteadLaw"
abbrev cX0_layHex : ByteArray := method_3_code
def yX0_layHex : MethodName := ⟨RX0, "layHex", "(LHexstead;III)I"⟩
def dkwX0_layHex_0 : List UInt8 := [42, 27, 28, 29, 182, 0, 7, 167, 0, 15, 58, 4, 4, 172, 58, 4, 5, 172, 58, 4, 6, 172, 3, 172]
abbrev dktX0_layHex_0 : List UInt8 := dkwX0_layHex_0 ++ []
theorem dksX0_layHex_0 : cX0_layHex.data.toList.drop 0 = dktX0_layHex_0 := by decide +kernel
theorem dX0_layHex_0 : decode cX0_layHex 0 = .ok (.aload_n 0, 1) := dk_42 (dk_at dksX0_layHex_0 0 rfl rfl)
theorem dX0_layHex_1 : decode cX0_layHex 1 = .ok (.iload_n 1, 1) := dk_27 (dk_at dksX0_layHex_0 1 rfl rfl)
theorem dX0_layHex_2 : decode cX0_layHex 2 = .ok (.iload_n 2, 1) := dk_28 (dk_at dksX0_layHex_0 2 rfl rfl)
theorem dX0_layHex_3 : decode cX0_layHex 3 = .ok (.iload_n 3, 1) := dk_29 (dk_at dksX0_layHex_0 3 rfl rfl)
theorem dX0_layHex_4 : decode cX0_layHex 4 = .ok (.invokevirtual 7, 3) := dk_182 0 7 (dk_at dksX0_layHex_0 4 rfl rfl)
theorem dX0_layHex_7 : decode cX0_layHex 7 = .ok (.goto 15, 3) := dk_167 0 15 (dk_at dksX0_layHex_0 7 rfl rfl)
theorem dX0_layHex_10 : decode cX0_layHex 10 = .ok (.astore 4, 2) := dk_58 4 (dk_at dksX0_layHex_0 10 rfl rfl)
theorem dX0_layHex_12 : decode cX0_layHex 12 = .ok (.iconst 1, 1) := dk_4 (dk_at dksX0_layHex_0 12 rfl rfl)
theorem dX0_layHex_13 : decode cX0_layHex 13 = .ok (.ireturn, 1) := dk_172 (dk_at dksX0_layHex_0 13 rfl rfl)
theorem dX0_layHex_14 : decode cX0_layHex 14 = .ok (.astore 4, 2) := dk_58 4 (dk_at dksX0_layHex_0 14 rfl rfl)
theorem dX0_layHex_16 : decode cX0_layHex 16 = .ok (.iconst 2, 1) := dk_5 (dk_at dksX0_layHex_0 16 rfl rfl)
theorem dX0_layHex_17 : decode cX0_layHex 17 = .ok (.ireturn, 1) := dk_172 (dk_at dksX0_layHex_0 17 rfl rfl)
theorem dX0_layHex_18 : decode cX0_layHex 18 = .ok (.astore 4, 2) := dk_58 4 (dk_at dksX0_layHex_0 18 rfl rfl)
theorem dX0_layHex_20 : decode cX0_layHex 20 = .ok (.iconst 3, 1) := dk_6 (dk_at dksX0_layHex_0 20 rfl rfl)
theorem dX0_layHex_21 : decode cX0_layHex 21 = .ok (.ireturn, 1) := dk_172 (dk_at dksX0_layHex_0 21 rfl rfl)
theorem dX0_layHex_22 : decode cX0_layHex 22 = .ok (.iconst 0, 1) := dk_3 (dk_at dksX0_layHex_0 22 rfl rfl)
theorem dX0_layHex_23 : decode cX0_layHex 23 = .ok (.ireturn, 1) := dk_172 (dk_at dksX0_layHex_0 23 rfl rfl)
abbrev cX0_place : ByteArray := method_4_code
def yX0_place : MethodName := ⟨RX0, "place", "(LHexstead;II[J)I"⟩
def dkwX0_place_0 : List UInt8 := [45, 3, 42, 27, 28, 182, 0, 19, 133, 80, 167, 0, 11, 58, 4, 4, 172, 58, 4, 5, 172, 3, 172]
abbrev dktX0_place_0 : List UInt8 := dkwX0_place_0 ++ []
theorem dksX0_place_0 : cX0_place.data.toList.drop 0 = dktX0_place_0 := by decide +kernel
theorem dX0_place_0 : decode cX0_place 0 = .ok (.aload_n 3, 1) := dk_45 (dk_at dksX0_place_0 0 rfl rfl)
theorem dX0_place_1 : decode cX0_place 1 = .ok (.iconst 0, 1) := dk_3 (dk_at dksX0_place_0 1 rfl rfl)
theorem dX0_place_2 : decode cX0_place 2 = .ok (.aload_n 0, 1) := dk_42 (dk_at dksX0_place_0 2 rfl rfl)
theorem dX0_place_3 : decode cX0_place 3 = .ok (.iload_n 1, 1) := dk_27 (dk_at dksX0_place_0 3 rfl rfl)
theorem dX0_place_4 : decode cX0_place 4 = .ok (.iload_n 2, 1) := dk_28 (dk_at dksX0_place_0 4 rfl rfl)
theorem dX0_place_5 : decode cX0_place 5 = .ok (.invokevirtual 19, 3) := dk_182 0 19 (dk_at dksX0_place_0 5 rfl rfl)
theorem dX0_place_8 : decode cX0_place 8 = .ok (.i2l, 1) := dk_133 (dk_at dksX0_place_0 8 rfl rfl)
theorem dX0_place_9 : decode cX0_place 9 = .ok (.lastore, 1) := dk_80 (dk_at dksX0_place_0 9 rfl rfl)
theorem dX0_place_10 : decode cX0_place 10 = .ok (.goto 11, 3) := dk_167 0 11 (dk_at dksX0_place_0 10 rfl rfl)
theorem dX0_place_13 : decode cX0_place 13 = .ok (.astore 4, 2) := dk_58 4 (dk_at dksX0_place_0 13 rfl rfl)
theorem dX0_place_15 : decode cX0_place 15 = .ok (.iconst 1, 1) := dk_4 (dk_at dksX0_place_0 15 rfl rfl)
theorem dX0_place_16 : decode cX0_place 16 = .ok (.ireturn, 1) := dk_172 (dk_at dksX0_place_0 16 rfl rfl)
theorem dX0_place_17 : decode cX0_place 17 = .ok (.astore 4, 2) := dk_58 4 (dk_at dksX0_place_0 17 rfl rfl)
theorem dX0_place_19 : decode cX0_place 19 = .ok (.iconst 2, 1) := dk_5 (dk_at dksX0_place_0 19 rfl rfl)
theorem dX0_place_20 : decode cX0_place 20 = .ok (.ireturn, 1) := dk_172 (dk_at dksX0_place_0 20 rfl rfl)
theorem dX0_place_21 : decode cX0_place 21 = .ok (.iconst 0, 1) := dk_3 (dk_at dksX0_place_0 21 rfl rfl)
theorem dX0_place_22 : decode cX0_place 22 = .ok (.ireturn, 1) := dk_172 (dk_at dksX0_place_0 22 rfl rfl)
abbrev cX0_deal : ByteArray := method_5_code
def yX0_deal : MethodName := ⟨RX0, "deal", "(LHexstead;II[J)I"⟩
def dkwX0_deal_1 : List UInt8 := [172, 3, 172]
abbrev dktX0_deal_1 : List UInt8 := dkwX0_deal_1 ++ []
def dkwX0_deal_0 : List UInt8 := [45, 3, 42, 27, 28, 182, 0, 23, 133, 80, 167, 0, 15, 58, 4, 4, 172, 58, 4, 5, 172, 58, 4, 6]
abbrev dktX0_deal_0 : List UInt8 := dkwX0_deal_0 ++ dktX0_deal_1
theorem dksX0_deal_0 : cX0_deal.data.toList.drop 0 = dktX0_deal_0 := by decide +kernel
theorem dksX0_deal_1 : cX0_deal.data.toList.drop 24 = dktX0_deal_1 := dk_seg dksX0_deal_0 24 rfl rfl
theorem dX0_deal_0 : decode cX0_deal 0 = .ok (.aload_n 3, 1) := dk_45 (dk_at dksX0_deal_0 0 rfl rfl)
theorem dX0_deal_1 : decode cX0_deal 1 = .ok (.iconst 0, 1) := dk_3 (dk_at dksX0_deal_0 1 rfl rfl)
theorem dX0_deal_2 : decode cX0_deal 2 = .ok (.aload_n 0, 1) := dk_42 (dk_at dksX0_deal_0 2 rfl rfl)
theorem dX0_deal_3 : decode cX0_deal 3 = .ok (.iload_n 1, 1) := dk_27 (dk_at dksX0_deal_0 3 rfl rfl)
theorem dX0_deal_4 : decode cX0_deal 4 = .ok (.iload_n 2, 1) := dk_28 (dk_at dksX0_deal_0 4 rfl rfl)
theorem dX0_deal_5 : decode cX0_deal 5 = .ok (.invokevirtual 23, 3) := dk_182 0 23 (dk_at dksX0_deal_0 5 rfl rfl)
theorem dX0_deal_8 : decode cX0_deal 8 = .ok (.i2l, 1) := dk_133 (dk_at dksX0_deal_0 8 rfl rfl)
theorem dX0_deal_9 : decode cX0_deal 9 = .ok (.lastore, 1) := dk_80 (dk_at dksX0_deal_0 9 rfl rfl)
theorem dX0_deal_10 : decode cX0_deal 10 = .ok (.goto 15, 3) := dk_167 0 15 (dk_at dksX0_deal_0 10 rfl rfl)
theorem dX0_deal_13 : decode cX0_deal 13 = .ok (.astore 4, 2) := dk_58 4 (dk_at dksX0_deal_0 13 rfl rfl)
theorem dX0_deal_15 : decode cX0_deal 15 = .ok (.iconst 1, 1) := dk_4 (dk_at dksX0_deal_0 15 rfl rfl)
theorem dX0_deal_16 : decode cX0_deal 16 = .ok (.ireturn, 1) := dk_172 (dk_at dksX0_deal_0 16 rfl rfl)
theorem dX0_deal_17 : decode cX0_deal 17 = .ok (.astore 4, 2) := dk_58 4 (dk_at dksX0_deal_0 17 rfl rfl)
theorem dX0_deal_19 : decode cX0_deal 19 = .ok (.iconst 2, 1) := dk_5 (dk_at dksX0_deal_0 19 rfl rfl)
theorem dX0_deal_20 : decode cX0_deal 20 = .ok (.ireturn, 1) := dk_172 (dk_at dksX0_deal_0 20 rfl rfl)
theorem dX0_deal_21 : decode cX0_deal 21 = .ok (.astore 4, 2) := dk_58 4 (dk_at dksX0_deal_0 21 rfl rfl)
theorem dX0_deal_23 : decode cX0_deal 23 = .ok (.iconst 3, 1) := dk_6 (dk_at dksX0_deal_0 23 rfl rfl)
theorem dX0_deal_24 : decode cX0_deal 24 = .ok (.ireturn, 1) := dk_172 (dk_at dksX0_deal_1 0 rfl rfl)
theorem dX0_deal_25 : decode cX0_deal 25 = .ok (.iconst 0, 1) := dk_3 (dk_at dksX0_deal_1 1 rfl rfl)
theorem dX0_deal_26 : decode cX0_deal 26 = .ok (.ireturn, 1) := dk_172 (dk_at dksX0_deal_1 2 rfl rfl)
abbrev cX0_roll : ByteArray := method_6_code
def yX0_roll : MethodName := ⟨RX0, "roll", "(LHexstead;II[J)I"⟩
def dkwX0_roll_0 : List UInt8 := [45, 3, 42, 27, 28, 182, 0, 26, 133, 80, 167, 0, 11, 58, 4, 4, 172, 58, 4, 5, 172, 3, 172]
abbrev dktX0_roll_0 : List UInt8 := dkwX0_roll_0 ++ []
theorem dksX0_roll_0 : cX0_roll.data.toList.drop 0 = dktX0_roll_0 := by decide +kernel
theorem dX0_roll_0 : decode cX0_roll 0 = .ok (.aload_n 3, 1) := dk_45 (dk_at dksX0_roll_0 0 rfl rfl)
theorem dX0_roll_1 : decode cX0_roll 1 = .ok (.iconst 0, 1) := dk_3 (dk_at dksX0_roll_0 1 rfl rfl)
theorem dX0_roll_2 : decode cX0_roll 2 = .ok (.aload_n 0, 1) := dk_42 (dk_at dksX0_roll_0 2 rfl rfl)
theorem dX0_roll_3 : decode cX0_roll 3 = .ok (.iload_n 1, 1) := dk_27 (dk_at dksX0_roll_0 3 rfl rfl)
theorem dX0_roll_4 : decode cX0_roll 4 = .ok (.iload_n 2, 1) := dk_28 (dk_at dksX0_roll_0 4 rfl rfl)
theorem dX0_roll_5 : decode cX0_roll 5 = .ok (.invokevirtual 26, 3) := dk_182 0 26 (dk_at dksX0_roll_0 5 rfl rfl)
theorem dX0_roll_8 : decode cX0_roll 8 = .ok (.i2l, 1) := dk_133 (dk_at dksX0_roll_0 8 rfl rfl)
theorem dX0_roll_9 : decode cX0_roll 9 = .ok (.lastore, 1) := dk_80 (dk_at dksX0_roll_0 9 rfl rfl)
theorem dX0_roll_10 : decode cX0_roll 10 = .ok (.goto 11, 3) := dk_167 0 11 (dk_at dksX0_roll_0 10 rfl rfl)
theorem dX0_roll_13 : decode cX0_roll 13 = .ok (.astore 4, 2) := dk_58 4 (dk_at dksX0_roll_0 13 rfl rfl)
theorem dX0_roll_15 : decode cX0_roll 15 = .ok (.iconst 1, 1) := dk_4 (dk_at dksX0_roll_0 15 rfl rfl)
theorem dX0_roll_16 : decode cX0_roll 16 = .ok (.ireturn, 1) := dk_172 (dk_at dksX0_roll_0 16 rfl rfl)
theorem dX0_roll_17 : decode cX0_roll 17 = .ok (.astore 4, 2) := dk_58 4 (dk_at dksX0_roll_0 17 rfl rfl)
theorem dX0_roll_19 : decode cX0_roll 19 = .ok (.iconst 2, 1) := dk_5 (dk_at dksX0_roll_0 19 rfl rfl)
theorem dX0_roll_20 : decode cX0_roll 20 = .ok (.ireturn, 1) := dk_172 (dk_at dksX0_roll_0 20 rfl rfl)
theorem dX0_roll_21 : decode cX0_roll 21 = .ok (.iconst 0, 1) := dk_3 (dk_at dksX0_roll_0 21 rfl rfl)
theorem dX0_roll_22 : decode cX0_roll 22 = .ok (.ireturn, 1) := dk_172 (dk_at dksX0_roll_0 22 rfl rfl)
abbrev cX0_discard : ByteArray := method_7_code
def yX0_discard : MethodName := ⟨RX0, "discard", "(LHexstead;II[J)I"⟩
def dkwX0_discard_1 : List UInt8 := [172, 3, 172]
abbrev dktX0_discard_1 : List UInt8 := dkwX0_discard_1 ++ []
def dkwX0_discard_0 : List UInt8 := [45, 3, 42, 27, 28, 182, 0, 29, 133, 80, 167, 0, 15, 58, 4, 4, 172, 58, 4, 5, 172, 58, 4, 6]
abbrev dktX0_discard_0 : List UInt8 := dkwX0_discard_0 ++ dktX0_discard_1
theorem dksX0_discard_0 : cX0_discard.data.toList.drop 0 = dktX0_discard_0 := by decide +kernel
theorem dksX0_discard_1 : cX0_discard.data.toList.drop 24 = dktX0_discard_1 := dk_seg dksX0_discard_0 24 rfl rfl
theorem dX0_discard_0 : decode cX0_discard 0 = .ok (.aload_n 3, 1) := dk_45 (dk_at dksX0_discard_0 0 rfl rfl)
theorem dX0_discard_1 : decode cX0_discard 1 = .ok (.iconst 0, 1) := dk_3 (dk_at dksX0_discard_0 1 rfl rfl)
theorem dX0_discard_2 : decode cX0_discard 2 = .ok (.aload_n 0, 1) := dk_42 (dk_at dksX0_discard_0 2 rfl rfl)
theorem dX0_discard_3 : decode cX0_discard 3 = .ok (.iload_n 1, 1) := dk_27 (dk_at dksX0_discard_0 3 rfl rfl)
theorem dX0_discard_4 : decode cX0_discard 4 = .ok (.iload_n 2, 1) := dk_28 (dk_at dksX0_discard_0 4 rfl rfl)
theorem dX0_discard_5 : decode cX0_discard 5 = .ok (.invokevirtual 29, 3) := dk_182 0 29 (dk_at dksX0_discard_0 5 rfl rfl)
theorem dX0_discard_8 : decode cX0_discard 8 = .ok (.i2l, 1) := dk_133 (dk_at dksX0_discard_0 8 rfl rfl)
theorem dX0_discard_9 : decode cX0_discard 9 = .ok (.lastore, 1) := dk_80 (dk_at dksX0_discard_0 9 rfl rfl)
theorem dX0_discard_10 : decode cX0_discard 10 = .ok (.goto 15, 3) := dk_167 0 15 (dk_at dksX0_discard_0 10 rfl rfl)
theorem dX0_discard_13 : decode cX0_discard 13 = .ok (.astore 4, 2) := dk_58 4 (dk_at dksX0_discard_0 13 rfl rfl)
theorem dX0_discard_15 : decode cX0_discard 15 = .ok (.iconst 1, 1) := dk_4 (dk_at dksX0_discard_0 15 rfl rfl)
theorem dX0_discard_16 : decode cX0_discard 16 = .ok (.ireturn, 1) := dk_172 (dk_at dksX0_discard_0 16 rfl rfl)
theorem dX0_discard_17 : decode cX0_discard 17 = .ok (.astore 4, 2) := dk_58 4 (dk_at dksX0_discard_0 17 rfl rfl)
theorem dX0_discard_19 : decode cX0_discard 19 = .ok (.iconst 2, 1) := dk_5 (dk_at dksX0_discard_0 19 rfl rfl)
theorem dX0_discard_20 : decode cX0_discard 20 = .ok (.ireturn, 1) := dk_172 (dk_at dksX0_discard_0 20 rfl rfl)
theorem dX0_discard_21 : decode cX0_discard 21 = .ok (.astore 4, 2) := dk_58 4 (dk_at dksX0_discard_0 21 rfl rfl)
theorem dX0_discard_23 : decode cX0_discard 23 = .ok (.iconst 3, 1) := dk_6 (dk_at dksX0_discard_0 23 rfl rfl)
theorem dX0_discard_24 : decode cX0_discard 24 = .ok (.ireturn, 1) := dk_172 (dk_at dksX0_discard_1 0 rfl rfl)
theorem dX0_discard_25 : decode cX0_discard 25 = .ok (.iconst 0, 1) := dk_3 (dk_at dksX0_discard_1 1 rfl rfl)
theorem dX0_discard_26 : decode cX0_discard 26 = .ok (.ireturn, 1) := dk_172 (dk_at dksX0_discard_1 2 rfl rfl)
abbrev cX0_rob : ByteArray := method_8_code
def yX0_rob : MethodName := ⟨RX0, "rob", "(LHexstead;III[J)I"⟩
def dkwX0_rob_1 : List UInt8 := [58, 5, 6, 172, 3, 172]
abbrev dktX0_rob_1 : List UInt8 := dkwX0_rob_1 ++ []
def dkwX0_rob_0 : List UInt8 := [25, 4, 3, 42, 27, 28, 29, 182, 0, 32, 133, 80, 167, 0, 15, 58, 5, 4, 172, 58, 5, 5, 172]
abbrev dktX0_rob_0 : List UInt8 := dkwX0_rob_0 ++ dktX0_rob_1
theorem dksX0_rob_0 : cX0_rob.data.toList.drop 0 = dktX0_rob_0 := by decide +kernel
theorem dksX0_rob_1 : cX0_rob.data.toList.drop 23 = dktX0_rob_1 := dk_seg dksX0_rob_0 23 rfl rfl
theorem dX0_rob_0 : decode cX0_rob 0 = .ok (.aload 4, 2) := dk_25 4 (dk_at dksX0_rob_0 0 rfl rfl)
theorem dX0_rob_2 : decode cX0_rob 2 = .ok (.iconst 0, 1) := dk_3 (dk_at dksX0_rob_0 2 rfl rfl)
theorem dX0_rob_3 : decode cX0_rob 3 = .ok (.aload_n 0, 1) := dk_42 (dk_at dksX0_rob_0 3 rfl rfl)
theorem dX0_rob_4 : decode cX0_rob 4 = .ok (.iload_n 1, 1) := dk_27 (dk_at dksX0_rob_0 4 rfl rfl)
theorem dX0_rob_5 : decode cX0_rob 5 = .ok (.iload_n 2, 1) := dk_28 (dk_at dksX0_rob_0 5 rfl rfl)
theorem dX0_rob_6 : decode cX0_rob 6 = .ok (.iload_n 3, 1) := dk_29 (dk_at dksX0_rob_0 6 rfl rfl)
theorem dX0_rob_7 : decode cX0_rob 7 = .ok (.invokevirtual 32, 3) := dk_182 0 32 (dk_at dksX0_rob_0 7 rfl rfl)
theorem dX0_rob_10 : decode cX0_rob 10 = .ok (.i2l, 1) := dk_133 (dk_at dksX0_rob_0 10 rfl rfl)
theorem dX0_rob_11 : decode cX0_rob 11 = .ok (.lastore, 1) := dk_80 (dk_at dksX0_rob_0 11 rfl rfl)
theorem dX0_rob_12 : decode cX0_rob 12 = .ok (.goto 15, 3) := dk_167 0 15 (dk_at dksX0_rob_0 12 rfl rfl)
theorem dX0_rob_15 : decode cX0_rob 15 = .ok (.astore 5, 2) := dk_58 5 (dk_at dksX0_rob_0 15 rfl rfl)
theorem dX0_rob_17 : decode cX0_rob 17 = .ok (.iconst 1, 1) := dk_4 (dk_at dksX0_rob_0 17 rfl rfl)
theorem dX0_rob_18 : decode cX0_rob 18 = .ok (.ireturn, 1) := dk_172 (dk_at dksX0_rob_0 18 rfl rfl)
theorem dX0_rob_19 : decode cX0_rob 19 = .ok (.astore 5, 2) := dk_58 5 (dk_at dksX0_rob_0 19 rfl rfl)
theorem dX0_rob_21 : decode cX0_rob 21 = .ok (.iconst 2, 1) := dk_5 (dk_at dksX0_rob_0 21 rfl rfl)
theorem dX0_rob_22 : decode cX0_rob 22 = .ok (.ireturn, 1) := dk_172 (dk_at dksX0_rob_0 22 rfl rfl)
theorem dX0_rob_23 : decode cX0_rob 23 = .ok (.astore 5, 2) := dk_58 5 (dk_at dksX0_rob_1 0 rfl rfl)
theorem dX0_rob_25 : decode cX0_rob 25 = .ok (.iconst 3, 1) := dk_6 (dk_at dksX0_rob_1 2 rfl rfl)
theorem dX0_rob_26 : decode cX0_rob 26 = .ok (.ireturn, 1) := dk_172 (dk_at dksX0_rob_1 3 rfl rfl)
theorem dX0_rob_27 : decode cX0_rob 27 = .ok (.iconst 0, 1) := dk_3 (dk_at dksX0_rob_1 4 rfl rfl)
theorem dX0_rob_28 : decode cX0_rob 28 = .ok (.ireturn, 1) := dk_172 (dk_at dksX0_rob_1 5 rfl rfl)
abbrev cX0_road : ByteArray := method_9_code
def yX0_road : MethodName := ⟨RX0, "road", "(LHexstead;I[J)I"⟩
def dkwX0_road_0 : List UInt8 := [44, 3, 42, 27, 182, 0, 36, 133, 80, 167, 0, 9, 78, 4, 172, 78, 5, 172, 3, 172]
abbrev dktX0_road_0 : List UInt8 := dkwX0_road_0 ++ []
theorem dksX0_road_0 : cX0_road.data.toList.drop 0 = dktX0_road_0 := by decide +kernel
theorem dX0_road_0 : decode cX0_road 0 = .ok (.aload_n 2, 1) := dk_44 (dk_at dksX0_road_0 0 rfl rfl)
theorem dX0_road_1 : decode cX0_road 1 = .ok (.iconst 0, 1) := dk_3 (dk_at dksX0_road_0 1 rfl rfl)
theorem dX0_road_2 : decode cX0_road 2 = .ok (.aload_n 0, 1) := dk_42 (dk_at dksX0_road_0 2 rfl rfl)
theorem dX0_road_3 : decode cX0_road 3 = .ok (.iload_n 1, 1) := dk_27 (dk_at dksX0_road_0 3 rfl rfl)
theorem dX0_road_4 : decode cX0_road 4 = .ok (.invokevirtual 36, 3) := dk_182 0 36 (dk_at dksX0_road_0 4 rfl rfl)
theorem dX0_road_7 : decode cX0_road 7 = .ok (.i2l, 1) := dk_133 (dk_at dksX0_road_0 7 rfl rfl)
theorem dX0_road_8 : decode cX0_road 8 = .ok (.lastore, 1) := dk_80 (dk_at dksX0_road_0 8 rfl rfl)
theorem dX0_road_9 : decode cX0_road 9 = .ok (.goto 9, 3) := dk_167 0 9 (dk_at dksX0_road_0 9 rfl rfl)
theorem dX0_road_12 : decode cX0_road 12 = .ok (.astore_n 3, 1) := dk_78 (dk_at dksX0_road_0 12 rfl rfl)
theorem dX0_road_13 : decode cX0_road 13 = .ok (.iconst 1, 1) := dk_4 (dk_at dksX0_road_0 13 rfl rfl)
theorem dX0_road_14 : decode cX0_road 14 = .ok (.ireturn, 1) := dk_172 (dk_at dksX0_road_0 14 rfl rfl)
theorem dX0_road_15 : decode cX0_road 15 = .ok (.astore_n 3, 1) := dk_78 (dk_at dksX0_road_0 15 rfl rfl)
theorem dX0_road_16 : decode cX0_road 16 = .ok (.iconst 2, 1) := dk_5 (dk_at dksX0_road_0 16 rfl rfl)
theorem dX0_road_17 : decode cX0_road 17 = .ok (.ireturn, 1) := dk_172 (dk_at dksX0_road_0 17 rfl rfl)
theorem dX0_road_18 : decode cX0_road 18 = .ok (.iconst 0, 1) := dk_3 (dk_at dksX0_road_0 18 rfl rfl)
theorem dX0_road_19 : decode cX0_road 19 = .ok (.ireturn, 1) := dk_172 (dk_at dksX0_road_0 19 rfl rfl)
abbrev cX0_house : ByteArray := method_10_code
def yX0_house : MethodName := ⟨RX0, "house", "(LHexstead;I[J)I"⟩
def dkwX0_house_0 : List UInt8 := [44, 3, 42, 27, 182, 0, 40, 133, 80, 167, 0, 9, 78, 4, 172, 78, 5, 172, 3, 172]
abbrev dktX0_house_0 : List UInt8 := dkwX0_house_0 ++ []
theorem dksX0_house_0 : cX0_house.data.toList.drop 0 = dktX0_house_0 := by decide +kernel
theorem dX0_house_0 : decode cX0_house 0 = .ok (.aload_n 2, 1) := dk_44 (dk_at dksX0_house_0 0 rfl rfl)
theorem dX0_house_1 : decode cX0_house 1 = .ok (.iconst 0, 1) := dk_3 (dk_at dksX0_house_0 1 rfl rfl)
theorem dX0_house_2 : decode cX0_house 2 = .ok (.aload_n 0, 1) := dk_42 (dk_at dksX0_house_0 2 rfl rfl)
theorem dX0_house_3 : decode cX0_house 3 = .ok (.iload_n 1, 1) := dk_27 (dk_at dksX0_house_0 3 rfl rfl)
theorem dX0_house_4 : decode cX0_house 4 = .ok (.invokevirtual 40, 3) := dk_182 0 40 (dk_at dksX0_house_0 4 rfl rfl)
theorem dX0_house_7 : decode cX0_house 7 = .ok (.i2l, 1) := dk_133 (dk_at dksX0_house_0 7 rfl rfl)
theorem dX0_house_8 : decode cX0_house 8 = .ok (.lastore, 1) := dk_80 (dk_at dksX0_house_0 8 rfl rfl)
theorem dX0_house_9 : decode cX0_house 9 = .ok (.goto 9, 3) := dk_167 0 9 (dk_at dksX0_house_0 9 rfl rfl)
theorem dX0_house_12 : decode cX0_house 12 = .ok (.astore_n 3, 1) := dk_78 (dk_at dksX0_house_0 12 rfl rfl)
theorem dX0_house_13 : decode cX0_house 13 = .ok (.iconst 1, 1) := dk_4 (dk_at dksX0_house_0 13 rfl rfl)
theorem dX0_house_14 : decode cX0_house 14 = .ok (.ireturn, 1) := dk_172 (dk_at dksX0_house_0 14 rfl rfl)
theorem dX0_house_15 : decode cX0_house 15 = .ok (.astore_n 3, 1) := dk_78 (dk_at dksX0_house_0 15 rfl rfl)
theorem dX0_house_16 : decode cX0_house 16 = .ok (.iconst 2, 1) := dk_5 (dk_at dksX0_house_0 16 rfl rfl)
theorem dX0_house_17 : decode cX0_house 17 = .ok (.ireturn, 1) := dk_172 (dk_at dksX0_house_0 17 rfl rfl)
theorem dX0_house_18 : decode cX0_house 18 = .ok (.iconst 0, 1) := dk_3 (dk_at dksX0_house_0 18 rfl rfl)
theorem dX0_house_19 : decode cX0_house 19 = .ok (.ireturn, 1) := dk_172 (dk_at dksX0_house_0 19 rfl rfl)
abbrev cX0_city : ByteArray := method_11_code
def yX0_city : MethodName := ⟨RX0, "city", "(LHexstead;I[J)I"⟩
def dkwX0_city_0 : List UInt8 := [44, 3, 42, 27, 182, 0, 43, 133, 80, 167, 0, 9, 78, 4, 172, 78, 5, 172, 3, 172]
abbrev dktX0_city_0 : List UInt8 := dkwX0_city_0 ++ []
theorem dksX0_city_0 : cX0_city.data.toList.drop 0 = dktX0_city_0 := by decide +kernel
theorem dX0_city_0 : decode cX0_city 0 = .ok (.aload_n 2, 1) := dk_44 (dk_at dksX0_city_0 0 rfl rfl)
theorem dX0_city_1 : decode cX0_city 1 = .ok (.iconst 0, 1) := dk_3 (dk_at dksX0_city_0 1 rfl rfl)
theorem dX0_city_2 : decode cX0_city 2 = .ok (.aload_n 0, 1) := dk_42 (dk_at dksX0_city_0 2 rfl rfl)
theorem dX0_city_3 : decode cX0_city 3 = .ok (.iload_n 1, 1) := dk_27 (dk_at dksX0_city_0 3 rfl rfl)
theorem dX0_city_4 : decode cX0_city 4 = .ok (.invokevirtual 43, 3) := dk_182 0 43 (dk_at dksX0_city_0 4 rfl rfl)
theorem dX0_city_7 : decode cX0_city 7 = .ok (.i2l, 1) := dk_133 (dk_at dksX0_city_0 7 rfl rfl)
theorem dX0_city_8 : decode cX0_city 8 = .ok (.lastore, 1) := dk_80 (dk_at dksX0_city_0 8 rfl rfl)
theorem dX0_city_9 : decode cX0_city 9 = .ok (.goto 9, 3) := dk_167 0 9 (dk_at dksX0_city_0 9 rfl rfl)
theorem dX0_city_12 : decode cX0_city 12 = .ok (.astore_n 3, 1) := dk_78 (dk_at dksX0_city_0 12 rfl rfl)
theorem dX0_city_13 : decode cX0_city 13 = .ok (.iconst 1, 1) := dk_4 (dk_at dksX0_city_0 13 rfl rfl)
theorem dX0_city_14 : decode cX0_city 14 = .ok (.ireturn, 1) := dk_172 (dk_at dksX0_city_0 14 rfl rfl)
theorem dX0_city_15 : decode cX0_city 15 = .ok (.astore_n 3, 1) := dk_78 (dk_at dksX0_city_0 15 rfl rfl)
theorem dX0_city_16 : decode cX0_city 16 = .ok (.iconst 2, 1) := dk_5 (dk_at dksX0_city_0 16 rfl rfl)
theorem dX0_city_17 : decode cX0_city 17 = .ok (.ireturn, 1) := dk_172 (dk_at dksX0_city_0 17 rfl rfl)
theorem dX0_city_18 : decode cX0_city 18 = .ok (.iconst 0, 1) := dk_3 (dk_at dksX0_city_0 18 rfl rfl)
theorem dX0_city_19 : decode cX0_city 19 = .ok (.ireturn, 1) := dk_172 (dk_at dksX0_city_0 19 rfl rfl)
abbrev cX0_buy : ByteArray := method_12_code
def yX0_buy : MethodName := ⟨RX0, "buy", "(LHexstead;[J)I"⟩
def dkwX0_buy_0 : List UInt8 := [43, 3, 42, 182, 0, 46, 133, 80, 167, 0, 6, 77, 4, 172, 3, 172]
abbrev dktX0_buy_0 : List UInt8 := dkwX0_buy_0 ++ []
theorem dksX0_buy_0 : cX0_buy.data.toList.drop 0 = dktX0_buy_0 := by decide +kernel
theorem dX0_buy_0 : decode cX0_buy 0 = .ok (.aload_n 1, 1) := dk_43 (dk_at dksX0_buy_0 0 rfl rfl)
theorem dX0_buy_1 : decode cX0_buy 1 = .ok (.iconst 0, 1) := dk_3 (dk_at dksX0_buy_0 1 rfl rfl)
theorem dX0_buy_2 : decode cX0_buy 2 = .ok (.aload_n 0, 1) := dk_42 (dk_at dksX0_buy_0 2 rfl rfl)
theorem dX0_buy_3 : decode cX0_buy 3 = .ok (.invokevirtual 46, 3) := dk_182 0 46 (dk_at dksX0_buy_0 3 rfl rfl)
theorem dX0_buy_6 : decode cX0_buy 6 = .ok (.i2l, 1) := dk_133 (dk_at dksX0_buy_0 6 rfl rfl)
theorem dX0_buy_7 : decode cX0_buy 7 = .ok (.lastore, 1) := dk_80 (dk_at dksX0_buy_0 7 rfl rfl)
theorem dX0_buy_8 : decode cX0_buy 8 = .ok (.goto 6, 3) := dk_167 0 6 (dk_at dksX0_buy_0 8 rfl rfl)
theorem dX0_buy_11 : decode cX0_buy 11 = .ok (.astore_n 2, 1) := dk_77 (dk_at dksX0_buy_0 11 rfl rfl)
theorem dX0_buy_12 : decode cX0_buy 12 = .ok (.iconst 1, 1) := dk_4 (dk_at dksX0_buy_0 12 rfl rfl)
theorem dX0_buy_13 : decode cX0_buy 13 = .ok (.ireturn, 1) := dk_172 (dk_at dksX0_buy_0 13 rfl rfl)
theorem dX0_buy_14 : decode cX0_buy 14 = .ok (.iconst 0, 1) := dk_3 (dk_at dksX0_buy_0 14 rfl rfl)
theorem dX0_buy_15 : decode cX0_buy 15 = .ok (.ireturn, 1) := dk_172 (dk_at dksX0_buy_0 15 rfl rfl)
abbrev cX0_knight : ByteArray := method_13_code
def yX0_knight : MethodName := ⟨RX0, "knight", "(LHexstead;III[J)I"⟩
def dkwX0_knight_1 : List UInt8 := [58, 5, 6, 172, 3, 172]
abbrev dktX0_knight_1 : List UInt8 := dkwX0_knight_1 ++ []
def dkwX0_knight_0 : List UInt8 := [25, 4, 3, 42, 27, 28, 29, 182, 0, 50, 133, 80, 167, 0, 15, 58, 5, 4, 172, 58, 5, 5, 172]
abbrev dktX0_knight_0 : List UInt8 := dkwX0_knight_0 ++ dktX0_knight_1
theorem dksX0_knight_0 : cX0_knight.data.toList.drop 0 = dktX0_knight_0 := by decide +kernel
theorem dksX0_knight_1 : cX0_knight.data.toList.drop 23 = dktX0_knight_1 := dk_seg dksX0_knight_0 23 rfl rfl
theorem dX0_knight_0 : decode cX0_knight 0 = .ok (.aload 4, 2) := dk_25 4 (dk_at dksX0_knight_0 0 rfl rfl)
theorem dX0_knight_2 : decode cX0_knight 2 = .ok (.iconst 0, 1) := dk_3 (dk_at dksX0_knight_0 2 rfl rfl)
theorem dX0_knight_3 : decode cX0_knight 3 = .ok (.aload_n 0, 1) := dk_42 (dk_at dksX0_knight_0 3 rfl rfl)
theorem dX0_knight_4 : decode cX0_knight 4 = .ok (.iload_n 1, 1) := dk_27 (dk_at dksX0_knight_0 4 rfl rfl)
theorem dX0_knight_5 : decode cX0_knight 5 = .ok (.iload_n 2, 1) := dk_28 (dk_at dksX0_knight_0 5 rfl rfl)
theorem dX0_knight_6 : decode cX0_knight 6 = .ok (.iload_n 3, 1) := dk_29 (dk_at dksX0_knight_0 6 rfl rfl)
theorem dX0_knight_7 : decode cX0_knight 7 = .ok (.invokevirtual 50, 3) := dk_182 0 50 (dk_at dksX0_knight_0 7 rfl rfl)
theorem dX0_knight_10 : decode cX0_knight 10 = .ok (.i2l, 1) := dk_133 (dk_at dksX0_knight_0 10 rfl rfl)
theorem dX0_knight_11 : decode cX0_knight 11 = .ok (.lastore, 1) := dk_80 (dk_at dksX0_knight_0 11 rfl rfl)
theorem dX0_knight_12 : decode cX0_knight 12 = .ok (.goto 15, 3) := dk_167 0 15 (dk_at dksX0_knight_0 12 rfl rfl)
theorem dX0_knight_15 : decode cX0_knight 15 = .ok (.astore 5, 2) := dk_58 5 (dk_at dksX0_knight_0 15 rfl rfl)
theorem dX0_knight_17 : decode cX0_knight 17 = .ok (.iconst 1, 1) := dk_4 (dk_at dksX0_knight_0 17 rfl rfl)
theorem dX0_knight_18 : decode cX0_knight 18 = .ok (.ireturn, 1) := dk_172 (dk_at dksX0_knight_0 18 rfl rfl)
theorem dX0_knight_19 : decode cX0_knight 19 = .ok (.astore 5, 2) := dk_58 5 (dk_at dksX0_knight_0 19 rfl rfl)
theorem dX0_knight_21 : decode cX0_knight 21 = .ok (.iconst 2, 1) := dk_5 (dk_at dksX0_knight_0 21 rfl rfl)
theorem dX0_knight_22 : decode cX0_knight 22 = .ok (.ireturn, 1) := dk_172 (dk_at dksX0_knight_0 22 rfl rfl)
theorem dX0_knight_23 : decode cX0_knight 23 = .ok (.astore 5, 2) := dk_58 5 (dk_at dksX0_knight_1 0 rfl rfl)
theorem dX0_knight_25 : decode cX0_knight 25 = .ok (.iconst 3, 1) := dk_6 (dk_at dksX0_knight_1 2 rfl rfl)
theorem dX0_knight_26 : decode cX0_knight 26 = .ok (.ireturn, 1) := dk_172 (dk_at dksX0_knight_1 3 rfl rfl)
theorem dX0_knight_27 : decode cX0_knight 27 = .ok (.iconst 0, 1) := dk_3 (dk_at dksX0_knight_1 4 rfl rfl)
theorem dX0_knight_28 : decode cX0_knight 28 = .ok (.ireturn, 1) := dk_172 (dk_at dksX0_knight_1 5 rfl rfl)
abbrev cX0_roads : ByteArray := method_14_code
def yX0_roads : MethodName := ⟨RX0, "roads", "(LHexstead;II[J)I"⟩
def dkwX0_roads_0 : List UInt8 := [45, 3, 42, 27, 28, 182, 0, 53, 133, 80, 167, 0, 11, 58, 4, 4, 172, 58, 4, 5, 172, 3, 172]
abbrev dktX0_roads_0 : List UInt8 := dkwX0_roads_0 ++ []
theorem dksX0_roads_0 : cX0_roads.data.toList.drop 0 = dktX0_roads_0 := by decide +kernel
theorem dX0_roads_0 : decode cX0_roads 0 = .ok (.aload_n 3, 1) := dk_45 (dk_at dksX0_roads_0 0 rfl rfl)
theorem dX0_roads_1 : decode cX0_roads 1 = .ok (.iconst 0, 1) := dk_3 (dk_at dksX0_roads_0 1 rfl rfl)
theorem dX0_roads_2 : decode cX0_roads 2 = .ok (.aload_n 0, 1) := dk_42 (dk_at dksX0_roads_0 2 rfl rfl)
theorem dX0_roads_3 : decode cX0_roads 3 = .ok (.iload_n 1, 1) := dk_27 (dk_at dksX0_roads_0 3 rfl rfl)
theorem dX0_roads_4 : decode cX0_roads 4 = .ok (.iload_n 2, 1) := dk_28 (dk_at dksX0_roads_0 4 rfl rfl)
theorem dX0_roads_5 : decode cX0_roads 5 = .ok (.invokevirtual 53, 3) := dk_182 0 53 (dk_at dksX0_roads_0 5 rfl rfl)
theorem dX0_roads_8 : decode cX0_roads 8 = .ok (.i2l, 1) := dk_133 (dk_at dksX0_roads_0 8 rfl rfl)
theorem dX0_roads_9 : decode cX0_roads 9 = .ok (.lastore, 1) := dk_80 (dk_at dksX0_roads_0 9 rfl rfl)
theorem dX0_roads_10 : decode cX0_roads 10 = .ok (.goto 11, 3) := dk_167 0 11 (dk_at dksX0_roads_0 10 rfl rfl)
theorem dX0_roads_13 : decode cX0_roads 13 = .ok (.astore 4, 2) := dk_58 4 (dk_at dksX0_roads_0 13 rfl rfl)
theorem dX0_roads_15 : decode cX0_roads 15 = .ok (.iconst 1, 1) := dk_4 (dk_at dksX0_roads_0 15 rfl rfl)
theorem dX0_roads_16 : decode cX0_roads 16 = .ok (.ireturn, 1) := dk_172 (dk_at dksX0_roads_0 16 rfl rfl)
theorem dX0_roads_17 : decode cX0_roads 17 = .ok (.astore 4, 2) := dk_58 4 (dk_at dksX0_roads_0 17 rfl rfl)
theorem dX0_roads_19 : decode cX0_roads 19 = .ok (.iconst 2, 1) := dk_5 (dk_at dksX0_roads_0 19 rfl rfl)
theorem dX0_roads_20 : decode cX0_roads 20 = .ok (.ireturn, 1) := dk_172 (dk_at dksX0_roads_0 20 rfl rfl)
theorem dX0_roads_21 : decode cX0_roads 21 = .ok (.iconst 0, 1) := dk_3 (dk_at dksX0_roads_0 21 rfl rfl)
theorem dX0_roads_22 : decode cX0_roads 22 = .ok (.ireturn, 1) := dk_172 (dk_at dksX0_roads_0 22 rfl rfl)
abbrev cX0_plenty : ByteArray := method_15_code
def yX0_plenty : MethodName := ⟨RX0, "plenty", "(LHexstead;II[J)I"⟩
def dkwX0_plenty_0 : List UInt8 := [45, 3, 42, 27, 28, 182, 0, 56, 133, 80, 167, 0, 11, 58, 4, 4, 172, 58, 4, 5, 172, 3, 172]
abbrev dktX0_plenty_0 : List UInt8 := dkwX0_plenty_0 ++ []
theorem dksX0_plenty_0 : cX0_plenty.data.toList.drop 0 = dktX0_plenty_0 := by decide +kernel
theorem dX0_plenty_0 : decode cX0_plenty 0 = .ok (.aload_n 3, 1) := dk_45 (dk_at dksX0_plenty_0 0 rfl rfl)
theorem dX0_plenty_1 : decode cX0_plenty 1 = .ok (.iconst 0, 1) := dk_3 (dk_at dksX0_plenty_0 1 rfl rfl)
theorem dX0_plenty_2 : decode cX0_plenty 2 = .ok (.aload_n 0, 1) := dk_42 (dk_at dksX0_plenty_0 2 rfl rfl)
theorem dX0_plenty_3 : decode cX0_plenty 3 = .ok (.iload_n 1, 1) := dk_27 (dk_at dksX0_plenty_0 3 rfl rfl)
theorem dX0_plenty_4 : decode cX0_plenty 4 = .ok (.iload_n 2, 1) := dk_28 (dk_at dksX0_plenty_0 4 rfl rfl)
theorem dX0_plenty_5 : decode cX0_plenty 5 = .ok (.invokevirtual 56, 3) := dk_182 0 56 (dk_at dksX0_plenty_0 5 rfl rfl)
theorem dX0_plenty_8 : decode cX0_plenty 8 = .ok (.i2l, 1) := dk_133 (dk_at dksX0_plenty_0 8 rfl rfl)
theorem dX0_plenty_9 : decode cX0_plenty 9 = .ok (.lastore, 1) := dk_80 (dk_at dksX0_plenty_0 9 rfl rfl)
theorem dX0_plenty_10 : decode cX0_plenty 10 = .ok (.goto 11, 3) := dk_167 0 11 (dk_at dksX0_plenty_0 10 rfl rfl)
theorem dX0_plenty_13 : decode cX0_plenty 13 = .ok (.astore 4, 2) := dk_58 4 (dk_at dksX0_plenty_0 13 rfl rfl)
theorem dX0_plenty_15 : decode cX0_plenty 15 = .ok (.iconst 1, 1) := dk_4 (dk_at dksX0_plenty_0 15 rfl rfl)
theorem dX0_plenty_16 : decode cX0_plenty 16 = .ok (.ireturn, 1) := dk_172 (dk_at dksX0_plenty_0 16 rfl rfl)
theorem dX0_plenty_17 : decode cX0_plenty 17 = .ok (.astore 4, 2) := dk_58 4 (dk_at dksX0_plenty_0 17 rfl rfl)
theorem dX0_plenty_19 : decode cX0_plenty 19 = .ok (.iconst 2, 1) := dk_5 (dk_at dksX0_plenty_0 19 rfl rfl)
theorem dX0_plenty_20 : decode cX0_plenty 20 = .ok (.ireturn, 1) := dk_172 (dk_at dksX0_plenty_0 20 rfl rfl)
theorem dX0_plenty_21 : decode cX0_plenty 21 = .ok (.iconst 0, 1) := dk_3 (dk_at dksX0_plenty_0 21 rfl rfl)
theorem dX0_plenty_22 : decode cX0_plenty 22 = .ok (.ireturn, 1) := dk_172 (dk_at dksX0_plenty_0 22 rfl rfl)
abbrev cX0_monopoly : ByteArray := method_16_code
def yX0_monopoly : MethodName := ⟨RX0, "monopoly", "(LHexstead;I[J)I"⟩
def dkwX0_monopoly_0 : List UInt8 := [44, 3, 42, 27, 182, 0, 59, 133, 80, 167, 0, 9, 78, 4, 172, 78, 5, 172, 3, 172]
abbrev dktX0_monopoly_0 : List UInt8 := dkwX0_monopoly_0 ++ []
theorem dksX0_monopoly_0 : cX0_monopoly.data.toList.drop 0 = dktX0_monopoly_0 := by decide +kernel
theorem dX0_monopoly_0 : decode cX0_monopoly 0 = .ok (.aload_n 2, 1) := dk_44 (dk_at dksX0_monopoly_0 0 rfl rfl)
theorem dX0_monopoly_1 : decode cX0_monopoly 1 = .ok (.iconst 0, 1) := dk_3 (dk_at dksX0_monopoly_0 1 rfl rfl)
theorem dX0_monopoly_2 : decode cX0_monopoly 2 = .ok (.aload_n 0, 1) := dk_42 (dk_at dksX0_monopoly_0 2 rfl rfl)
theorem dX0_monopoly_3 : decode cX0_monopoly 3 = .ok (.iload_n 1, 1) := dk_27 (dk_at dksX0_monopoly_0 3 rfl rfl)
theorem dX0_monopoly_4 : decode cX0_monopoly 4 = .ok (.invokevirtual 59, 3) := dk_182 0 59 (dk_at dksX0_monopoly_0 4 rfl rfl)
theorem dX0_monopoly_7 : decode cX0_monopoly 7 = .ok (.i2l, 1) := dk_133 (dk_at dksX0_monopoly_0 7 rfl rfl)
theorem dX0_monopoly_8 : decode cX0_monopoly 8 = .ok (.lastore, 1) := dk_80 (dk_at dksX0_monopoly_0 8 rfl rfl)
theorem dX0_monopoly_9 : decode cX0_monopoly 9 = .ok (.goto 9, 3) := dk_167 0 9 (dk_at dksX0_monopoly_0 9 rfl rfl)
theorem dX0_monopoly_12 : decode cX0_monopoly 12 = .ok (.astore_n 3, 1) := dk_78 (dk_at dksX0_monopoly_0 12 rfl rfl)
theorem dX0_monopoly_13 : decode cX0_monopoly 13 = .ok (.iconst 1, 1) := dk_4 (dk_at dksX0_monopoly_0 13 rfl rfl)
theorem dX0_monopoly_14 : decode cX0_monopoly 14 = .ok (.ireturn, 1) := dk_172 (dk_at dksX0_monopoly_0 14 rfl rfl)
theorem dX0_monopoly_15 : decode cX0_monopoly 15 = .ok (.astore_n 3, 1) := dk_78 (dk_at dksX0_monopoly_0 15 rfl rfl)
theorem dX0_monopoly_16 : decode cX0_monopoly 16 = .ok (.iconst 2, 1) := dk_5 (dk_at dksX0_monopoly_0 16 rfl rfl)
theorem dX0_monopoly_17 : decode cX0_monopoly 17 = .ok (.ireturn, 1) := dk_172 (dk_at dksX0_monopoly_0 17 rfl rfl)
theorem dX0_monopoly_18 : decode cX0_monopoly 18 = .ok (.iconst 0, 1) := dk_3 (dk_at dksX0_monopoly_0 18 rfl rfl)
theorem dX0_monopoly_19 : decode cX0_monopoly 19 = .ok (.ireturn, 1) := dk_172 (dk_at dksX0_monopoly_0 19 rfl rfl)
abbrev cX0_swap : ByteArray := method_17_code
def yX0_swap : MethodName := ⟨RX0, "swap", "(LHexstead;II[J)I"⟩
def dkwX0_swap_0 : List UInt8 := [45, 3, 42, 27, 28, 182, 0, 62, 133, 80, 167, 0, 11, 58, 4, 4, 172, 58, 4, 5, 172, 3, 172]
abbrev dktX0_swap_0 : List UInt8 := dkwX0_swap_0 ++ []
theorem dksX0_swap_0 : cX0_swap.data.toList.drop 0 = dktX0_swap_0 := by decide +kernel
theorem dX0_swap_0 : decode cX0_swap 0 = .ok (.aload_n 3, 1) := dk_45 (dk_at dksX0_swap_0 0 rfl rfl)
theorem dX0_swap_1 : decode cX0_swap 1 = .ok (.iconst 0, 1) := dk_3 (dk_at dksX0_swap_0 1 rfl rfl)
theorem dX0_swap_2 : decode cX0_swap 2 = .ok (.aload_n 0, 1) := dk_42 (dk_at dksX0_swap_0 2 rfl rfl)
theorem dX0_swap_3 : decode cX0_swap 3 = .ok (.iload_n 1, 1) := dk_27 (dk_at dksX0_swap_0 3 rfl rfl)
theorem dX0_swap_4 : decode cX0_swap 4 = .ok (.iload_n 2, 1) := dk_28 (dk_at dksX0_swap_0 4 rfl rfl)
theorem dX0_swap_5 : decode cX0_swap 5 = .ok (.invokevirtual 62, 3) := dk_182 0 62 (dk_at dksX0_swap_0 5 rfl rfl)
theorem dX0_swap_8 : decode cX0_swap 8 = .ok (.i2l, 1) := dk_133 (dk_at dksX0_swap_0 8 rfl rfl)
theorem dX0_swap_9 : decode cX0_swap 9 = .ok (.lastore, 1) := dk_80 (dk_at dksX0_swap_0 9 rfl rfl)
theorem dX0_swap_10 : decode cX0_swap 10 = .ok (.goto 11, 3) := dk_167 0 11 (dk_at dksX0_swap_0 10 rfl rfl)
theorem dX0_swap_13 : decode cX0_swap 13 = .ok (.astore 4, 2) := dk_58 4 (dk_at dksX0_swap_0 13 rfl rfl)
theorem dX0_swap_15 : decode cX0_swap 15 = .ok (.iconst 1, 1) := dk_4 (dk_at dksX0_swap_0 15 rfl rfl)
theorem dX0_swap_16 : decode cX0_swap 16 = .ok (.ireturn, 1) := dk_172 (dk_at dksX0_swap_0 16 rfl rfl)
theorem dX0_swap_17 : decode cX0_swap 17 = .ok (.astore 4, 2) := dk_58 4 (dk_at dksX0_swap_0 17 rfl rfl)
theorem dX0_swap_19 : decode cX0_swap 19 = .ok (.iconst 2, 1) := dk_5 (dk_at dksX0_swap_0 19 rfl rfl)
theorem dX0_swap_20 : decode cX0_swap 20 = .ok (.ireturn, 1) := dk_172 (dk_at dksX0_swap_0 20 rfl rfl)
theorem dX0_swap_21 : decode cX0_swap 21 = .ok (.iconst 0, 1) := dk_3 (dk_at dksX0_swap_0 21 rfl rfl)
theorem dX0_swap_22 : decode cX0_swap 22 = .ok (.ireturn, 1) := dk_172 (dk_at dksX0_swap_0 22 rfl rfl)
abbrev cX0_offer : ByteArray := method_18_code
def yX0_offer : MethodName := ⟨RX0, "offer", "(LHexstead;II)I"⟩
def dkwX0_offer_0 : List UInt8 := [42, 27, 28, 182, 0, 65, 167, 0, 9, 78, 4, 172, 78, 5, 172, 3, 172]
abbrev dktX0_offer_0 : List UInt8 := dkwX0_offer_0 ++ []
theorem dksX0_offer_0 : cX0_offer.data.toList.drop 0 = dktX0_offer_0 := by decide +kernel
theorem dX0_offer_0 : decode cX0_offer 0 = .ok (.aload_n 0, 1) := dk_42 (dk_at dksX0_offer_0 0 rfl rfl)
theorem dX0_offer_1 : decode cX0_offer 1 = .ok (.iload_n 1, 1) := dk_27 (dk_at dksX0_offer_0 1 rfl rfl)
theorem dX0_offer_2 : decode cX0_offer 2 = .ok (.iload_n 2, 1) := dk_28 (dk_at dksX0_offer_0 2 rfl rfl)
theorem dX0_offer_3 : decode cX0_offer 3 = .ok (.invokevirtual 65, 3) := dk_182 0 65 (dk_at dksX0_offer_0 3 rfl rfl)
theorem dX0_offer_6 : decode cX0_offer 6 = .ok (.goto 9, 3) := dk_167 0 9 (dk_at dksX0_offer_0 6 rfl rfl)
theorem dX0_offer_9 : decode cX0_offer 9 = .ok (.astore_n 3, 1) := dk_78 (dk_at dksX0_offer_0 9 rfl rfl)
theorem dX0_offer_10 : decode cX0_offer 10 = .ok (.iconst 1, 1) := dk_4 (dk_at dksX0_offer_0 10 rfl rfl)
theorem dX0_offer_11 : decode cX0_offer 11 = .ok (.ireturn, 1) := dk_172 (dk_at dksX0_offer_0 11 rfl rfl)
theorem dX0_offer_12 : decode cX0_offer 12 = .ok (.astore_n 3, 1) := dk_78 (dk_at dksX0_offer_0 12 rfl rfl)
theorem dX0_offer_13 : decode cX0_offer 13 = .ok (.iconst 2, 1) := dk_5 (dk_at dksX0_offer_0 13 rfl rfl)
theorem dX0_offer_14 : decode cX0_offer 14 = .ok (.ireturn, 1) := dk_172 (dk_at dksX0_offer_0 14 rfl rfl)
theorem dX0_offer_15 : decode cX0_offer 15 = .ok (.iconst 0, 1) := dk_3 (dk_at dksX0_offer_0 15 rfl rfl)
theorem dX0_offer_16 : decode cX0_offer 16 = .ok (.ireturn, 1) := dk_172 (dk_at dksX0_offer_0 16 rfl rfl)
abbrev cX0_counter : ByteArray := method_19_code
def yX0_counter : MethodName := ⟨RX0, "counter", "(LHexstead;III)I"⟩
def dkwX0_counter_0 : List UInt8 := [42, 27, 28, 29, 182, 0, 69, 167, 0, 15, 58, 4, 4, 172, 58, 4, 5, 172, 58, 4, 6, 172, 3, 172]
abbrev dktX0_counter_0 : List UInt8 := dkwX0_counter_0 ++ []
theorem dksX0_counter_0 : cX0_counter.data.toList.drop 0 = dktX0_counter_0 := by decide +kernel
theorem dX0_counter_0 : decode cX0_counter 0 = .ok (.aload_n 0, 1) := dk_42 (dk_at dksX0_counter_0 0 rfl rfl)
theorem dX0_counter_1 : decode cX0_counter 1 = .ok (.iload_n 1, 1) := dk_27 (dk_at dksX0_counter_0 1 rfl rfl)
theorem dX0_counter_2 : decode cX0_counter 2 = .ok (.iload_n 2, 1) := dk_28 (dk_at dksX0_counter_0 2 rfl rfl)
theorem dX0_counter_3 : decode cX0_counter 3 = .ok (.iload_n 3, 1) := dk_29 (dk_at dksX0_counter_0 3 rfl rfl)
theorem dX0_counter_4 : decode cX0_counter 4 = .ok (.invokevirtual 69, 3) := dk_182 0 69 (dk_at dksX0_counter_0 4 rfl rfl)
theorem dX0_counter_7 : decode cX0_counter 7 = .ok (.goto 15, 3) := dk_167 0 15 (dk_at dksX0_counter_0 7 rfl rfl)
theorem dX0_counter_10 : decode cX0_counter 10 = .ok (.astore 4, 2) := dk_58 4 (dk_at dksX0_counter_0 10 rfl rfl)
theorem dX0_counter_12 : decode cX0_counter 12 = .ok (.iconst 1, 1) := dk_4 (dk_at dksX0_counter_0 12 rfl rfl)
theorem dX0_counter_13 : decode cX0_counter 13 = .ok (.ireturn, 1) := dk_172 (dk_at dksX0_counter_0 13 rfl rfl)
theorem dX0_counter_14 : decode cX0_counter 14 = .ok (.astore 4, 2) := dk_58 4 (dk_at dksX0_counter_0 14 rfl rfl)
theorem dX0_counter_16 : decode cX0_counter 16 = .ok (.iconst 2, 1) := dk_5 (dk_at dksX0_counter_0 16 rfl rfl)
theorem dX0_counter_17 : decode cX0_counter 17 = .ok (.ireturn, 1) := dk_172 (dk_at dksX0_counter_0 17 rfl rfl)
theorem dX0_counter_18 : decode cX0_counter 18 = .ok (.astore 4, 2) := dk_58 4 (dk_at dksX0_counter_0 18 rfl rfl)
theorem dX0_counter_20 : decode cX0_counter 20 = .ok (.iconst 3, 1) := dk_6 (dk_at dksX0_counter_0 20 rfl rfl)
theorem dX0_counter_21 : decode cX0_counter 21 = .ok (.ireturn, 1) := dk_172 (dk_at dksX0_counter_0 21 rfl rfl)
theorem dX0_counter_22 : decode cX0_counter 22 = .ok (.iconst 0, 1) := dk_3 (dk_at dksX0_counter_0 22 rfl rfl)
theorem dX0_counter_23 : decode cX0_counter 23 = .ok (.ireturn, 1) := dk_172 (dk_at dksX0_counter_0 23 rfl rfl)
abbrev cX0_accept : ByteArray := method_20_code
def yX0_accept : MethodName := ⟨RX0, "accept", "(LHexstead;I[J)I"⟩
def dkwX0_accept_0 : List UInt8 := [44, 3, 42, 27, 182, 0, 72, 133, 80, 167, 0, 9, 78, 4, 172, 78, 5, 172, 3, 172]
abbrev dktX0_accept_0 : List UInt8 := dkwX0_accept_0 ++ []
theorem dksX0_accept_0 : cX0_accept.data.toList.drop 0 = dktX0_accept_0 := by decide +kernel
theorem dX0_accept_0 : decode cX0_accept 0 = .ok (.aload_n 2, 1) := dk_44 (dk_at dksX0_accept_0 0 rfl rfl)
theorem dX0_accept_1 : decode cX0_accept 1 = .ok (.iconst 0, 1) := dk_3 (dk_at dksX0_accept_0 1 rfl rfl)
theorem dX0_accept_2 : decode cX0_accept 2 = .ok (.aload_n 0, 1) := dk_42 (dk_at dksX0_accept_0 2 rfl rfl)
theorem dX0_accept_3 : decode cX0_accept 3 = .ok (.iload_n 1, 1) := dk_27 (dk_at dksX0_accept_0 3 rfl rfl)
theorem dX0_accept_4 : decode cX0_accept 4 = .ok (.invokevirtual 72, 3) := dk_182 0 72 (dk_at dksX0_accept_0 4 rfl rfl)
theorem dX0_accept_7 : decode cX0_accept 7 = .ok (.i2l, 1) := dk_133 (dk_at dksX0_accept_0 7 rfl rfl)
theorem dX0_accept_8 : decode cX0_accept 8 = .ok (.lastore, 1) := dk_80 (dk_at dksX0_accept_0 8 rfl rfl)
theorem dX0_accept_9 : decode cX0_accept 9 = .ok (.goto 9, 3) := dk_167 0 9 (dk_at dksX0_accept_0 9 rfl rfl)
theorem dX0_accept_12 : decode cX0_accept 12 = .ok (.astore_n 3, 1) := dk_78 (dk_at dksX0_accept_0 12 rfl rfl)
theorem dX0_accept_13 : decode cX0_accept 13 = .ok (.iconst 1, 1) := dk_4 (dk_at dksX0_accept_0 13 rfl rfl)
theorem dX0_accept_14 : decode cX0_accept 14 = .ok (.ireturn, 1) := dk_172 (dk_at dksX0_accept_0 14 rfl rfl)
theorem dX0_accept_15 : decode cX0_accept 15 = .ok (.astore_n 3, 1) := dk_78 (dk_at dksX0_accept_0 15 rfl rfl)
theorem dX0_accept_16 : decode cX0_accept 16 = .ok (.iconst 2, 1) := dk_5 (dk_at dksX0_accept_0 16 rfl rfl)
theorem dX0_accept_17 : decode cX0_accept 17 = .ok (.ireturn, 1) := dk_172 (dk_at dksX0_accept_0 17 rfl rfl)
theorem dX0_accept_18 : decode cX0_accept 18 = .ok (.iconst 0, 1) := dk_3 (dk_at dksX0_accept_0 18 rfl rfl)
theorem dX0_accept_19 : decode cX0_accept 19 = .ok (.ireturn, 1) := dk_172 (dk_at dksX0_accept_0 19 rfl rfl)
abbrev cX0_agree : ByteArray := method_21_code
def yX0_agree : MethodName := ⟨RX0, "agree", "(LHexstead;I[J)I"⟩
def dkwX0_agree_0 : List UInt8 := [44, 3, 42, 27, 182, 0, 75, 133, 80, 167, 0, 9, 78, 4, 172, 78, 5, 172, 3, 172]
abbrev dktX0_agree_0 : List UInt8 := dkwX0_agree_0 ++ []
theorem dksX0_agree_0 : cX0_agree.data.toList.drop 0 = dktX0_agree_0 := by decide +kernel
theorem dX0_agree_0 : decode cX0_agree 0 = .ok (.aload_n 2, 1) := dk_44 (dk_at dksX0_agree_0 0 rfl rfl)
theorem dX0_agree_1 : decode cX0_agree 1 = .ok (.iconst 0, 1) := dk_3 (dk_at dksX0_agree_0 1 rfl rfl)
theorem dX0_agree_2 : decode cX0_agree 2 = .ok (.aload_n 0, 1) := dk_42 (dk_at dksX0_agree_0 2 rfl rfl)
theorem dX0_agree_3 : decode cX0_agree 3 = .ok (.iload_n 1, 1) := dk_27 (dk_at dksX0_agree_0 3 rfl rfl)
theorem dX0_agree_4 : decode cX0_agree 4 = .ok (.invokevirtual 75, 3) := dk_182 0 75 (dk_at dksX0_agree_0 4 rfl rfl)
theorem dX0_agree_7 : decode cX0_agree 7 = .ok (.i2l, 1) := dk_133 (dk_at dksX0_agree_0 7 rfl rfl)
theorem dX0_agree_8 : decode cX0_agree 8 = .ok (.lastore, 1) := dk_80 (dk_at dksX0_agree_0 8 rfl rfl)
theorem dX0_agree_9 : decode cX0_agree 9 = .ok (.goto 9, 3) := dk_167 0 9 (dk_at dksX0_agree_0 9 rfl rfl)
theorem dX0_agree_12 : decode cX0_agree 12 = .ok (.astore_n 3, 1) := dk_78 (dk_at dksX0_agree_0 12 rfl rfl)
theorem dX0_agree_13 : decode cX0_agree 13 = .ok (.iconst 1, 1) := dk_4 (dk_at dksX0_agree_0 13 rfl rfl)
theorem dX0_agree_14 : decode cX0_agree 14 = .ok (.ireturn, 1) := dk_172 (dk_at dksX0_agree_0 14 rfl rfl)
theorem dX0_agree_15 : decode cX0_agree 15 = .ok (.astore_n 3, 1) := dk_78 (dk_at dksX0_agree_0 15 rfl rfl)
theorem dX0_agree_16 : decode cX0_agree 16 = .ok (.iconst 2, 1) := dk_5 (dk_at dksX0_agree_0 16 rfl rfl)
theorem dX0_agree_17 : decode cX0_agree 17 = .ok (.ireturn, 1) := dk_172 (dk_at dksX0_agree_0 17 rfl rfl)
theorem dX0_agree_18 : decode cX0_agree 18 = .ok (.iconst 0, 1) := dk_3 (dk_at dksX0_agree_0 18 rfl rfl)
theorem dX0_agree_19 : decode cX0_agree 19 = .ok (.ireturn, 1) := dk_172 (dk_at dksX0_agree_0 19 rfl rfl)
abbrev cX0_endTurn : ByteArray := method_22_code
def yX0_endTurn : MethodName := ⟨RX0, "endTurn", "(LHexstead;[J)I"⟩
def dkwX0_endTurn_0 : List UInt8 := [43, 3, 42, 182, 0, 78, 133, 80, 167, 0, 6, 77, 4, 172, 3, 172]
abbrev dktX0_endTurn_0 : List UInt8 := dkwX0_endTurn_0 ++ []
theorem dksX0_endTurn_0 : cX0_endTurn.data.toList.drop 0 = dktX0_endTurn_0 := by decide +kernel
theorem dX0_endTurn_0 : decode cX0_endTurn 0 = .ok (.aload_n 1, 1) := dk_43 (dk_at dksX0_endTurn_0 0 rfl rfl)
theorem dX0_endTurn_1 : decode cX0_endTurn 1 = .ok (.iconst 0, 1) := dk_3 (dk_at dksX0_endTurn_0 1 rfl rfl)
theorem dX0_endTurn_2 : decode cX0_endTurn 2 = .ok (.aload_n 0, 1) := dk_42 (dk_at dksX0_endTurn_0 2 rfl rfl)
theorem dX0_endTurn_3 : decode cX0_endTurn 3 = .ok (.invokevirtual 78, 3) := dk_182 0 78 (dk_at dksX0_endTurn_0 3 rfl rfl)
theorem dX0_endTurn_6 : decode cX0_endTurn 6 = .ok (.i2l, 1) := dk_133 (dk_at dksX0_endTurn_0 6 rfl rfl)
theorem dX0_endTurn_7 : decode cX0_endTurn 7 = .ok (.lastore, 1) := dk_80 (dk_at dksX0_endTurn_0 7 rfl rfl)
theorem dX0_endTurn_8 : decode cX0_endTurn 8 = .ok (.goto 6, 3) := dk_167 0 6 (dk_at dksX0_endTurn_0 8 rfl rfl)
theorem dX0_endTurn_11 : decode cX0_endTurn 11 = .ok (.astore_n 2, 1) := dk_77 (dk_at dksX0_endTurn_0 11 rfl rfl)
theorem dX0_endTurn_12 : decode cX0_endTurn 12 = .ok (.iconst 1, 1) := dk_4 (dk_at dksX0_endTurn_0 12 rfl rfl)
theorem dX0_endTurn_13 : decode cX0_endTurn 13 = .ok (.ireturn, 1) := dk_172 (dk_at dksX0_endTurn_0 13 rfl rfl)
theorem dX0_endTurn_14 : decode cX0_endTurn 14 = .ok (.iconst 0, 1) := dk_3 (dk_at dksX0_endTurn_0 14 rfl rfl)
theorem dX0_endTurn_15 : decode cX0_endTurn 15 = .ok (.ireturn, 1) := dk_172 (dk_at dksX0_endTurn_0 15 rfl rfl)
abbrev cX0_hand : ByteArray := method_23_code
def yX0_hand : MethodName := ⟨RX0, "hand", "(LHexstead;II[J)I"⟩
def dkwX0_hand_0 : List UInt8 := [45, 3, 42, 27, 28, 182, 0, 81, 133, 80, 167, 0, 11, 58, 4, 4, 172, 58, 4, 5, 172, 3, 172]
abbrev dktX0_hand_0 : List UInt8 := dkwX0_hand_0 ++ []
theorem dksX0_hand_0 : cX0_hand.data.toList.drop 0 = dktX0_hand_0 := by decide +kernel
theorem dX0_hand_0 : decode cX0_hand 0 = .ok (.aload_n 3, 1) := dk_45 (dk_at dksX0_hand_0 0 rfl rfl)
theorem dX0_hand_1 : decode cX0_hand 1 = .ok (.iconst 0, 1) := dk_3 (dk_at dksX0_hand_0 1 rfl rfl)
theorem dX0_hand_2 : decode cX0_hand 2 = .ok (.aload_n 0, 1) := dk_42 (dk_at dksX0_hand_0 2 rfl rfl)
theorem dX0_hand_3 : decode cX0_hand 3 = .ok (.iload_n 1, 1) := dk_27 (dk_at dksX0_hand_0 3 rfl rfl)
theorem dX0_hand_4 : decode cX0_hand 4 = .ok (.iload_n 2, 1) := dk_28 (dk_at dksX0_hand_0 4 rfl rfl)
theorem dX0_hand_5 : decode cX0_hand 5 = .ok (.invokevirtual 81, 3) := dk_182 0 81 (dk_at dksX0_hand_0 5 rfl rfl)
theorem dX0_hand_8 : decode cX0_hand 8 = .ok (.i2l, 1) := dk_133 (dk_at dksX0_hand_0 8 rfl rfl)
theorem dX0_hand_9 : decode cX0_hand 9 = .ok (.lastore, 1) := dk_80 (dk_at dksX0_hand_0 9 rfl rfl)
theorem dX0_hand_10 : decode cX0_hand 10 = .ok (.goto 11, 3) := dk_167 0 11 (dk_at dksX0_hand_0 10 rfl rfl)
theorem dX0_hand_13 : decode cX0_hand 13 = .ok (.astore 4, 2) := dk_58 4 (dk_at dksX0_hand_0 13 rfl rfl)
theorem dX0_hand_15 : decode cX0_hand 15 = .ok (.iconst 1, 1) := dk_4 (dk_at dksX0_hand_0 15 rfl rfl)
theorem dX0_hand_16 : decode cX0_hand 16 = .ok (.ireturn, 1) := dk_172 (dk_at dksX0_hand_0 16 rfl rfl)
theorem dX0_hand_17 : decode cX0_hand 17 = .ok (.astore 4, 2) := dk_58 4 (dk_at dksX0_hand_0 17 rfl rfl)
theorem dX0_hand_19 : decode cX0_hand 19 = .ok (.iconst 2, 1) := dk_5 (dk_at dksX0_hand_0 19 rfl rfl)
theorem dX0_hand_20 : decode cX0_hand 20 = .ok (.ireturn, 1) := dk_172 (dk_at dksX0_hand_0 20 rfl rfl)
theorem dX0_hand_21 : decode cX0_hand 21 = .ok (.iconst 0, 1) := dk_3 (dk_at dksX0_hand_0 21 rfl rfl)
theorem dX0_hand_22 : decode cX0_hand 22 = .ok (.ireturn, 1) := dk_172 (dk_at dksX0_hand_0 22 rfl rfl)
abbrev cX0_handByMoves : ByteArray := method_24_code
def yX0_handByMoves : MethodName := ⟨RX0, "handByMoves", "(LHexstead;II[J)I"⟩
def dkwX0_handByMoves_0 : List UInt8 := [45, 3, 42, 27, 28, 182, 0, 84, 133, 80, 167, 0, 11, 58, 4, 4, 172, 58, 4, 5, 172, 3, 172]
abbrev dktX0_handByMoves_0 : List UInt8 := dkwX0_handByMoves_0 ++ []
theorem dksX0_handByMoves_0 : cX0_handByMoves.data.toList.drop 0 = dktX0_handByMoves_0 := by decide +kernel
theorem dX0_handByMoves_0 : decode cX0_handByMoves 0 = .ok (.aload_n 3, 1) := dk_45 (dk_at dksX0_handByMoves_0 0 rfl rfl)
theorem dX0_handByMoves_1 : decode cX0_handByMoves 1 = .ok (.iconst 0, 1) := dk_3 (dk_at dksX0_handByMoves_0 1 rfl rfl)
theorem dX0_handByMoves_2 : decode cX0_handByMoves 2 = .ok (.aload_n 0, 1) := dk_42 (dk_at dksX0_handByMoves_0 2 rfl rfl)
theorem dX0_handByMoves_3 : decode cX0_handByMoves 3 = .ok (.iload_n 1, 1) := dk_27 (dk_at dksX0_handByMoves_0 3 rfl rfl)
theorem dX0_handByMoves_4 : decode cX0_handByMoves 4 = .ok (.iload_n 2, 1) := dk_28 (dk_at dksX0_handByMoves_0 4 rfl rfl)
theorem dX0_handByMoves_5 : decode cX0_handByMoves 5 = .ok (.invokevirtual 84, 3) := dk_182 0 84 (dk_at dksX0_handByMoves_0 5 rfl rfl)
theorem dX0_handByMoves_8 : decode cX0_handByMoves 8 = .ok (.i2l, 1) := dk_133 (dk_at dksX0_handByMoves_0 8 rfl rfl)
theorem dX0_handByMoves_9 : decode cX0_handByMoves 9 = .ok (.lastore, 1) := dk_80 (dk_at dksX0_handByMoves_0 9 rfl rfl)
theorem dX0_handByMoves_10 : decode cX0_handByMoves 10 = .ok (.goto 11, 3) := dk_167 0 11 (dk_at dksX0_handByMoves_0 10 rfl rfl)
theorem dX0_handByMoves_13 : decode cX0_handByMoves 13 = .ok (.astore 4, 2) := dk_58 4 (dk_at dksX0_handByMoves_0 13 rfl rfl)
theorem dX0_handByMoves_15 : decode cX0_handByMoves 15 = .ok (.iconst 1, 1) := dk_4 (dk_at dksX0_handByMoves_0 15 rfl rfl)
theorem dX0_handByMoves_16 : decode cX0_handByMoves 16 = .ok (.ireturn, 1) := dk_172 (dk_at dksX0_handByMoves_0 16 rfl rfl)
theorem dX0_handByMoves_17 : decode cX0_handByMoves 17 = .ok (.astore 4, 2) := dk_58 4 (dk_at dksX0_handByMoves_0 17 rfl rfl)
theorem dX0_handByMoves_19 : decode cX0_handByMoves 19 = .ok (.iconst 2, 1) := dk_5 (dk_at dksX0_handByMoves_0 19 rfl rfl)
theorem dX0_handByMoves_20 : decode cX0_handByMoves 20 = .ok (.ireturn, 1) := dk_172 (dk_at dksX0_handByMoves_0 20 rfl rfl)
theorem dX0_handByMoves_21 : decode cX0_handByMoves 21 = .ok (.iconst 0, 1) := dk_3 (dk_at dksX0_handByMoves_0 21 rfl rfl)
theorem dX0_handByMoves_22 : decode cX0_handByMoves 22 = .ok (.ireturn, 1) := dk_172 (dk_at dksX0_handByMoves_0 22 rfl rfl)
abbrev cX0_due : ByteArray := method_25_code
def yX0_due : MethodName := ⟨RX0, "due", "(LHexstead;I[J)I"⟩
def dkwX0_due_0 : List UInt8 := [44, 3, 42, 27, 182, 0, 87, 133, 80, 167, 0, 6, 78, 4, 172, 3, 172]
abbrev dktX0_due_0 : List UInt8 := dkwX0_due_0 ++ []
theorem dksX0_due_0 : cX0_due.data.toList.drop 0 = dktX0_due_0 := by decide +kernel
theorem dX0_due_0 : decode cX0_due 0 = .ok (.aload_n 2, 1) := dk_44 (dk_at dksX0_due_0 0 rfl rfl)
theorem dX0_due_1 : decode cX0_due 1 = .ok (.iconst 0, 1) := dk_3 (dk_at dksX0_due_0 1 rfl rfl)
theorem dX0_due_2 : decode cX0_due 2 = .ok (.aload_n 0, 1) := dk_42 (dk_at dksX0_due_0 2 rfl rfl)
theorem dX0_due_3 : decode cX0_due 3 = .ok (.iload_n 1, 1) := dk_27 (dk_at dksX0_due_0 3 rfl rfl)
theorem dX0_due_4 : decode cX0_due 4 = .ok (.invokevirtual 87, 3) := dk_182 0 87 (dk_at dksX0_due_0 4 rfl rfl)
theorem dX0_due_7 : decode cX0_due 7 = .ok (.i2l, 1) := dk_133 (dk_at dksX0_due_0 7 rfl rfl)
theorem dX0_due_8 : decode cX0_due 8 = .ok (.lastore, 1) := dk_80 (dk_at dksX0_due_0 8 rfl rfl)
theorem dX0_due_9 : decode cX0_due 9 = .ok (.goto 6, 3) := dk_167 0 6 (dk_at dksX0_due_0 9 rfl rfl)
theorem dX0_due_12 : decode cX0_due 12 = .ok (.astore_n 3, 1) := dk_78 (dk_at dksX0_due_0 12 rfl rfl)
theorem dX0_due_13 : decode cX0_due 13 = .ok (.iconst 1, 1) := dk_4 (dk_at dksX0_due_0 13 rfl rfl)
theorem dX0_due_14 : decode cX0_due 14 = .ok (.ireturn, 1) := dk_172 (dk_at dksX0_due_0 14 rfl rfl)
theorem dX0_due_15 : decode cX0_due 15 = .ok (.iconst 0, 1) := dk_3 (dk_at dksX0_due_0 15 rfl rfl)
theorem dX0_due_16 : decode cX0_due 16 = .ok (.ireturn, 1) := dk_172 (dk_at dksX0_due_0 16 rfl rfl)
abbrev cX0_points : ByteArray := method_26_code
def yX0_points : MethodName := ⟨RX0, "points", "(LHexstead;I[J)I"⟩
def dkwX0_points_0 : List UInt8 := [44, 3, 42, 27, 182, 0, 90, 133, 80, 167, 0, 6, 78, 4, 172, 3, 172]
abbrev dktX0_points_0 : List UInt8 := dkwX0_points_0 ++ []
theorem dksX0_points_0 : cX0_points.data.toList.drop 0 = dktX0_points_0 := by decide +kernel
theorem dX0_points_0 : decode cX0_points 0 = .ok (.aload_n 2, 1) := dk_44 (dk_at dksX0_points_0 0 rfl rfl)
theorem dX0_points_1 : decode cX0_points 1 = .ok (.iconst 0, 1) := dk_3 (dk_at dksX0_points_0 1 rfl rfl)
theorem dX0_points_2 : decode cX0_points 2 = .ok (.aload_n 0, 1) := dk_42 (dk_at dksX0_points_0 2 rfl rfl)
theorem dX0_points_3 : decode cX0_points 3 = .ok (.iload_n 1, 1) := dk_27 (dk_at dksX0_points_0 3 rfl rfl)
theorem dX0_points_4 : decode cX0_points 4 = .ok (.invokevirtual 90, 3) := dk_182 0 90 (dk_at dksX0_points_0 4 rfl rfl)
theorem dX0_points_7 : decode cX0_points 7 = .ok (.i2l, 1) := dk_133 (dk_at dksX0_points_0 7 rfl rfl)
theorem dX0_points_8 : decode cX0_points 8 = .ok (.lastore, 1) := dk_80 (dk_at dksX0_points_0 8 rfl rfl)
theorem dX0_points_9 : decode cX0_points 9 = .ok (.goto 6, 3) := dk_167 0 6 (dk_at dksX0_points_0 9 rfl rfl)
theorem dX0_points_12 : decode cX0_points 12 = .ok (.astore_n 3, 1) := dk_78 (dk_at dksX0_points_0 12 rfl rfl)
theorem dX0_points_13 : decode cX0_points 13 = .ok (.iconst 1, 1) := dk_4 (dk_at dksX0_points_0 13 rfl rfl)
theorem dX0_points_14 : decode cX0_points 14 = .ok (.ireturn, 1) := dk_172 (dk_at dksX0_points_0 14 rfl rfl)
theorem dX0_points_15 : decode cX0_points 15 = .ok (.iconst 0, 1) := dk_3 (dk_at dksX0_points_0 15 rfl rfl)
theorem dX0_points_16 : decode cX0_points 16 = .ok (.ireturn, 1) := dk_172 (dk_at dksX0_points_0 16 rfl rfl)
abbrev cX0_trail : ByteArray := method_27_code
def yX0_trail : MethodName := ⟨RX0, "trail", "(LHexstead;I[J)I"⟩
def dkwX0_trail_0 : List UInt8 := [44, 3, 42, 27, 182, 0, 93, 133, 80, 167, 0, 6, 78, 4, 172, 3, 172]
abbrev dktX0_trail_0 : List UInt8 := dkwX0_trail_0 ++ []
theorem dksX0_trail_0 : cX0_trail.data.toList.drop 0 = dktX0_trail_0 := by decide +kernel
theorem dX0_trail_0 : decode cX0_trail 0 = .ok (.aload_n 2, 1) := dk_44 (dk_at dksX0_trail_0 0 rfl rfl)
theorem dX0_trail_1 : decode cX0_trail 1 = .ok (.iconst 0, 1) := dk_3 (dk_at dksX0_trail_0 1 rfl rfl)
theorem dX0_trail_2 : decode cX0_trail 2 = .ok (.aload_n 0, 1) := dk_42 (dk_at dksX0_trail_0 2 rfl rfl)
theorem dX0_trail_3 : decode cX0_trail 3 = .ok (.iload_n 1, 1) := dk_27 (dk_at dksX0_trail_0 3 rfl rfl)
theorem dX0_trail_4 : decode cX0_trail 4 = .ok (.invokevirtual 93, 3) := dk_182 0 93 (dk_at dksX0_trail_0 4 rfl rfl)
theorem dX0_trail_7 : decode cX0_trail 7 = .ok (.i2l, 1) := dk_133 (dk_at dksX0_trail_0 7 rfl rfl)
theorem dX0_trail_8 : decode cX0_trail 8 = .ok (.lastore, 1) := dk_80 (dk_at dksX0_trail_0 8 rfl rfl)
theorem dX0_trail_9 : decode cX0_trail 9 = .ok (.goto 6, 3) := dk_167 0 6 (dk_at dksX0_trail_0 9 rfl rfl)
theorem dX0_trail_12 : decode cX0_trail 12 = .ok (.astore_n 3, 1) := dk_78 (dk_at dksX0_trail_0 12 rfl rfl)
theorem dX0_trail_13 : decode cX0_trail 13 = .ok (.iconst 1, 1) := dk_4 (dk_at dksX0_trail_0 13 rfl rfl)
theorem dX0_trail_14 : decode cX0_trail 14 = .ok (.ireturn, 1) := dk_172 (dk_at dksX0_trail_0 14 rfl rfl)
theorem dX0_trail_15 : decode cX0_trail 15 = .ok (.iconst 0, 1) := dk_3 (dk_at dksX0_trail_0 15 rfl rfl)
theorem dX0_trail_16 : decode cX0_trail 16 = .ok (.ireturn, 1) := dk_172 (dk_at dksX0_trail_0 16 rfl rfl)
abbrev cX0_trailBySets : ByteArray := method_28_code
def yX0_trailBySets : MethodName := ⟨RX0, "trailBySets", "(LHexstead;I[J)I"⟩
def dkwX0_trailBySets_0 : List UInt8 := [44, 3, 42, 27, 182, 0, 96, 133, 80, 167, 0, 6, 78, 4, 172, 3, 172]
abbrev dktX0_trailBySets_0 : List UInt8 := dkwX0_trailBySets_0 ++ []
theorem dksX0_trailBySets_0 : cX0_trailBySets.data.toList.drop 0 = dktX0_trailBySets_0 := by decide +kernel
theorem dX0_trailBySets_0 : decode cX0_trailBySets 0 = .ok (.aload_n 2, 1) := dk_44 (dk_at dksX0_trailBySets_0 0 rfl rfl)
theorem dX0_trailBySets_1 : decode cX0_trailBySets 1 = .ok (.iconst 0, 1) := dk_3 (dk_at dksX0_trailBySets_0 1 rfl rfl)
theorem dX0_trailBySets_2 : decode cX0_trailBySets 2 = .ok (.aload_n 0, 1) := dk_42 (dk_at dksX0_trailBySets_0 2 rfl rfl)
theorem dX0_trailBySets_3 : decode cX0_trailBySets 3 = .ok (.iload_n 1, 1) := dk_27 (dk_at dksX0_trailBySets_0 3 rfl rfl)
theorem dX0_trailBySets_4 : decode cX0_trailBySets 4 = .ok (.invokevirtual 96, 3) := dk_182 0 96 (dk_at dksX0_trailBySets_0 4 rfl rfl)
theorem dX0_trailBySets_7 : decode cX0_trailBySets 7 = .ok (.i2l, 1) := dk_133 (dk_at dksX0_trailBySets_0 7 rfl rfl)
theorem dX0_trailBySets_8 : decode cX0_trailBySets 8 = .ok (.lastore, 1) := dk_80 (dk_at dksX0_trailBySets_0 8 rfl rfl)
theorem dX0_trailBySets_9 : decode cX0_trailBySets 9 = .ok (.goto 6, 3) := dk_167 0 6 (dk_at dksX0_trailBySets_0 9 rfl rfl)
theorem dX0_trailBySets_12 : decode cX0_trailBySets 12 = .ok (.astore_n 3, 1) := dk_78 (dk_at dksX0_trailBySets_0 12 rfl rfl)
theorem dX0_trailBySets_13 : decode cX0_trailBySets 13 = .ok (.iconst 1, 1) := dk_4 (dk_at dksX0_trailBySets_0 13 rfl rfl)
theorem dX0_trailBySets_14 : decode cX0_trailBySets 14 = .ok (.ireturn, 1) := dk_172 (dk_at dksX0_trailBySets_0 14 rfl rfl)
theorem dX0_trailBySets_15 : decode cX0_trailBySets 15 = .ok (.iconst 0, 1) := dk_3 (dk_at dksX0_trailBySets_0 15 rfl rfl)
theorem dX0_trailBySets_16 : decode cX0_trailBySets 16 = .ok (.ireturn, 1) := dk_172 (dk_at dksX0_trailBySets_0 16 rfl rfl)
abbrev cX0_knights : ByteArray := method_29_code
def yX0_knights : MethodName := ⟨RX0, "knights", "(LHexstead;I[J)I"⟩
def dkwX0_knights_0 : List UInt8 := [44, 3, 42, 27, 182, 0, 99, 133, 80, 167, 0, 6, 78, 4, 172, 3, 172]
abbrev dktX0_knights_0 : List UInt8 := dkwX0_knights_0 ++ []
theorem dksX0_knights_0 : cX0_knights.data.toList.drop 0 = dktX0_knights_0 := by decide +kernel
theorem dX0_knights_0 : decode cX0_knights 0 = .ok (.aload_n 2, 1) := dk_44 (dk_at dksX0_knights_0 0 rfl rfl)
theorem dX0_knights_1 : decode cX0_knights 1 = .ok (.iconst 0, 1) := dk_3 (dk_at dksX0_knights_0 1 rfl rfl)
theorem dX0_knights_2 : decode cX0_knights 2 = .ok (.aload_n 0, 1) := dk_42 (dk_at dksX0_knights_0 2 rfl rfl)
theorem dX0_knights_3 : decode cX0_knights 3 = .ok (.iload_n 1, 1) := dk_27 (dk_at dksX0_knights_0 3 rfl rfl)
theorem dX0_knights_4 : decode cX0_knights 4 = .ok (.invokevirtual 99, 3) := dk_182 0 99 (dk_at dksX0_knights_0 4 rfl rfl)
theorem dX0_knights_7 : decode cX0_knights 7 = .ok (.i2l, 1) := dk_133 (dk_at dksX0_knights_0 7 rfl rfl)
theorem dX0_knights_8 : decode cX0_knights 8 = .ok (.lastore, 1) := dk_80 (dk_at dksX0_knights_0 8 rfl rfl)
theorem dX0_knights_9 : decode cX0_knights 9 = .ok (.goto 6, 3) := dk_167 0 6 (dk_at dksX0_knights_0 9 rfl rfl)
theorem dX0_knights_12 : decode cX0_knights 12 = .ok (.astore_n 3, 1) := dk_78 (dk_at dksX0_knights_0 12 rfl rfl)
theorem dX0_knights_13 : decode cX0_knights 13 = .ok (.iconst 1, 1) := dk_4 (dk_at dksX0_knights_0 13 rfl rfl)
theorem dX0_knights_14 : decode cX0_knights 14 = .ok (.ireturn, 1) := dk_172 (dk_at dksX0_knights_0 14 rfl rfl)
theorem dX0_knights_15 : decode cX0_knights 15 = .ok (.iconst 0, 1) := dk_3 (dk_at dksX0_knights_0 15 rfl rfl)
theorem dX0_knights_16 : decode cX0_knights 16 = .ok (.ireturn, 1) := dk_172 (dk_at dksX0_knights_0 16 rfl rfl)
abbrev cX0_cards : ByteArray := method_30_code
def yX0_cards : MethodName := ⟨RX0, "cards", "(LHexstead;II[J)I"⟩
def dkwX0_cards_0 : List UInt8 := [45, 3, 42, 27, 28, 182, 0, 102, 133, 80, 167, 0, 11, 58, 4, 4, 172, 58, 4, 5, 172, 3, 172]
abbrev dktX0_cards_0 : List UInt8 := dkwX0_cards_0 ++ []
theorem dksX0_cards_0 : cX0_cards.data.toList.drop 0 = dktX0_cards_0 := by decide +kernel
theorem dX0_cards_0 : decode cX0_cards 0 = .ok (.aload_n 3, 1) := dk_45 (dk_at dksX0_cards_0 0 rfl rfl)
theorem dX0_cards_1 : decode cX0_cards 1 = .ok (.iconst 0, 1) := dk_3 (dk_at dksX0_cards_0 1 rfl rfl)
theorem dX0_cards_2 : decode cX0_cards 2 = .ok (.aload_n 0, 1) := dk_42 (dk_at dksX0_cards_0 2 rfl rfl)
theorem dX0_cards_3 : decode cX0_cards 3 = .ok (.iload_n 1, 1) := dk_27 (dk_at dksX0_cards_0 3 rfl rfl)
theorem dX0_cards_4 : decode cX0_cards 4 = .ok (.iload_n 2, 1) := dk_28 (dk_at dksX0_cards_0 4 rfl rfl)
theorem dX0_cards_5 : decode cX0_cards 5 = .ok (.invokevirtual 102, 3) := dk_182 0 102 (dk_at dksX0_cards_0 5 rfl rfl)
theorem dX0_cards_8 : decode cX0_cards 8 = .ok (.i2l, 1) := dk_133 (dk_at dksX0_cards_0 8 rfl rfl)
theorem dX0_cards_9 : decode cX0_cards 9 = .ok (.lastore, 1) := dk_80 (dk_at dksX0_cards_0 9 rfl rfl)
theorem dX0_cards_10 : decode cX0_cards 10 = .ok (.goto 11, 3) := dk_167 0 11 (dk_at dksX0_cards_0 10 rfl rfl)
theorem dX0_cards_13 : decode cX0_cards 13 = .ok (.astore 4, 2) := dk_58 4 (dk_at dksX0_cards_0 13 rfl rfl)
theorem dX0_cards_15 : decode cX0_cards 15 = .ok (.iconst 1, 1) := dk_4 (dk_at dksX0_cards_0 15 rfl rfl)
theorem dX0_cards_16 : decode cX0_cards 16 = .ok (.ireturn, 1) := dk_172 (dk_at dksX0_cards_0 16 rfl rfl)
theorem dX0_cards_17 : decode cX0_cards 17 = .ok (.astore 4, 2) := dk_58 4 (dk_at dksX0_cards_0 17 rfl rfl)
theorem dX0_cards_19 : decode cX0_cards 19 = .ok (.iconst 2, 1) := dk_5 (dk_at dksX0_cards_0 19 rfl rfl)
theorem dX0_cards_20 : decode cX0_cards 20 = .ok (.ireturn, 1) := dk_172 (dk_at dksX0_cards_0 20 rfl rfl)
theorem dX0_cards_21 : decode cX0_cards 21 = .ok (.iconst 0, 1) := dk_3 (dk_at dksX0_cards_0 21 rfl rfl)
theorem dX0_cards_22 : decode cX0_cards 22 = .ok (.ireturn, 1) := dk_172 (dk_at dksX0_cards_0 22 rfl rfl)
abbrev cX0_buildingAt : ByteArray := method_31_code
def yX0_buildingAt : MethodName := ⟨RX0, "buildingAt", "(LHexstead;I[J)I"⟩
def dkwX0_buildingAt_0 : List UInt8 := [44, 3, 42, 27, 182, 0, 105, 133, 80, 167, 0, 6, 78, 4, 172, 3, 172]
abbrev dktX0_buildingAt_0 : List UInt8 := dkwX0_buildingAt_0 ++ []
theorem dksX0_buildingAt_0 : cX0_buildingAt.data.toList.drop 0 = dktX0_buildingAt_0 := by decide +kernel
theorem dX0_buildingAt_0 : decode cX0_buildingAt 0 = .ok (.aload_n 2, 1) := dk_44 (dk_at dksX0_buildingAt_0 0 rfl rfl)
theorem dX0_buildingAt_1 : decode cX0_buildingAt 1 = .ok (.iconst 0, 1) := dk_3 (dk_at dksX0_buildingAt_0 1 rfl rfl)
theorem dX0_buildingAt_2 : decode cX0_buildingAt 2 = .ok (.aload_n 0, 1) := dk_42 (dk_at dksX0_buildingAt_0 2 rfl rfl)
theorem dX0_buildingAt_3 : decode cX0_buildingAt 3 = .ok (.iload_n 1, 1) := dk_27 (dk_at dksX0_buildingAt_0 3 rfl rfl)
theorem dX0_buildingAt_4 : decode cX0_buildingAt 4 = .ok (.invokevirtual 105, 3) := dk_182 0 105 (dk_at dksX0_buildingAt_0 4 rfl rfl)
theorem dX0_buildingAt_7 : decode cX0_buildingAt 7 = .ok (.i2l, 1) := dk_133 (dk_at dksX0_buildingAt_0 7 rfl rfl)
theorem dX0_buildingAt_8 : decode cX0_buildingAt 8 = .ok (.lastore, 1) := dk_80 (dk_at dksX0_buildingAt_0 8 rfl rfl)
theorem dX0_buildingAt_9 : decode cX0_buildingAt 9 = .ok (.goto 6, 3) := dk_167 0 6 (dk_at dksX0_buildingAt_0 9 rfl rfl)
theorem dX0_buildingAt_12 : decode cX0_buildingAt 12 = .ok (.astore_n 3, 1) := dk_78 (dk_at dksX0_buildingAt_0 12 rfl rfl)
theorem dX0_buildingAt_13 : decode cX0_buildingAt 13 = .ok (.iconst 1, 1) := dk_4 (dk_at dksX0_buildingAt_0 13 rfl rfl)
theorem dX0_buildingAt_14 : decode cX0_buildingAt 14 = .ok (.ireturn, 1) := dk_172 (dk_at dksX0_buildingAt_0 14 rfl rfl)
theorem dX0_buildingAt_15 : decode cX0_buildingAt 15 = .ok (.iconst 0, 1) := dk_3 (dk_at dksX0_buildingAt_0 15 rfl rfl)
theorem dX0_buildingAt_16 : decode cX0_buildingAt 16 = .ok (.ireturn, 1) := dk_172 (dk_at dksX0_buildingAt_0 16 rfl rfl)
abbrev cX0_roadAt : ByteArray := method_32_code
def yX0_roadAt : MethodName := ⟨RX0, "roadAt", "(LHexstead;I[J)I"⟩
def dkwX0_roadAt_0 : List UInt8 := [44, 3, 42, 27, 182, 0, 108, 133, 80, 167, 0, 6, 78, 4, 172, 3, 172]
abbrev dktX0_roadAt_0 : List UInt8 := dkwX0_roadAt_0 ++ []
theorem dksX0_roadAt_0 : cX0_roadAt.data.toList.drop 0 = dktX0_roadAt_0 := by decide +kernel
theorem dX0_roadAt_0 : decode cX0_roadAt 0 = .ok (.aload_n 2, 1) := dk_44 (dk_at dksX0_roadAt_0 0 rfl rfl)
theorem dX0_roadAt_1 : decode cX0_roadAt 1 = .ok (.iconst 0, 1) := dk_3 (dk_at dksX0_roadAt_0 1 rfl rfl)
theorem dX0_roadAt_2 : decode cX0_roadAt 2 = .ok (.aload_n 0, 1) := dk_42 (dk_at dksX0_roadAt_0 2 rfl rfl)
theorem dX0_roadAt_3 : decode cX0_roadAt 3 = .ok (.iload_n 1, 1) := dk_27 (dk_at dksX0_roadAt_0 3 rfl rfl)
theorem dX0_roadAt_4 : decode cX0_roadAt 4 = .ok (.invokevirtual 108, 3) := dk_182 0 108 (dk_at dksX0_roadAt_0 4 rfl rfl)
theorem dX0_roadAt_7 : decode cX0_roadAt 7 = .ok (.i2l, 1) := dk_133 (dk_at dksX0_roadAt_0 7 rfl rfl)
theorem dX0_roadAt_8 : decode cX0_roadAt 8 = .ok (.lastore, 1) := dk_80 (dk_at dksX0_roadAt_0 8 rfl rfl)
theorem dX0_roadAt_9 : decode cX0_roadAt 9 = .ok (.goto 6, 3) := dk_167 0 6 (dk_at dksX0_roadAt_0 9 rfl rfl)
theorem dX0_roadAt_12 : decode cX0_roadAt 12 = .ok (.astore_n 3, 1) := dk_78 (dk_at dksX0_roadAt_0 12 rfl rfl)
theorem dX0_roadAt_13 : decode cX0_roadAt 13 = .ok (.iconst 1, 1) := dk_4 (dk_at dksX0_roadAt_0 13 rfl rfl)
theorem dX0_roadAt_14 : decode cX0_roadAt 14 = .ok (.ireturn, 1) := dk_172 (dk_at dksX0_roadAt_0 14 rfl rfl)
theorem dX0_roadAt_15 : decode cX0_roadAt 15 = .ok (.iconst 0, 1) := dk_3 (dk_at dksX0_roadAt_0 15 rfl rfl)
theorem dX0_roadAt_16 : decode cX0_roadAt 16 = .ok (.ireturn, 1) := dk_172 (dk_at dksX0_roadAt_0 16 rfl rfl)
abbrev cX0_rate : ByteArray := method_33_code
def yX0_rate : MethodName := ⟨RX0, "rate", "(LHexstead;II[J)I"⟩
def dkwX0_rate_0 : List UInt8 := [45, 3, 42, 27, 28, 182, 0, 111, 133, 80, 167, 0, 11, 58, 4, 4, 172, 58, 4, 5, 172, 3, 172]
abbrev dktX0_rate_0 : List UInt8 := dkwX0_rate_0 ++ []
theorem dksX0_rate_0 : cX0_rate.data.toList.drop 0 = dktX0_rate_0 := by decide +kernel
theorem dX0_rate_0 : decode cX0_rate 0 = .ok (.aload_n 3, 1) := dk_45 (dk_at dksX0_rate_0 0 rfl rfl)
theorem dX0_rate_1 : decode cX0_rate 1 = .ok (.iconst 0, 1) := dk_3 (dk_at dksX0_rate_0 1 rfl rfl)
theorem dX0_rate_2 : decode cX0_rate 2 = .ok (.aload_n 0, 1) := dk_42 (dk_at dksX0_rate_0 2 rfl rfl)
theorem dX0_rate_3 : decode cX0_rate 3 = .ok (.iload_n 1, 1) := dk_27 (dk_at dksX0_rate_0 3 rfl rfl)
theorem dX0_rate_4 : decode cX0_rate 4 = .ok (.iload_n 2, 1) := dk_28 (dk_at dksX0_rate_0 4 rfl rfl)
theorem dX0_rate_5 : decode cX0_rate 5 = .ok (.invokevirtual 111, 3) := dk_182 0 111 (dk_at dksX0_rate_0 5 rfl rfl)
theorem dX0_rate_8 : decode cX0_rate 8 = .ok (.i2l, 1) := dk_133 (dk_at dksX0_rate_0 8 rfl rfl)
theorem dX0_rate_9 : decode cX0_rate 9 = .ok (.lastore, 1) := dk_80 (dk_at dksX0_rate_0 9 rfl rfl)
theorem dX0_rate_10 : decode cX0_rate 10 = .ok (.goto 11, 3) := dk_167 0 11 (dk_at dksX0_rate_0 10 rfl rfl)
theorem dX0_rate_13 : decode cX0_rate 13 = .ok (.astore 4, 2) := dk_58 4 (dk_at dksX0_rate_0 13 rfl rfl)
theorem dX0_rate_15 : decode cX0_rate 15 = .ok (.iconst 1, 1) := dk_4 (dk_at dksX0_rate_0 15 rfl rfl)
theorem dX0_rate_16 : decode cX0_rate 16 = .ok (.ireturn, 1) := dk_172 (dk_at dksX0_rate_0 16 rfl rfl)
theorem dX0_rate_17 : decode cX0_rate 17 = .ok (.astore 4, 2) := dk_58 4 (dk_at dksX0_rate_0 17 rfl rfl)
theorem dX0_rate_19 : decode cX0_rate 19 = .ok (.iconst 2, 1) := dk_5 (dk_at dksX0_rate_0 19 rfl rfl)
theorem dX0_rate_20 : decode cX0_rate 20 = .ok (.ireturn, 1) := dk_172 (dk_at dksX0_rate_0 20 rfl rfl)
theorem dX0_rate_21 : decode cX0_rate 21 = .ok (.iconst 0, 1) := dk_3 (dk_at dksX0_rate_0 21 rfl rfl)
theorem dX0_rate_22 : decode cX0_rate 22 = .ok (.ireturn, 1) := dk_172 (dk_at dksX0_rate_0 22 rfl rfl)
abbrev cX0_wouldGet : ByteArray := method_34_code
def yX0_wouldGet : MethodName := ⟨RX0, "wouldGet", "(LHexstead;III[J)I"⟩
def dkwX0_wouldGet_1 : List UInt8 := [172]
abbrev dktX0_wouldGet_1 : List UInt8 := dkwX0_wouldGet_1 ++ []
def dkwX0_wouldGet_0 : List UInt8 := [25, 4, 3, 42, 27, 28, 29, 182, 0, 114, 133, 80, 167, 0, 11, 58, 5, 4, 172, 58, 5, 5, 172, 3]
abbrev dktX0_wouldGet_0 : List UInt8 := dkwX0_wouldGet_0 ++ dktX0_wouldGet_1
theorem dksX0_wouldGet_0 : cX0_wouldGet.data.toList.drop 0 = dktX0_wouldGet_0 := by decide +kernel
theorem dksX0_wouldGet_1 : cX0_wouldGet.data.toList.drop 24 = dktX0_wouldGet_1 := dk_seg dksX0_wouldGet_0 24 rfl rfl
theorem dX0_wouldGet_0 : decode cX0_wouldGet 0 = .ok (.aload 4, 2) := dk_25 4 (dk_at dksX0_wouldGet_0 0 rfl rfl)
theorem dX0_wouldGet_2 : decode cX0_wouldGet 2 = .ok (.iconst 0, 1) := dk_3 (dk_at dksX0_wouldGet_0 2 rfl rfl)
theorem dX0_wouldGet_3 : decode cX0_wouldGet 3 = .ok (.aload_n 0, 1) := dk_42 (dk_at dksX0_wouldGet_0 3 rfl rfl)
theorem dX0_wouldGet_4 : decode cX0_wouldGet 4 = .ok (.iload_n 1, 1) := dk_27 (dk_at dksX0_wouldGet_0 4 rfl rfl)
theorem dX0_wouldGet_5 : decode cX0_wouldGet 5 = .ok (.iload_n 2, 1) := dk_28 (dk_at dksX0_wouldGet_0 5 rfl rfl)
theorem dX0_wouldGet_6 : decode cX0_wouldGet 6 = .ok (.iload_n 3, 1) := dk_29 (dk_at dksX0_wouldGet_0 6 rfl rfl)
theorem dX0_wouldGet_7 : decode cX0_wouldGet 7 = .ok (.invokevirtual 114, 3) := dk_182 0 114 (dk_at dksX0_wouldGet_0 7 rfl rfl)
theorem dX0_wouldGet_10 : decode cX0_wouldGet 10 = .ok (.i2l, 1) := dk_133 (dk_at dksX0_wouldGet_0 10 rfl rfl)
theorem dX0_wouldGet_11 : decode cX0_wouldGet 11 = .ok (.lastore, 1) := dk_80 (dk_at dksX0_wouldGet_0 11 rfl rfl)
theorem dX0_wouldGet_12 : decode cX0_wouldGet 12 = .ok (.goto 11, 3) := dk_167 0 11 (dk_at dksX0_wouldGet_0 12 rfl rfl)
theorem dX0_wouldGet_15 : decode cX0_wouldGet 15 = .ok (.astore 5, 2) := dk_58 5 (dk_at dksX0_wouldGet_0 15 rfl rfl)
theorem dX0_wouldGet_17 : decode cX0_wouldGet 17 = .ok (.iconst 1, 1) := dk_4 (dk_at dksX0_wouldGet_0 17 rfl rfl)
theorem dX0_wouldGet_18 : decode cX0_wouldGet 18 = .ok (.ireturn, 1) := dk_172 (dk_at dksX0_wouldGet_0 18 rfl rfl)
theorem dX0_wouldGet_19 : decode cX0_wouldGet 19 = .ok (.astore 5, 2) := dk_58 5 (dk_at dksX0_wouldGet_0 19 rfl rfl)
theorem dX0_wouldGet_21 : decode cX0_wouldGet 21 = .ok (.iconst 2, 1) := dk_5 (dk_at dksX0_wouldGet_0 21 rfl rfl)
theorem dX0_wouldGet_22 : decode cX0_wouldGet 22 = .ok (.ireturn, 1) := dk_172 (dk_at dksX0_wouldGet_0 22 rfl rfl)
theorem dX0_wouldGet_23 : decode cX0_wouldGet 23 = .ok (.iconst 0, 1) := dk_3 (dk_at dksX0_wouldGet_0 23 rfl rfl)
theorem dX0_wouldGet_24 : decode cX0_wouldGet 24 = .ok (.ireturn, 1) := dk_172 (dk_at dksX0_wouldGet_1 0 rfl rfl)
theorem q70 : (Jvm.Cond.initialized "HexsteadLaw") ∈ lw_all := lw_g (lw_at lw_m1 0 rfl) rfl
theorem q98 : (Jvm.Cond.classLink "HexsteadLaw" (8 : Nat) "Hexstead") ∈ lw_all := lw_g (lw_at lw_m1 28 rfl) rfl
theorem q100 : (Jvm.Cond.methodLink "HexsteadLaw" (117 : Nat) ({ cls := "Hexstead", name := "<init>", desc := "()V" } : Jvm.MethodName)) ∈ lw_all := lw_g (lw_at lw_m1 30 rfl) rfl
theorem q220 : (Jvm.Cond.methodLink "HexsteadLaw" (192 : Nat) ({ cls := "Hexstead", name := "phase", desc := "()I" } : Jvm.MethodName)) ∈ lw_all := lw_g (lw_at lw_m1 150 rfl) rfl
theorem q224 : (Jvm.Cond.methodLink "HexsteadLaw" (196 : Nat) ({ cls := "Hexstead", name := "turn", desc := "()I" } : Jvm.MethodName)) ∈ lw_all := lw_g (lw_at lw_m1 154 rfl) rfl
theorem q228 : (Jvm.Cond.methodLink "HexsteadLaw" (218 : Nat) ({ cls := "Hexstead", name := "holder", desc := "(Z)I" } : Jvm.MethodName)) ∈ lw_all := lw_g (lw_at lw_m1 158 rfl) rfl
theorem q232 : (Jvm.Cond.methodLink "HexsteadLaw" (235 : Nat) ({ cls := "Hexstead", name := "robber", desc := "()I" } : Jvm.MethodName)) ∈ lw_all := lw_g (lw_at lw_m1 162 rfl) rfl
theorem q236 : (Jvm.Cond.methodLink "HexsteadLaw" (121 : Nat) ({ cls := "HexsteadLaw", name := "layHex", desc := "(LHexstead;III)I" } : Jvm.MethodName)) ∈ lw_all := lw_g (lw_at lw_m1 166 rfl) rfl
theorem q237 : (Jvm.Cond.static ({ cls := "HexsteadLaw", name := "layHex", desc := "(LHexstead;III)I" } : Jvm.MethodName)) ∈ lw_all := lw_g (lw_at lw_m1 167 rfl) rfl
theorem q238 : (Jvm.Cond.codeWith ({ cls := "HexsteadLaw", name := "layHex", desc := "(LHexstead;III)I" } : Jvm.MethodName) method_3_code (5 : Nat) (Option.some Jvm.ClassFile.FieldType.int) [((0 : Nat), (7 : Nat), (10 : Nat), (13 : Nat)), ((0 : Nat), (7 : Nat), (14 : Nat), (15 : Nat)), ((0 : Nat), (7 : Nat), (18 : Nat), (17 : Nat))]) ∈ lw_all := lw_g (lw_at lw_m1 168 rfl) rfl
theorem q239 : (Jvm.Cond.classLink "HexsteadLaw" (13 : Nat) "java/lang/IndexOutOfBoundsException") ∈ lw_all := lw_g (lw_at lw_m1 169 rfl) rfl
theorem q316 : (Jvm.Cond.classLink "HexsteadLaw" (15 : Nat) "java/lang/IllegalArgumentException") ∈ lw_all := lw_g (lw_at lw_m2 6 rfl) rfl
theorem q317 : (Jvm.Cond.classLink "HexsteadLaw" (17 : Nat) "java/lang/IllegalStateException") ∈ lw_all := lw_g (lw_at lw_m2 7 rfl) rfl
theorem q318 : (Jvm.Cond.methodLink "HexsteadLaw" (7 : Nat) ({ cls := "Hexstead", name := "layHex", desc := "(III)V" } : Jvm.MethodName)) ∈ lw_all := lw_g (lw_at lw_m2 8 rfl) rfl
theorem q382 : (Jvm.Cond.methodLink "HexsteadLaw" (130 : Nat) ({ cls := "HexsteadLaw", name := "place", desc := "(LHexstead;II[J)I" } : Jvm.MethodName)) ∈ lw_all := lw_g (lw_at lw_m2 72 rfl) rfl
theorem q383 : (Jvm.Cond.static ({ cls := "HexsteadLaw", name := "place", desc := "(LHexstead;II[J)I" } : Jvm.MethodName)) ∈ lw_all := lw_g (lw_at lw_m2 73 rfl) rfl
theorem q384 : (Jvm.Cond.codeWith ({ cls := "HexsteadLaw", name := "place", desc := "(LHexstead;II[J)I" } : Jvm.MethodName) method_4_code (5 : Nat) (Option.some Jvm.ClassFile.FieldType.int) [((0 : Nat), (10 : Nat), (13 : Nat), (13 : Nat)), ((0 : Nat), (10 : Nat), (17 : Nat), (17 : Nat))]) ∈ lw_all := lw_g (lw_at lw_m2 74 rfl) rfl
theorem q385 : (Jvm.Cond.methodLink "HexsteadLaw" (19 : Nat) ({ cls := "Hexstead", name := "place", desc := "(II)I" } : Jvm.MethodName)) ∈ lw_all := lw_g (lw_at lw_m2 75 rfl) rfl
theorem q637 : (Jvm.Cond.methodLink "HexsteadLaw" (134 : Nat) ({ cls := "HexsteadLaw", name := "deal", desc := "(LHexstead;II[J)I" } : Jvm.MethodName)) ∈ lw_all := lw_g (lw_at lw_m3 87 rfl) rfl
theorem q638 : (Jvm.Cond.static ({ cls := "HexsteadLaw", name := "deal", desc := "(LHexstead;II[J)I" } : Jvm.MethodName)) ∈ lw_all := lw_g (lw_at lw_m3 88 rfl) rfl
theorem q639 : (Jvm.Cond.codeWith ({ cls := "HexsteadLaw", name := "deal", desc := "(LHexstead;II[J)I" } : Jvm.MethodName) method_5_code (5 : Nat) (Option.some Jvm.ClassFile.FieldType.int) [((0 : Nat), (10 : Nat), (13 : Nat), (13 : Nat)), ((0 : Nat), (10 : Nat), (17 : Nat), (15 : Nat)), ((0 : Nat), (10 : Nat), (21 : Nat), (17 : Nat))]) ∈ lw_all := lw_g (lw_at lw_m3 89 rfl) rfl
theorem q640 : (Jvm.Cond.methodLink "HexsteadLaw" (23 : Nat) ({ cls := "Hexstead", name := "deal", desc := "(II)I" } : Jvm.MethodName)) ∈ lw_all := lw_g (lw_at lw_m3 90 rfl) rfl
theorem q663 : (Jvm.Cond.methodLink "HexsteadLaw" (137 : Nat) ({ cls := "HexsteadLaw", name := "roll", desc := "(LHexstead;II[J)I" } : Jvm.MethodName)) ∈ lw_all := lw_g (lw_at lw_m3 113 rfl) rfl
theorem q664 : (Jvm.Cond.static ({ cls := "HexsteadLaw", name := "roll", desc := "(LHexstead;II[J)I" } : Jvm.MethodName)) ∈ lw_all := lw_g (lw_at lw_m3 114 rfl) rfl
theorem q665 : (Jvm.Cond.codeWith ({ cls := "HexsteadLaw", name := "roll", desc := "(LHexstead;II[J)I" } : Jvm.MethodName) method_6_code (5 : Nat) (Option.some Jvm.ClassFile.FieldType.int) [((0 : Nat), (10 : Nat), (13 : Nat), (15 : Nat)), ((0 : Nat), (10 : Nat), (17 : Nat), (17 : Nat))]) ∈ lw_all := lw_g (lw_at lw_m3 115 rfl) rfl
theorem q666 : (Jvm.Cond.methodLink "HexsteadLaw" (26 : Nat) ({ cls := "Hexstead", name := "roll", desc := "(II)I" } : Jvm.MethodName)) ∈ lw_all := lw_g (lw_at lw_m3 116 rfl) rfl
theorem q680 : (Jvm.Cond.methodLink "HexsteadLaw" (140 : Nat) ({ cls := "HexsteadLaw", name := "discard", desc := "(LHexstead;II[J)I" } : Jvm.MethodName)) ∈ lw_all := lw_g (lw_at lw_m3 130 rfl) rfl
theorem q681 : (Jvm.Cond.static ({ cls := "HexsteadLaw", name := "discard", desc := "(LHexstead;II[J)I" } : Jvm.MethodName)) ∈ lw_all := lw_g (lw_at lw_m3 131 rfl) rfl
theorem q682 : (Jvm.Cond.codeWith ({ cls := "HexsteadLaw", name := "discard", desc := "(LHexstead;II[J)I" } : Jvm.MethodName) method_7_code (5 : Nat) (Option.some Jvm.ClassFile.FieldType.int) [((0 : Nat), (10 : Nat), (13 : Nat), (13 : Nat)), ((0 : Nat), (10 : Nat), (17 : Nat), (15 : Nat)), ((0 : Nat), (10 : Nat), (21 : Nat), (17 : Nat))]) ∈ lw_all := lw_g (lw_at lw_m3 132 rfl) rfl
theorem q683 : (Jvm.Cond.methodLink "HexsteadLaw" (29 : Nat) ({ cls := "Hexstead", name := "discard", desc := "(II)I" } : Jvm.MethodName)) ∈ lw_all := lw_g (lw_at lw_m3 133 rfl) rfl
theorem q690 : (Jvm.Cond.methodLink "HexsteadLaw" (143 : Nat) ({ cls := "HexsteadLaw", name := "rob", desc := "(LHexstead;III[J)I" } : Jvm.MethodName)) ∈ lw_all := lw_g (lw_at lw_m3 140 rfl) rfl
theorem q691 : (Jvm.Cond.static ({ cls := "HexsteadLaw", name := "rob", desc := "(LHexstead;III[J)I" } : Jvm.MethodName)) ∈ lw_all := lw_g (lw_at lw_m3 141 rfl) rfl
theorem q692 : (Jvm.Cond.codeWith ({ cls := "HexsteadLaw", name := "rob", desc := "(LHexstead;III[J)I" } : Jvm.MethodName) method_8_code (6 : Nat) (Option.some Jvm.ClassFile.FieldType.int) [((0 : Nat), (12 : Nat), (15 : Nat), (13 : Nat)), ((0 : Nat), (12 : Nat), (19 : Nat), (15 : Nat)), ((0 : Nat), (12 : Nat), (23 : Nat), (17 : Nat))]) ∈ lw_all := lw_g (lw_at lw_m3 142 rfl) rfl
theorem q693 : (Jvm.Cond.methodLink "HexsteadLaw" (32 : Nat) ({ cls := "Hexstead", name := "rob", desc := "(III)I" } : Jvm.MethodName)) ∈ lw_all := lw_g (lw_at lw_m3 143 rfl) rfl
theorem q716 : (Jvm.Cond.methodLink "HexsteadLaw" (147 : Nat) ({ cls := "HexsteadLaw", name := "road", desc := "(LHexstead;I[J)I" } : Jvm.MethodName)) ∈ lw_all := lw_g (lw_at lw_m3 166 rfl) rfl
theorem q717 : (Jvm.Cond.static ({ cls := "HexsteadLaw", name := "road", desc := "(LHexstead;I[J)I" } : Jvm.MethodName)) ∈ lw_all := lw_g (lw_at lw_m3 167 rfl) rfl
theorem q718 : (Jvm.Cond.codeWith ({ cls := "HexsteadLaw", name := "road", desc := "(LHexstead;I[J)I" } : Jvm.MethodName) method_9_code (4 : Nat) (Option.some Jvm.ClassFile.FieldType.int) [((0 : Nat), (9 : Nat), (12 : Nat), (13 : Nat)), ((0 : Nat), (9 : Nat), (15 : Nat), (17 : Nat))]) ∈ lw_all := lw_g (lw_at lw_m3 168 rfl) rfl
theorem q719 : (Jvm.Cond.methodLink "HexsteadLaw" (36 : Nat) ({ cls := "Hexstead", name := "road", desc := "(I)I" } : Jvm.MethodName)) ∈ lw_all := lw_g (lw_at lw_m3 169 rfl) rfl
theorem q743 : (Jvm.Cond.methodLink "HexsteadLaw" (151 : Nat) ({ cls := "HexsteadLaw", name := "house", desc := "(LHexstead;I[J)I" } : Jvm.MethodName)) ∈ lw_all := lw_g (lw_at lw_m3 193 rfl) rfl
theorem q744 : (Jvm.Cond.static ({ cls := "HexsteadLaw", name := "house", desc := "(LHexstead;I[J)I" } : Jvm.MethodName)) ∈ lw_all := lw_g (lw_at lw_m3 194 rfl) rfl
theorem q745 : (Jvm.Cond.codeWith ({ cls := "HexsteadLaw", name := "house", desc := "(LHexstead;I[J)I" } : Jvm.MethodName) method_10_code (4 : Nat) (Option.some Jvm.ClassFile.FieldType.int) [((0 : Nat), (9 : Nat), (12 : Nat), (13 : Nat)), ((0 : Nat), (9 : Nat), (15 : Nat), (17 : Nat))]) ∈ lw_all := lw_g (lw_at lw_m3 195 rfl) rfl
theorem q746 : (Jvm.Cond.methodLink "HexsteadLaw" (40 : Nat) ({ cls := "Hexstead", name := "house", desc := "(I)I" } : Jvm.MethodName)) ∈ lw_all := lw_g (lw_at lw_m3 196 rfl) rfl
theorem q755 : (Jvm.Cond.methodLink "HexsteadLaw" (154 : Nat) ({ cls := "HexsteadLaw", name := "city", desc := "(LHexstead;I[J)I" } : Jvm.MethodName)) ∈ lw_all := lw_g (lw_at lw_m3 205 rfl) rfl
theorem q756 : (Jvm.Cond.static ({ cls := "HexsteadLaw", name := "city", desc := "(LHexstead;I[J)I" } : Jvm.MethodName)) ∈ lw_all := lw_g (lw_at lw_m3 206 rfl) rfl
theorem q757 : (Jvm.Cond.codeWith ({ cls := "HexsteadLaw", name := "city", desc := "(LHexstead;I[J)I" } : Jvm.MethodName) method_11_code (4 : Nat) (Option.some Jvm.ClassFile.FieldType.int) [((0 : Nat), (9 : Nat), (12 : Nat), (13 : Nat)), ((0 : Nat), (9 : Nat), (15 : Nat), (17 : Nat))]) ∈ lw_all := lw_g (lw_at lw_m3 207 rfl) rfl
theorem q758 : (Jvm.Cond.methodLink "HexsteadLaw" (43 : Nat) ({ cls := "Hexstead", name := "city", desc := "(I)I" } : Jvm.MethodName)) ∈ lw_all := lw_g (lw_at lw_m3 208 rfl) rfl
theorem q771 : (Jvm.Cond.methodLink "HexsteadLaw" (157 : Nat) ({ cls := "HexsteadLaw", name := "buy", desc := "(LHexstead;[J)I" } : Jvm.MethodName)) ∈ lw_all := lw_g (lw_at lw_m3 221 rfl) rfl
theorem q772 : (Jvm.Cond.static ({ cls := "HexsteadLaw", name := "buy", desc := "(LHexstead;[J)I" } : Jvm.MethodName)) ∈ lw_all := lw_g (lw_at lw_m3 222 rfl) rfl
theorem q773 : (Jvm.Cond.codeWith ({ cls := "HexsteadLaw", name := "buy", desc := "(LHexstead;[J)I" } : Jvm.MethodName) method_12_code (3 : Nat) (Option.some Jvm.ClassFile.FieldType.int) [((0 : Nat), (8 : Nat), (11 : Nat), (17 : Nat))]) ∈ lw_all := lw_g (lw_at lw_m3 223 rfl) rfl
theorem q774 : (Jvm.Cond.methodLink "HexsteadLaw" (46 : Nat) ({ cls := "Hexstead", name := "buy", desc := "()I" } : Jvm.MethodName)) ∈ lw_all := lw_g (lw_at lw_m3 224 rfl) rfl
theorem q817 : (Jvm.Cond.methodLink "HexsteadLaw" (161 : Nat) ({ cls := "HexsteadLaw", name := "knight", desc := "(LHexstead;III[J)I" } : Jvm.MethodName)) ∈ lw_all := lw_g (lw_at lw_m4 27 rfl) rfl
theorem q818 : (Jvm.Cond.static ({ cls := "HexsteadLaw", name := "knight", desc := "(LHexstead;III[J)I" } : Jvm.MethodName)) ∈ lw_all := lw_g (lw_at lw_m4 28 rfl) rfl
theorem q819 : (Jvm.Cond.codeWith ({ cls := "HexsteadLaw", name := "knight", desc := "(LHexstead;III[J)I" } : Jvm.MethodName) method_13_code (6 : Nat) (Option.some Jvm.ClassFile.FieldType.int) [((0 : Nat), (12 : Nat), (15 : Nat), (13 : Nat)), ((0 : Nat), (12 : Nat), (19 : Nat), (15 : Nat)), ((0 : Nat), (12 : Nat), (23 : Nat), (17 : Nat))]) ∈ lw_all := lw_g (lw_at lw_m4 29 rfl) rfl
theorem q820 : (Jvm.Cond.methodLink "HexsteadLaw" (50 : Nat) ({ cls := "Hexstead", name := "knight", desc := "(III)I" } : Jvm.MethodName)) ∈ lw_all := lw_g (lw_at lw_m4 30 rfl) rfl
theorem q834 : (Jvm.Cond.methodLink "HexsteadLaw" (164 : Nat) ({ cls := "HexsteadLaw", name := "roads", desc := "(LHexstead;II[J)I" } : Jvm.MethodName)) ∈ lw_all := lw_g (lw_at lw_m4 44 rfl) rfl
theorem q835 : (Jvm.Cond.static ({ cls := "HexsteadLaw", name := "roads", desc := "(LHexstead;II[J)I" } : Jvm.MethodName)) ∈ lw_all := lw_g (lw_at lw_m4 45 rfl) rfl
theorem q836 : (Jvm.Cond.codeWith ({ cls := "HexsteadLaw", name := "roads", desc := "(LHexstead;II[J)I" } : Jvm.MethodName) method_14_code (5 : Nat) (Option.some Jvm.ClassFile.FieldType.int) [((0 : Nat), (10 : Nat), (13 : Nat), (13 : Nat)), ((0 : Nat), (10 : Nat), (17 : Nat), (17 : Nat))]) ∈ lw_all := lw_g (lw_at lw_m4 46 rfl) rfl
theorem q837 : (Jvm.Cond.methodLink "HexsteadLaw" (53 : Nat) ({ cls := "Hexstead", name := "roads", desc := "(II)I" } : Jvm.MethodName)) ∈ lw_all := lw_g (lw_at lw_m4 47 rfl) rfl
theorem q843 : (Jvm.Cond.methodLink "HexsteadLaw" (167 : Nat) ({ cls := "HexsteadLaw", name := "plenty", desc := "(LHexstead;II[J)I" } : Jvm.MethodName)) ∈ lw_all := lw_g (lw_at lw_m4 53 rfl) rfl
theorem q844 : (Jvm.Cond.static ({ cls := "HexsteadLaw", name := "plenty", desc := "(LHexstead;II[J)I" } : Jvm.MethodName)) ∈ lw_all := lw_g (lw_at lw_m4 54 rfl) rfl
theorem q845 : (Jvm.Cond.codeWith ({ cls := "HexsteadLaw", name := "plenty", desc := "(LHexstead;II[J)I" } : Jvm.MethodName) method_15_code (5 : Nat) (Option.some Jvm.ClassFile.FieldType.int) [((0 : Nat), (10 : Nat), (13 : Nat), (15 : Nat)), ((0 : Nat), (10 : Nat), (17 : Nat), (17 : Nat))]) ∈ lw_all := lw_g (lw_at lw_m4 55 rfl) rfl
theorem q846 : (Jvm.Cond.methodLink "HexsteadLaw" (56 : Nat) ({ cls := "Hexstead", name := "plenty", desc := "(II)I" } : Jvm.MethodName)) ∈ lw_all := lw_g (lw_at lw_m4 56 rfl) rfl
theorem q855 : (Jvm.Cond.methodLink "HexsteadLaw" (170 : Nat) ({ cls := "HexsteadLaw", name := "monopoly", desc := "(LHexstead;I[J)I" } : Jvm.MethodName)) ∈ lw_all := lw_g (lw_at lw_m4 65 rfl) rfl
theorem q856 : (Jvm.Cond.static ({ cls := "HexsteadLaw", name := "monopoly", desc := "(LHexstead;I[J)I" } : Jvm.MethodName)) ∈ lw_all := lw_g (lw_at lw_m4 66 rfl) rfl
theorem q857 : (Jvm.Cond.codeWith ({ cls := "HexsteadLaw", name := "monopoly", desc := "(LHexstead;I[J)I" } : Jvm.MethodName) method_16_code (4 : Nat) (Option.some Jvm.ClassFile.FieldType.int) [((0 : Nat), (9 : Nat), (12 : Nat), (15 : Nat)), ((0 : Nat), (9 : Nat), (15 : Nat), (17 : Nat))]) ∈ lw_all := lw_g (lw_at lw_m4 67 rfl) rfl
theorem q858 : (Jvm.Cond.methodLink "HexsteadLaw" (59 : Nat) ({ cls := "Hexstead", name := "monopoly", desc := "(I)I" } : Jvm.MethodName)) ∈ lw_all := lw_g (lw_at lw_m4 68 rfl) rfl
theorem q864 : (Jvm.Cond.methodLink "HexsteadLaw" (173 : Nat) ({ cls := "HexsteadLaw", name := "swap", desc := "(LHexstead;II[J)I" } : Jvm.MethodName)) ∈ lw_all := lw_g (lw_at lw_m4 74 rfl) rfl
theorem q865 : (Jvm.Cond.static ({ cls := "HexsteadLaw", name := "swap", desc := "(LHexstead;II[J)I" } : Jvm.MethodName)) ∈ lw_all := lw_g (lw_at lw_m4 75 rfl) rfl
theorem q866 : (Jvm.Cond.codeWith ({ cls := "HexsteadLaw", name := "swap", desc := "(LHexstead;II[J)I" } : Jvm.MethodName) method_17_code (5 : Nat) (Option.some Jvm.ClassFile.FieldType.int) [((0 : Nat), (10 : Nat), (13 : Nat), (15 : Nat)), ((0 : Nat), (10 : Nat), (17 : Nat), (17 : Nat))]) ∈ lw_all := lw_g (lw_at lw_m4 76 rfl) rfl
theorem q867 : (Jvm.Cond.methodLink "HexsteadLaw" (62 : Nat) ({ cls := "Hexstead", name := "swap", desc := "(II)I" } : Jvm.MethodName)) ∈ lw_all := lw_g (lw_at lw_m4 77 rfl) rfl
theorem q879 : (Jvm.Cond.methodLink "HexsteadLaw" (176 : Nat) ({ cls := "HexsteadLaw", name := "offer", desc := "(LHexstead;II)I" } : Jvm.MethodName)) ∈ lw_all := lw_g (lw_at lw_m4 89 rfl) rfl
theorem q880 : (Jvm.Cond.static ({ cls := "HexsteadLaw", name := "offer", desc := "(LHexstead;II)I" } : Jvm.MethodName)) ∈ lw_all := lw_g (lw_at lw_m4 90 rfl) rfl
theorem q881 : (Jvm.Cond.codeWith ({ cls := "HexsteadLaw", name := "offer", desc := "(LHexstead;II)I" } : Jvm.MethodName) method_18_code (4 : Nat) (Option.some Jvm.ClassFile.FieldType.int) [((0 : Nat), (6 : Nat), (9 : Nat), (15 : Nat)), ((0 : Nat), (6 : Nat), (12 : Nat), (17 : Nat))]) ∈ lw_all := lw_g (lw_at lw_m4 91 rfl) rfl
theorem q882 : (Jvm.Cond.methodLink "HexsteadLaw" (65 : Nat) ({ cls := "Hexstead", name := "offer", desc := "(II)V" } : Jvm.MethodName)) ∈ lw_all := lw_g (lw_at lw_m4 92 rfl) rfl
theorem q904 : (Jvm.Cond.methodLink "HexsteadLaw" (180 : Nat) ({ cls := "HexsteadLaw", name := "counter", desc := "(LHexstead;III)I" } : Jvm.MethodName)) ∈ lw_all := lw_g (lw_at lw_m4 114 rfl) rfl
theorem q905 : (Jvm.Cond.static ({ cls := "HexsteadLaw", name := "counter", desc := "(LHexstead;III)I" } : Jvm.MethodName)) ∈ lw_all := lw_g (lw_at lw_m4 115 rfl) rfl
theorem q906 : (Jvm.Cond.codeWith ({ cls := "HexsteadLaw", name := "counter", desc := "(LHexstead;III)I" } : Jvm.MethodName) method_19_code (5 : Nat) (Option.some Jvm.ClassFile.FieldType.int) [((0 : Nat), (7 : Nat), (10 : Nat), (13 : Nat)), ((0 : Nat), (7 : Nat), (14 : Nat), (15 : Nat)), ((0 : Nat), (7 : Nat), (18 : Nat), (17 : Nat))]) ∈ lw_all := lw_g (lw_at lw_m4 116 rfl) rfl
theorem q907 : (Jvm.Cond.methodLink "HexsteadLaw" (69 : Nat) ({ cls := "Hexstead", name := "counter", desc := "(III)V" } : Jvm.MethodName)) ∈ lw_all := lw_g (lw_at lw_m4 117 rfl) rfl
theorem q911 : (Jvm.Cond.methodLink "HexsteadLaw" (183 : Nat) ({ cls := "HexsteadLaw", name := "accept", desc := "(LHexstead;I[J)I" } : Jvm.MethodName)) ∈ lw_all := lw_g (lw_at lw_m4 121 rfl) rfl
theorem q912 : (Jvm.Cond.static ({ cls := "HexsteadLaw", name := "accept", desc := "(LHexstead;I[J)I" } : Jvm.MethodName)) ∈ lw_all := lw_g (lw_at lw_m4 122 rfl) rfl
theorem q913 : (Jvm.Cond.codeWith ({ cls := "HexsteadLaw", name := "accept", desc := "(LHexstead;I[J)I" } : Jvm.MethodName) method_20_code (4 : Nat) (Option.some Jvm.ClassFile.FieldType.int) [((0 : Nat), (9 : Nat), (12 : Nat), (13 : Nat)), ((0 : Nat), (9 : Nat), (15 : Nat), (17 : Nat))]) ∈ lw_all := lw_g (lw_at lw_m4 123 rfl) rfl
theorem q914 : (Jvm.Cond.methodLink "HexsteadLaw" (72 : Nat) ({ cls := "Hexstead", name := "accept", desc := "(I)I" } : Jvm.MethodName)) ∈ lw_all := lw_g (lw_at lw_m4 124 rfl) rfl
theorem q922 : (Jvm.Cond.methodLink "HexsteadLaw" (186 : Nat) ({ cls := "HexsteadLaw", name := "agree", desc := "(LHexstead;I[J)I" } : Jvm.MethodName)) ∈ lw_all := lw_g (lw_at lw_m4 132 rfl) rfl
theorem q923 : (Jvm.Cond.static ({ cls := "HexsteadLaw", name := "agree", desc := "(LHexstead;I[J)I" } : Jvm.MethodName)) ∈ lw_all := lw_g (lw_at lw_m4 133 rfl) rfl
theorem q924 : (Jvm.Cond.codeWith ({ cls := "HexsteadLaw", name := "agree", desc := "(LHexstead;I[J)I" } : Jvm.MethodName) method_21_code (4 : Nat) (Option.some Jvm.ClassFile.FieldType.int) [((0 : Nat), (9 : Nat), (12 : Nat), (13 : Nat)), ((0 : Nat), (9 : Nat), (15 : Nat), (17 : Nat))]) ∈ lw_all := lw_g (lw_at lw_m4 134 rfl) rfl
theorem q925 : (Jvm.Cond.methodLink "HexsteadLaw" (75 : Nat) ({ cls := "Hexstead", name := "agree", desc := "(I)I" } : Jvm.MethodName)) ∈ lw_all := lw_g (lw_at lw_m4 135 rfl) rfl
theorem q929 : (Jvm.Cond.methodLink "HexsteadLaw" (189 : Nat) ({ cls := "HexsteadLaw", name := "endTurn", desc := "(LHexstead;[J)I" } : Jvm.MethodName)) ∈ lw_all := lw_g (lw_at lw_m4 139 rfl) rfl
theorem q930 : (Jvm.Cond.static ({ cls := "HexsteadLaw", name := "endTurn", desc := "(LHexstead;[J)I" } : Jvm.MethodName)) ∈ lw_all := lw_g (lw_at lw_m4 140 rfl) rfl
theorem q931 : (Jvm.Cond.codeWith ({ cls := "HexsteadLaw", name := "endTurn", desc := "(LHexstead;[J)I" } : Jvm.MethodName) method_22_code (3 : Nat) (Option.some Jvm.ClassFile.FieldType.int) [((0 : Nat), (8 : Nat), (11 : Nat), (17 : Nat))]) ∈ lw_all := lw_g (lw_at lw_m4 141 rfl) rfl
theorem q932 : (Jvm.Cond.methodLink "HexsteadLaw" (78 : Nat) ({ cls := "Hexstead", name := "endTurn", desc := "()I" } : Jvm.MethodName)) ∈ lw_all := lw_g (lw_at lw_m4 142 rfl) rfl
theorem q936 : (Jvm.Cond.methodLink "HexsteadLaw" (200 : Nat) ({ cls := "HexsteadLaw", name := "hand", desc := "(LHexstead;II[J)I" } : Jvm.MethodName)) ∈ lw_all := lw_g (lw_at lw_m4 146 rfl) rfl
theorem q937 : (Jvm.Cond.static ({ cls := "HexsteadLaw", name := "hand", desc := "(LHexstead;II[J)I" } : Jvm.MethodName)) ∈ lw_all := lw_g (lw_at lw_m4 147 rfl) rfl
theorem q938 : (Jvm.Cond.codeWith ({ cls := "HexsteadLaw", name := "hand", desc := "(LHexstead;II[J)I" } : Jvm.MethodName) method_23_code (5 : Nat) (Option.some Jvm.ClassFile.FieldType.int) [((0 : Nat), (10 : Nat), (13 : Nat), (13 : Nat)), ((0 : Nat), (10 : Nat), (17 : Nat), (15 : Nat))]) ∈ lw_all := lw_g (lw_at lw_m4 148 rfl) rfl
theorem q939 : (Jvm.Cond.methodLink "HexsteadLaw" (81 : Nat) ({ cls := "Hexstead", name := "hand", desc := "(II)I" } : Jvm.MethodName)) ∈ lw_all := lw_g (lw_at lw_m4 149 rfl) rfl
theorem q943 : (Jvm.Cond.methodLink "HexsteadLaw" (203 : Nat) ({ cls := "HexsteadLaw", name := "handByMoves", desc := "(LHexstead;II[J)I" } : Jvm.MethodName)) ∈ lw_all := lw_g (lw_at lw_m4 153 rfl) rfl
theorem q944 : (Jvm.Cond.static ({ cls := "HexsteadLaw", name := "handByMoves", desc := "(LHexstead;II[J)I" } : Jvm.MethodName)) ∈ lw_all := lw_g (lw_at lw_m4 154 rfl) rfl
theorem q945 : (Jvm.Cond.codeWith ({ cls := "HexsteadLaw", name := "handByMoves", desc := "(LHexstead;II[J)I" } : Jvm.MethodName) method_24_code (5 : Nat) (Option.some Jvm.ClassFile.FieldType.int) [((0 : Nat), (10 : Nat), (13 : Nat), (13 : Nat)), ((0 : Nat), (10 : Nat), (17 : Nat), (15 : Nat))]) ∈ lw_all := lw_g (lw_at lw_m4 155 rfl) rfl
theorem q946 : (Jvm.Cond.methodLink "HexsteadLaw" (84 : Nat) ({ cls := "Hexstead", name := "handByMoves", desc := "(II)I" } : Jvm.MethodName)) ∈ lw_all := lw_g (lw_at lw_m4 156 rfl) rfl
theorem q954 : (Jvm.Cond.methodLink "HexsteadLaw" (206 : Nat) ({ cls := "HexsteadLaw", name := "due", desc := "(LHexstead;I[J)I" } : Jvm.MethodName)) ∈ lw_all := lw_g (lw_at lw_m4 164 rfl) rfl
theorem q955 : (Jvm.Cond.static ({ cls := "HexsteadLaw", name := "due", desc := "(LHexstead;I[J)I" } : Jvm.MethodName)) ∈ lw_all := lw_g (lw_at lw_m4 165 rfl) rfl
theorem q956 : (Jvm.Cond.codeWith ({ cls := "HexsteadLaw", name := "due", desc := "(LHexstead;I[J)I" } : Jvm.MethodName) method_25_code (4 : Nat) (Option.some Jvm.ClassFile.FieldType.int) [((0 : Nat), (9 : Nat), (12 : Nat), (13 : Nat))]) ∈ lw_all := lw_g (lw_at lw_m4 166 rfl) rfl
theorem q957 : (Jvm.Cond.methodLink "HexsteadLaw" (87 : Nat) ({ cls := "Hexstead", name := "due", desc := "(I)I" } : Jvm.MethodName)) ∈ lw_all := lw_g (lw_at lw_m4 167 rfl) rfl
theorem q961 : (Jvm.Cond.methodLink "HexsteadLaw" (209 : Nat) ({ cls := "HexsteadLaw", name := "points", desc := "(LHexstead;I[J)I" } : Jvm.MethodName)) ∈ lw_all := lw_g (lw_at lw_m4 171 rfl) rfl
theorem q962 : (Jvm.Cond.static ({ cls := "HexsteadLaw", name := "points", desc := "(LHexstead;I[J)I" } : Jvm.MethodName)) ∈ lw_all := lw_g (lw_at lw_m4 172 rfl) rfl
theorem q963 : (Jvm.Cond.codeWith ({ cls := "HexsteadLaw", name := "points", desc := "(LHexstead;I[J)I" } : Jvm.MethodName) method_26_code (4 : Nat) (Option.some Jvm.ClassFile.FieldType.int) [((0 : Nat), (9 : Nat), (12 : Nat), (13 : Nat))]) ∈ lw_all := lw_g (lw_at lw_m4 173 rfl) rfl
theorem q964 : (Jvm.Cond.methodLink "HexsteadLaw" (90 : Nat) ({ cls := "Hexstead", name := "points", desc := "(I)I" } : Jvm.MethodName)) ∈ lw_all := lw_g (lw_at lw_m4 174 rfl) rfl
theorem q968 : (Jvm.Cond.methodLink "HexsteadLaw" (212 : Nat) ({ cls := "HexsteadLaw", name := "trail", desc := "(LHexstead;I[J)I" } : Jvm.MethodName)) ∈ lw_all := lw_g (lw_at lw_m4 178 rfl) rfl
theorem q969 : (Jvm.Cond.static ({ cls := "HexsteadLaw", name := "trail", desc := "(LHexstead;I[J)I" } : Jvm.MethodName)) ∈ lw_all := lw_g (lw_at lw_m4 179 rfl) rfl
theorem q970 : (Jvm.Cond.codeWith ({ cls := "HexsteadLaw", name := "trail", desc := "(LHexstead;I[J)I" } : Jvm.MethodName) method_27_code (4 : Nat) (Option.some Jvm.ClassFile.FieldType.int) [((0 : Nat), (9 : Nat), (12 : Nat), (13 : Nat))]) ∈ lw_all := lw_g (lw_at lw_m4 180 rfl) rfl
theorem q971 : (Jvm.Cond.methodLink "HexsteadLaw" (93 : Nat) ({ cls := "Hexstead", name := "trail", desc := "(I)I" } : Jvm.MethodName)) ∈ lw_all := lw_g (lw_at lw_m4 181 rfl) rfl
theorem q975 : (Jvm.Cond.methodLink "HexsteadLaw" (215 : Nat) ({ cls := "HexsteadLaw", name := "trailBySets", desc := "(LHexstead;I[J)I" } : Jvm.MethodName)) ∈ lw_all := lw_g (lw_at lw_m4 185 rfl) rfl
theorem q976 : (Jvm.Cond.static ({ cls := "HexsteadLaw", name := "trailBySets", desc := "(LHexstead;I[J)I" } : Jvm.MethodName)) ∈ lw_all := lw_g (lw_at lw_m4 186 rfl) rfl
theorem q977 : (Jvm.Cond.codeWith ({ cls := "HexsteadLaw", name := "trailBySets", desc := "(LHexstead;I[J)I" } : Jvm.MethodName) method_28_code (4 : Nat) (Option.some Jvm.ClassFile.FieldType.int) [((0 : Nat), (9 : Nat), (12 : Nat), (13 : Nat))]) ∈ lw_all := lw_g (lw_at lw_m4 187 rfl) rfl
theorem q978 : (Jvm.Cond.methodLink "HexsteadLaw" (96 : Nat) ({ cls := "Hexstead", name := "trailBySets", desc := "(I)I" } : Jvm.MethodName)) ∈ lw_all := lw_g (lw_at lw_m4 188 rfl) rfl
theorem q999 : (Jvm.Cond.methodLink "HexsteadLaw" (223 : Nat) ({ cls := "HexsteadLaw", name := "knights", desc := "(LHexstead;I[J)I" } : Jvm.MethodName)) ∈ lw_all := lw_g (lw_at lw_m4 209 rfl) rfl
theorem q1000 : (Jvm.Cond.static ({ cls := "HexsteadLaw", name := "knights", desc := "(LHexstead;I[J)I" } : Jvm.MethodName)) ∈ lw_all := lw_g (lw_at lw_m4 210 rfl) rfl
theorem q1001 : (Jvm.Cond.codeWith ({ cls := "HexsteadLaw", name := "knights", desc := "(LHexstead;I[J)I" } : Jvm.MethodName) method_29_code (4 : Nat) (Option.some Jvm.ClassFile.FieldType.int) [((0 : Nat), (9 : Nat), (12 : Nat), (13 : Nat))]) ∈ lw_all := lw_g (lw_at lw_m4 211 rfl) rfl
theorem q1002 : (Jvm.Cond.methodLink "HexsteadLaw" (99 : Nat) ({ cls := "Hexstead", name := "knights", desc := "(I)I" } : Jvm.MethodName)) ∈ lw_all := lw_g (lw_at lw_m4 212 rfl) rfl
theorem q1006 : (Jvm.Cond.methodLink "HexsteadLaw" (226 : Nat) ({ cls := "HexsteadLaw", name := "cards", desc := "(LHexstead;II[J)I" } : Jvm.MethodName)) ∈ lw_all := lw_g (lw_at lw_m4 216 rfl) rfl
theorem q1007 : (Jvm.Cond.static ({ cls := "HexsteadLaw", name := "cards", desc := "(LHexstead;II[J)I" } : Jvm.MethodName)) ∈ lw_all := lw_g (lw_at lw_m4 217 rfl) rfl
theorem q1008 : (Jvm.Cond.codeWith ({ cls := "HexsteadLaw", name := "cards", desc := "(LHexstead;II[J)I" } : Jvm.MethodName) method_30_code (5 : Nat) (Option.some Jvm.ClassFile.FieldType.int) [((0 : Nat), (10 : Nat), (13 : Nat), (13 : Nat)), ((0 : Nat), (10 : Nat), (17 : Nat), (15 : Nat))]) ∈ lw_all := lw_g (lw_at lw_m4 218 rfl) rfl
theorem q1009 : (Jvm.Cond.methodLink "HexsteadLaw" (102 : Nat) ({ cls := "Hexstead", name := "cards", desc := "(II)I" } : Jvm.MethodName)) ∈ lw_all := lw_g (lw_at lw_m4 219 rfl) rfl
theorem q1013 : (Jvm.Cond.methodLink "HexsteadLaw" (229 : Nat) ({ cls := "HexsteadLaw", name := "buildingAt", desc := "(LHexstead;I[J)I" } : Jvm.MethodName)) ∈ lw_all := lw_g (lw_at lw_m4 223 rfl) rfl
theorem q1014 : (Jvm.Cond.static ({ cls := "HexsteadLaw", name := "buildingAt", desc := "(LHexstead;I[J)I" } : Jvm.MethodName)) ∈ lw_all := lw_g (lw_at lw_m4 224 rfl) rfl
theorem q1015 : (Jvm.Cond.codeWith ({ cls := "HexsteadLaw", name := "buildingAt", desc := "(LHexstead;I[J)I" } : Jvm.MethodName) method_31_code (4 : Nat) (Option.some Jvm.ClassFile.FieldType.int) [((0 : Nat), (9 : Nat), (12 : Nat), (13 : Nat))]) ∈ lw_all := lw_g (lw_at lw_m4 225 rfl) rfl
theorem q1016 : (Jvm.Cond.methodLink "HexsteadLaw" (105 : Nat) ({ cls := "Hexstead", name := "buildingAt", desc := "(I)I" } : Jvm.MethodName)) ∈ lw_all := lw_g (lw_at lw_m4 226 rfl) rfl
theorem q1020 : (Jvm.Cond.methodLink "HexsteadLaw" (232 : Nat) ({ cls := "HexsteadLaw", name := "roadAt", desc := "(LHexstead;I[J)I" } : Jvm.MethodName)) ∈ lw_all := lw_g (lw_at lw_m4 230 rfl) rfl
theorem q1021 : (Jvm.Cond.static ({ cls := "HexsteadLaw", name := "roadAt", desc := "(LHexstead;I[J)I" } : Jvm.MethodName)) ∈ lw_all := lw_g (lw_at lw_m4 231 rfl) rfl
theorem q1022 : (Jvm.Cond.codeWith ({ cls := "HexsteadLaw", name := "roadAt", desc := "(LHexstead;I[J)I" } : Jvm.MethodName) method_32_code (4 : Nat) (Option.some Jvm.ClassFile.FieldType.int) [((0 : Nat), (9 : Nat), (12 : Nat), (13 : Nat))]) ∈ lw_all := lw_g (lw_at lw_m4 232 rfl) rfl
theorem q1023 : (Jvm.Cond.methodLink "HexsteadLaw" (108 : Nat) ({ cls := "Hexstead", name := "roadAt", desc := "(I)I" } : Jvm.MethodName)) ∈ lw_all := lw_g (lw_at lw_m4 233 rfl) rfl
theorem q1027 : (Jvm.Cond.methodLink "HexsteadLaw" (239 : Nat) ({ cls := "HexsteadLaw", name := "rate", desc := "(LHexstead;II[J)I" } : Jvm.MethodName)) ∈ lw_all := lw_g (lw_at lw_m4 237 rfl) rfl
theorem q1028 : (Jvm.Cond.static ({ cls := "HexsteadLaw", name := "rate", desc := "(LHexstead;II[J)I" } : Jvm.MethodName)) ∈ lw_all := lw_g (lw_at lw_m4 238 rfl) rfl
theorem q1029 : (Jvm.Cond.codeWith ({ cls := "HexsteadLaw", name := "rate", desc := "(LHexstead;II[J)I" } : Jvm.MethodName) method_33_code (5 : Nat) (Option.some Jvm.ClassFile.FieldType.int) [((0 : Nat), (10 : Nat), (13 : Nat), (13 : Nat)), ((0 : Nat), (10 : Nat), (17 : Nat), (15 : Nat))]) ∈ lw_all := lw_g (lw_at lw_m4 239 rfl) rfl
theorem q1030 : (Jvm.Cond.methodLink "HexsteadLaw" (111 : Nat) ({ cls := "Hexstead", name := "rate", desc := "(II)I" } : Jvm.MethodName)) ∈ lw_all := lw_g (lw_at lw_m5 0 rfl) rfl
theorem q1034 : (Jvm.Cond.methodLink "HexsteadLaw" (242 : Nat) ({ cls := "HexsteadLaw", name := "wouldGet", desc := "(LHexstead;III[J)I" } : Jvm.MethodName)) ∈ lw_all := lw_g (lw_at lw_m5 4 rfl) rfl
theorem q1035 : (Jvm.Cond.static ({ cls := "HexsteadLaw", name := "wouldGet", desc := "(LHexstead;III[J)I" } : Jvm.MethodName)) ∈ lw_all := lw_g (lw_at lw_m5 5 rfl) rfl
theorem q1036 : (Jvm.Cond.codeWith ({ cls := "HexsteadLaw", name := "wouldGet", desc := "(LHexstead;III[J)I" } : Jvm.MethodName) method_34_code (6 : Nat) (Option.some Jvm.ClassFile.FieldType.int) [((0 : Nat), (12 : Nat), (15 : Nat), (13 : Nat)), ((0 : Nat), (12 : Nat), (19 : Nat), (15 : Nat))]) ∈ lw_all := lw_g (lw_at lw_m5 6 rfl) rfl
theorem q1037 : (Jvm.Cond.methodLink "HexsteadLaw" (114 : Nat) ({ cls := "Hexstead", name := "wouldGet", desc := "(III)I" } : Jvm.MethodName)) ∈ lw_all := lw_g (lw_at lw_m5 7 rfl) rfl
theorem q1041 : (Jvm.Cond.classLink "HexsteadLaw" (118 : Nat) "HexsteadModel") ∈ lw_all := lw_g (lw_at lw_m5 11 rfl) rfl
theorem q1043 : (Jvm.Cond.methodLink "HexsteadLaw" (120 : Nat) ({ cls := "HexsteadModel", name := "<init>", desc := "()V" } : Jvm.MethodName)) ∈ lw_all := lw_g (lw_at lw_m5 13 rfl) rfl
theorem q1126 : (Jvm.Cond.methodLink "HexsteadLaw" (127 : Nat) ({ cls := "HexsteadModel", name := "thrown", desc := "()I" } : Jvm.MethodName)) ∈ lw_all := lw_g (lw_at lw_m5 96 rfl) rfl
theorem q1130 : (Jvm.Cond.methodLink "HexsteadLaw" (126 : Nat) ({ cls := "HexsteadModel", name := "layHex", desc := "(III)V" } : Jvm.MethodName)) ∈ lw_all := lw_g (lw_at lw_m5 100 rfl) rfl
theorem q1144 : (Jvm.Cond.methodLink "HexsteadLaw" (133 : Nat) ({ cls := "HexsteadModel", name := "place", desc := "(II)I" } : Jvm.MethodName)) ∈ lw_all := lw_g (lw_at lw_m5 114 rfl) rfl
theorem q1205 : (Jvm.Cond.methodLink "HexsteadLaw" (136 : Nat) ({ cls := "HexsteadModel", name := "deal", desc := "(II)I" } : Jvm.MethodName)) ∈ lw_all := lw_g (lw_at lw_m5 175 rfl) rfl
theorem q1231 : (Jvm.Cond.methodLink "HexsteadLaw" (139 : Nat) ({ cls := "HexsteadModel", name := "roll", desc := "(II)I" } : Jvm.MethodName)) ∈ lw_all := lw_g (lw_at lw_m5 201 rfl) rfl
theorem q1243 : (Jvm.Cond.methodLink "HexsteadLaw" (142 : Nat) ({ cls := "HexsteadModel", name := "discard", desc := "(II)I" } : Jvm.MethodName)) ∈ lw_all := lw_g (lw_at lw_m5 213 rfl) rfl
theorem q1250 : (Jvm.Cond.methodLink "HexsteadLaw" (146 : Nat) ({ cls := "HexsteadModel", name := "rob", desc := "(III)I" } : Jvm.MethodName)) ∈ lw_all := lw_g (lw_at lw_m5 220 rfl) rfl
theorem q1270 : (Jvm.Cond.methodLink "HexsteadLaw" (150 : Nat) ({ cls := "HexsteadModel", name := "road", desc := "(I)I" } : Jvm.MethodName)) ∈ lw_all := lw_g (lw_at lw_m6 0 rfl) rfl
theorem q1310 : (Jvm.Cond.methodLink "HexsteadLaw" (153 : Nat) ({ cls := "HexsteadModel", name := "house", desc := "(I)I" } : Jvm.MethodName)) ∈ lw_all := lw_g (lw_at lw_m6 40 rfl) rfl
theorem q1314 : (Jvm.Cond.methodLink "HexsteadLaw" (156 : Nat) ({ cls := "HexsteadModel", name := "city", desc := "(I)I" } : Jvm.MethodName)) ∈ lw_all := lw_g (lw_at lw_m6 44 rfl) rfl
theorem q1318 : (Jvm.Cond.methodLink "HexsteadLaw" (160 : Nat) ({ cls := "HexsteadModel", name := "buy", desc := "()I" } : Jvm.MethodName)) ∈ lw_all := lw_g (lw_at lw_m6 48 rfl) rfl
theorem q1325 : (Jvm.Cond.methodLink "HexsteadLaw" (163 : Nat) ({ cls := "HexsteadModel", name := "knight", desc := "(III)I" } : Jvm.MethodName)) ∈ lw_all := lw_g (lw_at lw_m6 55 rfl) rfl
theorem q1337 : (Jvm.Cond.methodLink "HexsteadLaw" (166 : Nat) ({ cls := "HexsteadModel", name := "roads", desc := "(II)I" } : Jvm.MethodName)) ∈ lw_all := lw_g (lw_at lw_m6 67 rfl) rfl
theorem q1341 : (Jvm.Cond.methodLink "HexsteadLaw" (169 : Nat) ({ cls := "HexsteadModel", name := "plenty", desc := "(II)I" } : Jvm.MethodName)) ∈ lw_all := lw_g (lw_at lw_m6 71 rfl) rfl
theorem q1352 : (Jvm.Cond.methodLink "HexsteadLaw" (172 : Nat) ({ cls := "HexsteadModel", name := "monopoly", desc := "(I)I" } : Jvm.MethodName)) ∈ lw_all := lw_g (lw_at lw_m6 82 rfl) rfl
theorem q1356 : (Jvm.Cond.methodLink "HexsteadLaw" (175 : Nat) ({ cls := "HexsteadModel", name := "swap", desc := "(II)I" } : Jvm.MethodName)) ∈ lw_all := lw_g (lw_at lw_m6 86 rfl) rfl
theorem q1364 : (Jvm.Cond.methodLink "HexsteadLaw" (179 : Nat) ({ cls := "HexsteadModel", name := "offer", desc := "(II)V" } : Jvm.MethodName)) ∈ lw_all := lw_g (lw_at lw_m6 94 rfl) rfl
theorem q1375 : (Jvm.Cond.methodLink "HexsteadLaw" (182 : Nat) ({ cls := "HexsteadModel", name := "counter", desc := "(III)V" } : Jvm.MethodName)) ∈ lw_all := lw_g (lw_at lw_m6 105 rfl) rfl
theorem q1379 : (Jvm.Cond.methodLink "HexsteadLaw" (185 : Nat) ({ cls := "HexsteadModel", name := "accept", desc := "(I)I" } : Jvm.MethodName)) ∈ lw_all := lw_g (lw_at lw_m6 109 rfl) rfl
theorem q1383 : (Jvm.Cond.methodLink "HexsteadLaw" (188 : Nat) ({ cls := "HexsteadModel", name := "agree", desc := "(I)I" } : Jvm.MethodName)) ∈ lw_all := lw_g (lw_at lw_m6 113 rfl) rfl
theorem q1387 : (Jvm.Cond.methodLink "HexsteadLaw" (191 : Nat) ({ cls := "HexsteadModel", name := "endTurn", desc := "()I" } : Jvm.MethodName)) ∈ lw_all := lw_g (lw_at lw_m6 117 rfl) rfl
theorem q1391 : (Jvm.Cond.methodLink "HexsteadLaw" (195 : Nat) ({ cls := "HexsteadModel", name := "phase", desc := "()I" } : Jvm.MethodName)) ∈ lw_all := lw_g (lw_at lw_m6 121 rfl) rfl
theorem q1395 : (Jvm.Cond.methodLink "HexsteadLaw" (199 : Nat) ({ cls := "HexsteadModel", name := "turn", desc := "()I" } : Jvm.MethodName)) ∈ lw_all := lw_g (lw_at lw_m6 125 rfl) rfl
theorem q1399 : (Jvm.Cond.methodLink "HexsteadLaw" (202 : Nat) ({ cls := "HexsteadModel", name := "hand", desc := "(II)I" } : Jvm.MethodName)) ∈ lw_all := lw_g (lw_at lw_m6 129 rfl) rfl
theorem q1407 : (Jvm.Cond.methodLink "HexsteadLaw" (205 : Nat) ({ cls := "HexsteadModel", name := "handByMoves", desc := "(II)I" } : Jvm.MethodName)) ∈ lw_all := lw_g (lw_at lw_m6 137 rfl) rfl
theorem q1411 : (Jvm.Cond.methodLink "HexsteadLaw" (208 : Nat) ({ cls := "HexsteadModel", name := "due", desc := "(I)I" } : Jvm.MethodName)) ∈ lw_all := lw_g (lw_at lw_m6 141 rfl) rfl
theorem q1415 : (Jvm.Cond.methodLink "HexsteadLaw" (211 : Nat) ({ cls := "HexsteadModel", name := "points", desc := "(I)I" } : Jvm.MethodName)) ∈ lw_all := lw_g (lw_at lw_m6 145 rfl) rfl
theorem q1419 : (Jvm.Cond.methodLink "HexsteadLaw" (214 : Nat) ({ cls := "HexsteadModel", name := "trail", desc := "(I)I" } : Jvm.MethodName)) ∈ lw_all := lw_g (lw_at lw_m6 149 rfl) rfl
theorem q1423 : (Jvm.Cond.methodLink "HexsteadLaw" (217 : Nat) ({ cls := "HexsteadModel", name := "trailBySets", desc := "(I)I" } : Jvm.MethodName)) ∈ lw_all := lw_g (lw_at lw_m6 153 rfl) rfl
theorem q1427 : (Jvm.Cond.methodLink "HexsteadLaw" (222 : Nat) ({ cls := "HexsteadModel", name := "holder", desc := "(Z)I" } : Jvm.MethodName)) ∈ lw_all := lw_g (lw_at lw_m6 157 rfl) rfl
theorem q1431 : (Jvm.Cond.methodLink "HexsteadLaw" (225 : Nat) ({ cls := "HexsteadModel", name := "knights", desc := "(I)I" } : Jvm.MethodName)) ∈ lw_all := lw_g (lw_at lw_m6 161 rfl) rfl
theorem q1435 : (Jvm.Cond.methodLink "HexsteadLaw" (228 : Nat) ({ cls := "HexsteadModel", name := "cards", desc := "(II)I" } : Jvm.MethodName)) ∈ lw_all := lw_g (lw_at lw_m6 165 rfl) rfl
theorem q1439 : (Jvm.Cond.methodLink "HexsteadLaw" (231 : Nat) ({ cls := "HexsteadModel", name := "buildingAt", desc := "(I)I" } : Jvm.MethodName)) ∈ lw_all := lw_g (lw_at lw_m6 169 rfl) rfl
theorem q1443 : (Jvm.Cond.methodLink "HexsteadLaw" (234 : Nat) ({ cls := "HexsteadModel", name := "roadAt", desc := "(I)I" } : Jvm.MethodName)) ∈ lw_all := lw_g (lw_at lw_m6 173 rfl) rfl
theorem q1447 : (Jvm.Cond.methodLink "HexsteadLaw" (238 : Nat) ({ cls := "HexsteadModel", name := "robber", desc := "()I" } : Jvm.MethodName)) ∈ lw_all := lw_g (lw_at lw_m6 177 rfl) rfl
theorem q1451 : (Jvm.Cond.methodLink "HexsteadLaw" (241 : Nat) ({ cls := "HexsteadModel", name := "rate", desc := "(II)I" } : Jvm.MethodName)) ∈ lw_all := lw_g (lw_at lw_m6 181 rfl) rfl
theorem q1455 : (Jvm.Cond.methodLink "HexsteadLaw" (244 : Nat) ({ cls := "HexsteadModel", name := "wouldGet", desc := "(III)I" } : Jvm.MethodName)) ∈ lw_all := lw_g (lw_at lw_m6 185 rfl) rfl
