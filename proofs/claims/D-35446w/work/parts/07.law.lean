/-! GridMarketLaw -/
set_option maxRecDepth 100000
def RX0 : String := "GridMarketLaw"
abbrev cX0_deposit : ByteArray := method_3_code
def yX0_deposit : MethodName := ⟨RX0, "deposit", "(LGridMarket;II[J)I"⟩
def dkwX0_deposit_1 : List UInt8 := [172, 3, 172]
abbrev dktX0_deposit_1 : List UInt8 := dkwX0_deposit_1 ++ []
def dkwX0_deposit_0 : List UInt8 := [45, 3, 42, 27, 28, 182, 0, 7, 133, 80, 167, 0, 15, 58, 4, 4, 172, 58, 4, 5, 172, 58, 4, 6]
abbrev dktX0_deposit_0 : List UInt8 := dkwX0_deposit_0 ++ dktX0_deposit_1
theorem dksX0_deposit_0 : cX0_deposit.data.toList.drop 0 = dktX0_deposit_0 := by decide +kernel
theorem dksX0_deposit_1 : cX0_deposit.data.toList.drop 24 = dktX0_deposit_1 := dk_seg dksX0_deposit_0 24 rfl rfl
theorem dX0_deposit_0 : decode cX0_deposit 0 = .ok (.aload_n 3, 1) := dk_45 (dk_at dksX0_deposit_0 0 rfl rfl)
theorem dX0_deposit_1 : decode cX0_deposit 1 = .ok (.iconst 0, 1) := dk_3 (dk_at dksX0_deposit_0 1 rfl rfl)
theorem dX0_deposit_2 : decode cX0_deposit 2 = .ok (.aload_n 0, 1) := dk_42 (dk_at dksX0_deposit_0 2 rfl rfl)
theorem dX0_deposit_3 : decode cX0_deposit 3 = .ok (.iload_n 1, 1) := dk_27 (dk_at dksX0_deposit_0 3 rfl rfl)
theorem dX0_deposit_4 : decode cX0_deposit 4 = .ok (.iload_n 2, 1) := dk_28 (dk_at dksX0_deposit_0 4 rfl rfl)
theorem dX0_deposit_5 : decode cX0_deposit 5 = .ok (.invokevirtual 7, 3) := dk_182 0 7 (dk_at dksX0_deposit_0 5 rfl rfl)
theorem dX0_deposit_8 : decode cX0_deposit 8 = .ok (.i2l, 1) := dk_133 (dk_at dksX0_deposit_0 8 rfl rfl)
theorem dX0_deposit_9 : decode cX0_deposit 9 = .ok (.lastore, 1) := dk_80 (dk_at dksX0_deposit_0 9 rfl rfl)
theorem dX0_deposit_10 : decode cX0_deposit 10 = .ok (.goto 15, 3) := dk_167 0 15 (dk_at dksX0_deposit_0 10 rfl rfl)
theorem dX0_deposit_13 : decode cX0_deposit 13 = .ok (.astore 4, 2) := dk_58 4 (dk_at dksX0_deposit_0 13 rfl rfl)
theorem dX0_deposit_15 : decode cX0_deposit 15 = .ok (.iconst 1, 1) := dk_4 (dk_at dksX0_deposit_0 15 rfl rfl)
theorem dX0_deposit_16 : decode cX0_deposit 16 = .ok (.ireturn, 1) := dk_172 (dk_at dksX0_deposit_0 16 rfl rfl)
theorem dX0_deposit_17 : decode cX0_deposit 17 = .ok (.astore 4, 2) := dk_58 4 (dk_at dksX0_deposit_0 17 rfl rfl)
theorem dX0_deposit_19 : decode cX0_deposit 19 = .ok (.iconst 2, 1) := dk_5 (dk_at dksX0_deposit_0 19 rfl rfl)
theorem dX0_deposit_20 : decode cX0_deposit 20 = .ok (.ireturn, 1) := dk_172 (dk_at dksX0_deposit_0 20 rfl rfl)
theorem dX0_deposit_21 : decode cX0_deposit 21 = .ok (.astore 4, 2) := dk_58 4 (dk_at dksX0_deposit_0 21 rfl rfl)
theorem dX0_deposit_23 : decode cX0_deposit 23 = .ok (.iconst 3, 1) := dk_6 (dk_at dksX0_deposit_0 23 rfl rfl)
theorem dX0_deposit_24 : decode cX0_deposit 24 = .ok (.ireturn, 1) := dk_172 (dk_at dksX0_deposit_1 0 rfl rfl)
theorem dX0_deposit_25 : decode cX0_deposit 25 = .ok (.iconst 0, 1) := dk_3 (dk_at dksX0_deposit_1 1 rfl rfl)
theorem dX0_deposit_26 : decode cX0_deposit 26 = .ok (.ireturn, 1) := dk_172 (dk_at dksX0_deposit_1 2 rfl rfl)
abbrev cX0_setLimit : ByteArray := method_4_code
def yX0_setLimit : MethodName := ⟨RX0, "setLimit", "(LGridMarket;II[J)I"⟩
def dkwX0_setLimit_1 : List UInt8 := [172, 3, 172]
abbrev dktX0_setLimit_1 : List UInt8 := dkwX0_setLimit_1 ++ []
def dkwX0_setLimit_0 : List UInt8 := [45, 3, 42, 27, 28, 182, 0, 19, 133, 80, 167, 0, 15, 58, 4, 4, 172, 58, 4, 5, 172, 58, 4, 6]
abbrev dktX0_setLimit_0 : List UInt8 := dkwX0_setLimit_0 ++ dktX0_setLimit_1
theorem dksX0_setLimit_0 : cX0_setLimit.data.toList.drop 0 = dktX0_setLimit_0 := by decide +kernel
theorem dksX0_setLimit_1 : cX0_setLimit.data.toList.drop 24 = dktX0_setLimit_1 := dk_seg dksX0_setLimit_0 24 rfl rfl
theorem dX0_setLimit_0 : decode cX0_setLimit 0 = .ok (.aload_n 3, 1) := dk_45 (dk_at dksX0_setLimit_0 0 rfl rfl)
theorem dX0_setLimit_1 : decode cX0_setLimit 1 = .ok (.iconst 0, 1) := dk_3 (dk_at dksX0_setLimit_0 1 rfl rfl)
theorem dX0_setLimit_2 : decode cX0_setLimit 2 = .ok (.aload_n 0, 1) := dk_42 (dk_at dksX0_setLimit_0 2 rfl rfl)
theorem dX0_setLimit_3 : decode cX0_setLimit 3 = .ok (.iload_n 1, 1) := dk_27 (dk_at dksX0_setLimit_0 3 rfl rfl)
theorem dX0_setLimit_4 : decode cX0_setLimit 4 = .ok (.iload_n 2, 1) := dk_28 (dk_at dksX0_setLimit_0 4 rfl rfl)
theorem dX0_setLimit_5 : decode cX0_setLimit 5 = .ok (.invokevirtual 19, 3) := dk_182 0 19 (dk_at dksX0_setLimit_0 5 rfl rfl)
theorem dX0_setLimit_8 : decode cX0_setLimit 8 = .ok (.i2l, 1) := dk_133 (dk_at dksX0_setLimit_0 8 rfl rfl)
theorem dX0_setLimit_9 : decode cX0_setLimit 9 = .ok (.lastore, 1) := dk_80 (dk_at dksX0_setLimit_0 9 rfl rfl)
theorem dX0_setLimit_10 : decode cX0_setLimit 10 = .ok (.goto 15, 3) := dk_167 0 15 (dk_at dksX0_setLimit_0 10 rfl rfl)
theorem dX0_setLimit_13 : decode cX0_setLimit 13 = .ok (.astore 4, 2) := dk_58 4 (dk_at dksX0_setLimit_0 13 rfl rfl)
theorem dX0_setLimit_15 : decode cX0_setLimit 15 = .ok (.iconst 1, 1) := dk_4 (dk_at dksX0_setLimit_0 15 rfl rfl)
theorem dX0_setLimit_16 : decode cX0_setLimit 16 = .ok (.ireturn, 1) := dk_172 (dk_at dksX0_setLimit_0 16 rfl rfl)
theorem dX0_setLimit_17 : decode cX0_setLimit 17 = .ok (.astore 4, 2) := dk_58 4 (dk_at dksX0_setLimit_0 17 rfl rfl)
theorem dX0_setLimit_19 : decode cX0_setLimit 19 = .ok (.iconst 2, 1) := dk_5 (dk_at dksX0_setLimit_0 19 rfl rfl)
theorem dX0_setLimit_20 : decode cX0_setLimit 20 = .ok (.ireturn, 1) := dk_172 (dk_at dksX0_setLimit_0 20 rfl rfl)
theorem dX0_setLimit_21 : decode cX0_setLimit 21 = .ok (.astore 4, 2) := dk_58 4 (dk_at dksX0_setLimit_0 21 rfl rfl)
theorem dX0_setLimit_23 : decode cX0_setLimit 23 = .ok (.iconst 3, 1) := dk_6 (dk_at dksX0_setLimit_0 23 rfl rfl)
theorem dX0_setLimit_24 : decode cX0_setLimit 24 = .ok (.ireturn, 1) := dk_172 (dk_at dksX0_setLimit_1 0 rfl rfl)
theorem dX0_setLimit_25 : decode cX0_setLimit 25 = .ok (.iconst 0, 1) := dk_3 (dk_at dksX0_setLimit_1 1 rfl rfl)
theorem dX0_setLimit_26 : decode cX0_setLimit 26 = .ok (.ireturn, 1) := dk_172 (dk_at dksX0_setLimit_1 2 rfl rfl)
abbrev cX0_bid : ByteArray := method_5_code
def yX0_bid : MethodName := ⟨RX0, "bid", "(LGridMarket;IIIZII[J)I"⟩
def dkwX0_bid_1 : List UInt8 := [172, 58, 8, 5, 172, 58, 8, 6, 172, 3, 172]
abbrev dktX0_bid_1 : List UInt8 := dkwX0_bid_1 ++ []
def dkwX0_bid_0 : List UInt8 := [25, 7, 3, 42, 27, 28, 29, 21, 4, 21, 5, 21, 6, 182, 0, 22, 133, 80, 167, 0, 15, 58, 8, 4]
abbrev dktX0_bid_0 : List UInt8 := dkwX0_bid_0 ++ dktX0_bid_1
theorem dksX0_bid_0 : cX0_bid.data.toList.drop 0 = dktX0_bid_0 := by decide +kernel
theorem dksX0_bid_1 : cX0_bid.data.toList.drop 24 = dktX0_bid_1 := dk_seg dksX0_bid_0 24 rfl rfl
theorem dX0_bid_0 : decode cX0_bid 0 = .ok (.aload 7, 2) := dk_25 7 (dk_at dksX0_bid_0 0 rfl rfl)
theorem dX0_bid_2 : decode cX0_bid 2 = .ok (.iconst 0, 1) := dk_3 (dk_at dksX0_bid_0 2 rfl rfl)
theorem dX0_bid_3 : decode cX0_bid 3 = .ok (.aload_n 0, 1) := dk_42 (dk_at dksX0_bid_0 3 rfl rfl)
theorem dX0_bid_4 : decode cX0_bid 4 = .ok (.iload_n 1, 1) := dk_27 (dk_at dksX0_bid_0 4 rfl rfl)
theorem dX0_bid_5 : decode cX0_bid 5 = .ok (.iload_n 2, 1) := dk_28 (dk_at dksX0_bid_0 5 rfl rfl)
theorem dX0_bid_6 : decode cX0_bid 6 = .ok (.iload_n 3, 1) := dk_29 (dk_at dksX0_bid_0 6 rfl rfl)
theorem dX0_bid_7 : decode cX0_bid 7 = .ok (.iload 4, 2) := dk_21 4 (dk_at dksX0_bid_0 7 rfl rfl)
theorem dX0_bid_9 : decode cX0_bid 9 = .ok (.iload 5, 2) := dk_21 5 (dk_at dksX0_bid_0 9 rfl rfl)
theorem dX0_bid_11 : decode cX0_bid 11 = .ok (.iload 6, 2) := dk_21 6 (dk_at dksX0_bid_0 11 rfl rfl)
theorem dX0_bid_13 : decode cX0_bid 13 = .ok (.invokevirtual 22, 3) := dk_182 0 22 (dk_at dksX0_bid_0 13 rfl rfl)
theorem dX0_bid_16 : decode cX0_bid 16 = .ok (.i2l, 1) := dk_133 (dk_at dksX0_bid_0 16 rfl rfl)
theorem dX0_bid_17 : decode cX0_bid 17 = .ok (.lastore, 1) := dk_80 (dk_at dksX0_bid_0 17 rfl rfl)
theorem dX0_bid_18 : decode cX0_bid 18 = .ok (.goto 15, 3) := dk_167 0 15 (dk_at dksX0_bid_0 18 rfl rfl)
theorem dX0_bid_21 : decode cX0_bid 21 = .ok (.astore 8, 2) := dk_58 8 (dk_at dksX0_bid_0 21 rfl rfl)
theorem dX0_bid_23 : decode cX0_bid 23 = .ok (.iconst 1, 1) := dk_4 (dk_at dksX0_bid_0 23 rfl rfl)
theorem dX0_bid_24 : decode cX0_bid 24 = .ok (.ireturn, 1) := dk_172 (dk_at dksX0_bid_1 0 rfl rfl)
theorem dX0_bid_25 : decode cX0_bid 25 = .ok (.astore 8, 2) := dk_58 8 (dk_at dksX0_bid_1 1 rfl rfl)
theorem dX0_bid_27 : decode cX0_bid 27 = .ok (.iconst 2, 1) := dk_5 (dk_at dksX0_bid_1 3 rfl rfl)
theorem dX0_bid_28 : decode cX0_bid 28 = .ok (.ireturn, 1) := dk_172 (dk_at dksX0_bid_1 4 rfl rfl)
theorem dX0_bid_29 : decode cX0_bid 29 = .ok (.astore 8, 2) := dk_58 8 (dk_at dksX0_bid_1 5 rfl rfl)
theorem dX0_bid_31 : decode cX0_bid 31 = .ok (.iconst 3, 1) := dk_6 (dk_at dksX0_bid_1 7 rfl rfl)
theorem dX0_bid_32 : decode cX0_bid 32 = .ok (.ireturn, 1) := dk_172 (dk_at dksX0_bid_1 8 rfl rfl)
theorem dX0_bid_33 : decode cX0_bid 33 = .ok (.iconst 0, 1) := dk_3 (dk_at dksX0_bid_1 9 rfl rfl)
theorem dX0_bid_34 : decode cX0_bid 34 = .ok (.ireturn, 1) := dk_172 (dk_at dksX0_bid_1 10 rfl rfl)
abbrev cX0_block : ByteArray := method_6_code
def yX0_block : MethodName := ⟨RX0, "block", "(LGridMarket;IIIZII[J)I"⟩
def dkwX0_block_1 : List UInt8 := [172, 58, 8, 5, 172, 58, 8, 6, 172, 3, 172]
abbrev dktX0_block_1 : List UInt8 := dkwX0_block_1 ++ []
def dkwX0_block_0 : List UInt8 := [25, 7, 3, 42, 27, 28, 29, 21, 4, 21, 5, 21, 6, 182, 0, 26, 133, 80, 167, 0, 15, 58, 8, 4]
abbrev dktX0_block_0 : List UInt8 := dkwX0_block_0 ++ dktX0_block_1
theorem dksX0_block_0 : cX0_block.data.toList.drop 0 = dktX0_block_0 := by decide +kernel
theorem dksX0_block_1 : cX0_block.data.toList.drop 24 = dktX0_block_1 := dk_seg dksX0_block_0 24 rfl rfl
theorem dX0_block_0 : decode cX0_block 0 = .ok (.aload 7, 2) := dk_25 7 (dk_at dksX0_block_0 0 rfl rfl)
theorem dX0_block_2 : decode cX0_block 2 = .ok (.iconst 0, 1) := dk_3 (dk_at dksX0_block_0 2 rfl rfl)
theorem dX0_block_3 : decode cX0_block 3 = .ok (.aload_n 0, 1) := dk_42 (dk_at dksX0_block_0 3 rfl rfl)
theorem dX0_block_4 : decode cX0_block 4 = .ok (.iload_n 1, 1) := dk_27 (dk_at dksX0_block_0 4 rfl rfl)
theorem dX0_block_5 : decode cX0_block 5 = .ok (.iload_n 2, 1) := dk_28 (dk_at dksX0_block_0 5 rfl rfl)
theorem dX0_block_6 : decode cX0_block 6 = .ok (.iload_n 3, 1) := dk_29 (dk_at dksX0_block_0 6 rfl rfl)
theorem dX0_block_7 : decode cX0_block 7 = .ok (.iload 4, 2) := dk_21 4 (dk_at dksX0_block_0 7 rfl rfl)
theorem dX0_block_9 : decode cX0_block 9 = .ok (.iload 5, 2) := dk_21 5 (dk_at dksX0_block_0 9 rfl rfl)
theorem dX0_block_11 : decode cX0_block 11 = .ok (.iload 6, 2) := dk_21 6 (dk_at dksX0_block_0 11 rfl rfl)
theorem dX0_block_13 : decode cX0_block 13 = .ok (.invokevirtual 26, 3) := dk_182 0 26 (dk_at dksX0_block_0 13 rfl rfl)
theorem dX0_block_16 : decode cX0_block 16 = .ok (.i2l, 1) := dk_133 (dk_at dksX0_block_0 16 rfl rfl)
theorem dX0_block_17 : decode cX0_block 17 = .ok (.lastore, 1) := dk_80 (dk_at dksX0_block_0 17 rfl rfl)
theorem dX0_block_18 : decode cX0_block 18 = .ok (.goto 15, 3) := dk_167 0 15 (dk_at dksX0_block_0 18 rfl rfl)
theorem dX0_block_21 : decode cX0_block 21 = .ok (.astore 8, 2) := dk_58 8 (dk_at dksX0_block_0 21 rfl rfl)
theorem dX0_block_23 : decode cX0_block 23 = .ok (.iconst 1, 1) := dk_4 (dk_at dksX0_block_0 23 rfl rfl)
theorem dX0_block_24 : decode cX0_block 24 = .ok (.ireturn, 1) := dk_172 (dk_at dksX0_block_1 0 rfl rfl)
theorem dX0_block_25 : decode cX0_block 25 = .ok (.astore 8, 2) := dk_58 8 (dk_at dksX0_block_1 1 rfl rfl)
theorem dX0_block_27 : decode cX0_block 27 = .ok (.iconst 2, 1) := dk_5 (dk_at dksX0_block_1 3 rfl rfl)
theorem dX0_block_28 : decode cX0_block 28 = .ok (.ireturn, 1) := dk_172 (dk_at dksX0_block_1 4 rfl rfl)
theorem dX0_block_29 : decode cX0_block 29 = .ok (.astore 8, 2) := dk_58 8 (dk_at dksX0_block_1 5 rfl rfl)
theorem dX0_block_31 : decode cX0_block 31 = .ok (.iconst 3, 1) := dk_6 (dk_at dksX0_block_1 7 rfl rfl)
theorem dX0_block_32 : decode cX0_block 32 = .ok (.ireturn, 1) := dk_172 (dk_at dksX0_block_1 8 rfl rfl)
theorem dX0_block_33 : decode cX0_block 33 = .ok (.iconst 0, 1) := dk_3 (dk_at dksX0_block_1 9 rfl rfl)
theorem dX0_block_34 : decode cX0_block 34 = .ok (.ireturn, 1) := dk_172 (dk_at dksX0_block_1 10 rfl rfl)
abbrev cX0_link : ByteArray := method_7_code
def yX0_link : MethodName := ⟨RX0, "link", "(LGridMarket;III)I"⟩
def dkwX0_link_0 : List UInt8 := [42, 27, 28, 29, 182, 0, 29, 167, 0, 15, 58, 4, 4, 172, 58, 4, 5, 172, 58, 4, 6, 172, 3, 172]
abbrev dktX0_link_0 : List UInt8 := dkwX0_link_0 ++ []
theorem dksX0_link_0 : cX0_link.data.toList.drop 0 = dktX0_link_0 := by decide +kernel
theorem dX0_link_0 : decode cX0_link 0 = .ok (.aload_n 0, 1) := dk_42 (dk_at dksX0_link_0 0 rfl rfl)
theorem dX0_link_1 : decode cX0_link 1 = .ok (.iload_n 1, 1) := dk_27 (dk_at dksX0_link_0 1 rfl rfl)
theorem dX0_link_2 : decode cX0_link 2 = .ok (.iload_n 2, 1) := dk_28 (dk_at dksX0_link_0 2 rfl rfl)
theorem dX0_link_3 : decode cX0_link 3 = .ok (.iload_n 3, 1) := dk_29 (dk_at dksX0_link_0 3 rfl rfl)
theorem dX0_link_4 : decode cX0_link 4 = .ok (.invokevirtual 29, 3) := dk_182 0 29 (dk_at dksX0_link_0 4 rfl rfl)
theorem dX0_link_7 : decode cX0_link 7 = .ok (.goto 15, 3) := dk_167 0 15 (dk_at dksX0_link_0 7 rfl rfl)
theorem dX0_link_10 : decode cX0_link 10 = .ok (.astore 4, 2) := dk_58 4 (dk_at dksX0_link_0 10 rfl rfl)
theorem dX0_link_12 : decode cX0_link 12 = .ok (.iconst 1, 1) := dk_4 (dk_at dksX0_link_0 12 rfl rfl)
theorem dX0_link_13 : decode cX0_link 13 = .ok (.ireturn, 1) := dk_172 (dk_at dksX0_link_0 13 rfl rfl)
theorem dX0_link_14 : decode cX0_link 14 = .ok (.astore 4, 2) := dk_58 4 (dk_at dksX0_link_0 14 rfl rfl)
theorem dX0_link_16 : decode cX0_link 16 = .ok (.iconst 2, 1) := dk_5 (dk_at dksX0_link_0 16 rfl rfl)
theorem dX0_link_17 : decode cX0_link 17 = .ok (.ireturn, 1) := dk_172 (dk_at dksX0_link_0 17 rfl rfl)
theorem dX0_link_18 : decode cX0_link 18 = .ok (.astore 4, 2) := dk_58 4 (dk_at dksX0_link_0 18 rfl rfl)
theorem dX0_link_20 : decode cX0_link 20 = .ok (.iconst 3, 1) := dk_6 (dk_at dksX0_link_0 20 rfl rfl)
theorem dX0_link_21 : decode cX0_link 21 = .ok (.ireturn, 1) := dk_172 (dk_at dksX0_link_0 21 rfl rfl)
theorem dX0_link_22 : decode cX0_link 22 = .ok (.iconst 0, 1) := dk_3 (dk_at dksX0_link_0 22 rfl rfl)
theorem dX0_link_23 : decode cX0_link 23 = .ok (.ireturn, 1) := dk_172 (dk_at dksX0_link_0 23 rfl rfl)
abbrev cX0_ask : ByteArray := method_8_code
def yX0_ask : MethodName := ⟨RX0, "ask", "(LGridMarket;IIIII[J)I"⟩
def dkwX0_ask_1 : List UInt8 := [58, 7, 5, 172, 58, 7, 6, 172, 3, 172]
abbrev dktX0_ask_1 : List UInt8 := dkwX0_ask_1 ++ []
def dkwX0_ask_0 : List UInt8 := [25, 6, 3, 42, 27, 28, 29, 21, 4, 21, 5, 182, 0, 33, 133, 80, 167, 0, 15, 58, 7, 4, 172]
abbrev dktX0_ask_0 : List UInt8 := dkwX0_ask_0 ++ dktX0_ask_1
theorem dksX0_ask_0 : cX0_ask.data.toList.drop 0 = dktX0_ask_0 := by decide +kernel
theorem dksX0_ask_1 : cX0_ask.data.toList.drop 23 = dktX0_ask_1 := dk_seg dksX0_ask_0 23 rfl rfl
theorem dX0_ask_0 : decode cX0_ask 0 = .ok (.aload 6, 2) := dk_25 6 (dk_at dksX0_ask_0 0 rfl rfl)
theorem dX0_ask_2 : decode cX0_ask 2 = .ok (.iconst 0, 1) := dk_3 (dk_at dksX0_ask_0 2 rfl rfl)
theorem dX0_ask_3 : decode cX0_ask 3 = .ok (.aload_n 0, 1) := dk_42 (dk_at dksX0_ask_0 3 rfl rfl)
theorem dX0_ask_4 : decode cX0_ask 4 = .ok (.iload_n 1, 1) := dk_27 (dk_at dksX0_ask_0 4 rfl rfl)
theorem dX0_ask_5 : decode cX0_ask 5 = .ok (.iload_n 2, 1) := dk_28 (dk_at dksX0_ask_0 5 rfl rfl)
theorem dX0_ask_6 : decode cX0_ask 6 = .ok (.iload_n 3, 1) := dk_29 (dk_at dksX0_ask_0 6 rfl rfl)
theorem dX0_ask_7 : decode cX0_ask 7 = .ok (.iload 4, 2) := dk_21 4 (dk_at dksX0_ask_0 7 rfl rfl)
theorem dX0_ask_9 : decode cX0_ask 9 = .ok (.iload 5, 2) := dk_21 5 (dk_at dksX0_ask_0 9 rfl rfl)
theorem dX0_ask_11 : decode cX0_ask 11 = .ok (.invokevirtual 33, 3) := dk_182 0 33 (dk_at dksX0_ask_0 11 rfl rfl)
theorem dX0_ask_14 : decode cX0_ask 14 = .ok (.i2l, 1) := dk_133 (dk_at dksX0_ask_0 14 rfl rfl)
theorem dX0_ask_15 : decode cX0_ask 15 = .ok (.lastore, 1) := dk_80 (dk_at dksX0_ask_0 15 rfl rfl)
theorem dX0_ask_16 : decode cX0_ask 16 = .ok (.goto 15, 3) := dk_167 0 15 (dk_at dksX0_ask_0 16 rfl rfl)
theorem dX0_ask_19 : decode cX0_ask 19 = .ok (.astore 7, 2) := dk_58 7 (dk_at dksX0_ask_0 19 rfl rfl)
theorem dX0_ask_21 : decode cX0_ask 21 = .ok (.iconst 1, 1) := dk_4 (dk_at dksX0_ask_0 21 rfl rfl)
theorem dX0_ask_22 : decode cX0_ask 22 = .ok (.ireturn, 1) := dk_172 (dk_at dksX0_ask_0 22 rfl rfl)
theorem dX0_ask_23 : decode cX0_ask 23 = .ok (.astore 7, 2) := dk_58 7 (dk_at dksX0_ask_1 0 rfl rfl)
theorem dX0_ask_25 : decode cX0_ask 25 = .ok (.iconst 2, 1) := dk_5 (dk_at dksX0_ask_1 2 rfl rfl)
theorem dX0_ask_26 : decode cX0_ask 26 = .ok (.ireturn, 1) := dk_172 (dk_at dksX0_ask_1 3 rfl rfl)
theorem dX0_ask_27 : decode cX0_ask 27 = .ok (.astore 7, 2) := dk_58 7 (dk_at dksX0_ask_1 4 rfl rfl)
theorem dX0_ask_29 : decode cX0_ask 29 = .ok (.iconst 3, 1) := dk_6 (dk_at dksX0_ask_1 6 rfl rfl)
theorem dX0_ask_30 : decode cX0_ask 30 = .ok (.ireturn, 1) := dk_172 (dk_at dksX0_ask_1 7 rfl rfl)
theorem dX0_ask_31 : decode cX0_ask 31 = .ok (.iconst 0, 1) := dk_3 (dk_at dksX0_ask_1 8 rfl rfl)
theorem dX0_ask_32 : decode cX0_ask 32 = .ok (.ireturn, 1) := dk_172 (dk_at dksX0_ask_1 9 rfl rfl)
abbrev cX0_clear : ByteArray := method_9_code
def yX0_clear : MethodName := ⟨RX0, "clear", "(LGridMarket;[J)I"⟩
def dkwX0_clear_0 : List UInt8 := [43, 3, 42, 182, 0, 37, 133, 80, 167, 0, 6, 77, 4, 172, 3, 172]
abbrev dktX0_clear_0 : List UInt8 := dkwX0_clear_0 ++ []
theorem dksX0_clear_0 : cX0_clear.data.toList.drop 0 = dktX0_clear_0 := by decide +kernel
theorem dX0_clear_0 : decode cX0_clear 0 = .ok (.aload_n 1, 1) := dk_43 (dk_at dksX0_clear_0 0 rfl rfl)
theorem dX0_clear_1 : decode cX0_clear 1 = .ok (.iconst 0, 1) := dk_3 (dk_at dksX0_clear_0 1 rfl rfl)
theorem dX0_clear_2 : decode cX0_clear 2 = .ok (.aload_n 0, 1) := dk_42 (dk_at dksX0_clear_0 2 rfl rfl)
theorem dX0_clear_3 : decode cX0_clear 3 = .ok (.invokevirtual 37, 3) := dk_182 0 37 (dk_at dksX0_clear_0 3 rfl rfl)
theorem dX0_clear_6 : decode cX0_clear 6 = .ok (.i2l, 1) := dk_133 (dk_at dksX0_clear_0 6 rfl rfl)
theorem dX0_clear_7 : decode cX0_clear 7 = .ok (.lastore, 1) := dk_80 (dk_at dksX0_clear_0 7 rfl rfl)
theorem dX0_clear_8 : decode cX0_clear 8 = .ok (.goto 6, 3) := dk_167 0 6 (dk_at dksX0_clear_0 8 rfl rfl)
theorem dX0_clear_11 : decode cX0_clear 11 = .ok (.astore_n 2, 1) := dk_77 (dk_at dksX0_clear_0 11 rfl rfl)
theorem dX0_clear_12 : decode cX0_clear 12 = .ok (.iconst 1, 1) := dk_4 (dk_at dksX0_clear_0 12 rfl rfl)
theorem dX0_clear_13 : decode cX0_clear 13 = .ok (.ireturn, 1) := dk_172 (dk_at dksX0_clear_0 13 rfl rfl)
theorem dX0_clear_14 : decode cX0_clear 14 = .ok (.iconst 0, 1) := dk_3 (dk_at dksX0_clear_0 14 rfl rfl)
theorem dX0_clear_15 : decode cX0_clear 15 = .ok (.ireturn, 1) := dk_172 (dk_at dksX0_clear_0 15 rfl rfl)
abbrev cX0_offer : ByteArray := method_10_code
def yX0_offer : MethodName := ⟨RX0, "offer", "(LGridMarket;IIIZII[J)I"⟩
def dkwX0_offer_1 : List UInt8 := [172, 58, 8, 5, 172, 58, 8, 6, 172, 3, 172]
abbrev dktX0_offer_1 : List UInt8 := dkwX0_offer_1 ++ []
def dkwX0_offer_0 : List UInt8 := [25, 7, 3, 42, 27, 28, 29, 21, 4, 21, 5, 21, 6, 182, 0, 41, 133, 80, 167, 0, 15, 58, 8, 4]
abbrev dktX0_offer_0 : List UInt8 := dkwX0_offer_0 ++ dktX0_offer_1
theorem dksX0_offer_0 : cX0_offer.data.toList.drop 0 = dktX0_offer_0 := by decide +kernel
theorem dksX0_offer_1 : cX0_offer.data.toList.drop 24 = dktX0_offer_1 := dk_seg dksX0_offer_0 24 rfl rfl
theorem dX0_offer_0 : decode cX0_offer 0 = .ok (.aload 7, 2) := dk_25 7 (dk_at dksX0_offer_0 0 rfl rfl)
theorem dX0_offer_2 : decode cX0_offer 2 = .ok (.iconst 0, 1) := dk_3 (dk_at dksX0_offer_0 2 rfl rfl)
theorem dX0_offer_3 : decode cX0_offer 3 = .ok (.aload_n 0, 1) := dk_42 (dk_at dksX0_offer_0 3 rfl rfl)
theorem dX0_offer_4 : decode cX0_offer 4 = .ok (.iload_n 1, 1) := dk_27 (dk_at dksX0_offer_0 4 rfl rfl)
theorem dX0_offer_5 : decode cX0_offer 5 = .ok (.iload_n 2, 1) := dk_28 (dk_at dksX0_offer_0 5 rfl rfl)
theorem dX0_offer_6 : decode cX0_offer 6 = .ok (.iload_n 3, 1) := dk_29 (dk_at dksX0_offer_0 6 rfl rfl)
theorem dX0_offer_7 : decode cX0_offer 7 = .ok (.iload 4, 2) := dk_21 4 (dk_at dksX0_offer_0 7 rfl rfl)
theorem dX0_offer_9 : decode cX0_offer 9 = .ok (.iload 5, 2) := dk_21 5 (dk_at dksX0_offer_0 9 rfl rfl)
theorem dX0_offer_11 : decode cX0_offer 11 = .ok (.iload 6, 2) := dk_21 6 (dk_at dksX0_offer_0 11 rfl rfl)
theorem dX0_offer_13 : decode cX0_offer 13 = .ok (.invokevirtual 41, 3) := dk_182 0 41 (dk_at dksX0_offer_0 13 rfl rfl)
theorem dX0_offer_16 : decode cX0_offer 16 = .ok (.i2l, 1) := dk_133 (dk_at dksX0_offer_0 16 rfl rfl)
theorem dX0_offer_17 : decode cX0_offer 17 = .ok (.lastore, 1) := dk_80 (dk_at dksX0_offer_0 17 rfl rfl)
theorem dX0_offer_18 : decode cX0_offer 18 = .ok (.goto 15, 3) := dk_167 0 15 (dk_at dksX0_offer_0 18 rfl rfl)
theorem dX0_offer_21 : decode cX0_offer 21 = .ok (.astore 8, 2) := dk_58 8 (dk_at dksX0_offer_0 21 rfl rfl)
theorem dX0_offer_23 : decode cX0_offer 23 = .ok (.iconst 1, 1) := dk_4 (dk_at dksX0_offer_0 23 rfl rfl)
theorem dX0_offer_24 : decode cX0_offer 24 = .ok (.ireturn, 1) := dk_172 (dk_at dksX0_offer_1 0 rfl rfl)
theorem dX0_offer_25 : decode cX0_offer 25 = .ok (.astore 8, 2) := dk_58 8 (dk_at dksX0_offer_1 1 rfl rfl)
theorem dX0_offer_27 : decode cX0_offer 27 = .ok (.iconst 2, 1) := dk_5 (dk_at dksX0_offer_1 3 rfl rfl)
theorem dX0_offer_28 : decode cX0_offer 28 = .ok (.ireturn, 1) := dk_172 (dk_at dksX0_offer_1 4 rfl rfl)
theorem dX0_offer_29 : decode cX0_offer 29 = .ok (.astore 8, 2) := dk_58 8 (dk_at dksX0_offer_1 5 rfl rfl)
theorem dX0_offer_31 : decode cX0_offer 31 = .ok (.iconst 3, 1) := dk_6 (dk_at dksX0_offer_1 7 rfl rfl)
theorem dX0_offer_32 : decode cX0_offer 32 = .ok (.ireturn, 1) := dk_172 (dk_at dksX0_offer_1 8 rfl rfl)
theorem dX0_offer_33 : decode cX0_offer 33 = .ok (.iconst 0, 1) := dk_3 (dk_at dksX0_offer_1 9 rfl rfl)
theorem dX0_offer_34 : decode cX0_offer 34 = .ok (.ireturn, 1) := dk_172 (dk_at dksX0_offer_1 10 rfl rfl)
abbrev cX0_takeBack : ByteArray := method_11_code
def yX0_takeBack : MethodName := ⟨RX0, "takeBack", "(LGridMarket;I[J)I"⟩
def dkwX0_takeBack_0 : List UInt8 := [44, 3, 42, 27, 182, 0, 44, 133, 80, 167, 0, 9, 78, 4, 172, 78, 5, 172, 3, 172]
abbrev dktX0_takeBack_0 : List UInt8 := dkwX0_takeBack_0 ++ []
theorem dksX0_takeBack_0 : cX0_takeBack.data.toList.drop 0 = dktX0_takeBack_0 := by decide +kernel
theorem dX0_takeBack_0 : decode cX0_takeBack 0 = .ok (.aload_n 2, 1) := dk_44 (dk_at dksX0_takeBack_0 0 rfl rfl)
theorem dX0_takeBack_1 : decode cX0_takeBack 1 = .ok (.iconst 0, 1) := dk_3 (dk_at dksX0_takeBack_0 1 rfl rfl)
theorem dX0_takeBack_2 : decode cX0_takeBack 2 = .ok (.aload_n 0, 1) := dk_42 (dk_at dksX0_takeBack_0 2 rfl rfl)
theorem dX0_takeBack_3 : decode cX0_takeBack 3 = .ok (.iload_n 1, 1) := dk_27 (dk_at dksX0_takeBack_0 3 rfl rfl)
theorem dX0_takeBack_4 : decode cX0_takeBack 4 = .ok (.invokevirtual 44, 3) := dk_182 0 44 (dk_at dksX0_takeBack_0 4 rfl rfl)
theorem dX0_takeBack_7 : decode cX0_takeBack 7 = .ok (.i2l, 1) := dk_133 (dk_at dksX0_takeBack_0 7 rfl rfl)
theorem dX0_takeBack_8 : decode cX0_takeBack 8 = .ok (.lastore, 1) := dk_80 (dk_at dksX0_takeBack_0 8 rfl rfl)
theorem dX0_takeBack_9 : decode cX0_takeBack 9 = .ok (.goto 9, 3) := dk_167 0 9 (dk_at dksX0_takeBack_0 9 rfl rfl)
theorem dX0_takeBack_12 : decode cX0_takeBack 12 = .ok (.astore_n 3, 1) := dk_78 (dk_at dksX0_takeBack_0 12 rfl rfl)
theorem dX0_takeBack_13 : decode cX0_takeBack 13 = .ok (.iconst 1, 1) := dk_4 (dk_at dksX0_takeBack_0 13 rfl rfl)
theorem dX0_takeBack_14 : decode cX0_takeBack 14 = .ok (.ireturn, 1) := dk_172 (dk_at dksX0_takeBack_0 14 rfl rfl)
theorem dX0_takeBack_15 : decode cX0_takeBack 15 = .ok (.astore_n 3, 1) := dk_78 (dk_at dksX0_takeBack_0 15 rfl rfl)
theorem dX0_takeBack_16 : decode cX0_takeBack 16 = .ok (.iconst 2, 1) := dk_5 (dk_at dksX0_takeBack_0 16 rfl rfl)
theorem dX0_takeBack_17 : decode cX0_takeBack 17 = .ok (.ireturn, 1) := dk_172 (dk_at dksX0_takeBack_0 17 rfl rfl)
theorem dX0_takeBack_18 : decode cX0_takeBack 18 = .ok (.iconst 0, 1) := dk_3 (dk_at dksX0_takeBack_0 18 rfl rfl)
theorem dX0_takeBack_19 : decode cX0_takeBack 19 = .ok (.ireturn, 1) := dk_172 (dk_at dksX0_takeBack_0 19 rfl rfl)
abbrev cX0_aid : ByteArray := method_12_code
def yX0_aid : MethodName := ⟨RX0, "aid", "(LGridMarket;IIZII[J)I"⟩
def dkwX0_aid_1 : List UInt8 := [58, 7, 5, 172, 58, 7, 6, 172, 3, 172]
abbrev dktX0_aid_1 : List UInt8 := dkwX0_aid_1 ++ []
def dkwX0_aid_0 : List UInt8 := [25, 6, 3, 42, 27, 28, 29, 21, 4, 21, 5, 182, 0, 48, 133, 80, 167, 0, 15, 58, 7, 4, 172]
abbrev dktX0_aid_0 : List UInt8 := dkwX0_aid_0 ++ dktX0_aid_1
theorem dksX0_aid_0 : cX0_aid.data.toList.drop 0 = dktX0_aid_0 := by decide +kernel
theorem dksX0_aid_1 : cX0_aid.data.toList.drop 23 = dktX0_aid_1 := dk_seg dksX0_aid_0 23 rfl rfl
theorem dX0_aid_0 : decode cX0_aid 0 = .ok (.aload 6, 2) := dk_25 6 (dk_at dksX0_aid_0 0 rfl rfl)
theorem dX0_aid_2 : decode cX0_aid 2 = .ok (.iconst 0, 1) := dk_3 (dk_at dksX0_aid_0 2 rfl rfl)
theorem dX0_aid_3 : decode cX0_aid 3 = .ok (.aload_n 0, 1) := dk_42 (dk_at dksX0_aid_0 3 rfl rfl)
theorem dX0_aid_4 : decode cX0_aid 4 = .ok (.iload_n 1, 1) := dk_27 (dk_at dksX0_aid_0 4 rfl rfl)
theorem dX0_aid_5 : decode cX0_aid 5 = .ok (.iload_n 2, 1) := dk_28 (dk_at dksX0_aid_0 5 rfl rfl)
theorem dX0_aid_6 : decode cX0_aid 6 = .ok (.iload_n 3, 1) := dk_29 (dk_at dksX0_aid_0 6 rfl rfl)
theorem dX0_aid_7 : decode cX0_aid 7 = .ok (.iload 4, 2) := dk_21 4 (dk_at dksX0_aid_0 7 rfl rfl)
theorem dX0_aid_9 : decode cX0_aid 9 = .ok (.iload 5, 2) := dk_21 5 (dk_at dksX0_aid_0 9 rfl rfl)
theorem dX0_aid_11 : decode cX0_aid 11 = .ok (.invokevirtual 48, 3) := dk_182 0 48 (dk_at dksX0_aid_0 11 rfl rfl)
theorem dX0_aid_14 : decode cX0_aid 14 = .ok (.i2l, 1) := dk_133 (dk_at dksX0_aid_0 14 rfl rfl)
theorem dX0_aid_15 : decode cX0_aid 15 = .ok (.lastore, 1) := dk_80 (dk_at dksX0_aid_0 15 rfl rfl)
theorem dX0_aid_16 : decode cX0_aid 16 = .ok (.goto 15, 3) := dk_167 0 15 (dk_at dksX0_aid_0 16 rfl rfl)
theorem dX0_aid_19 : decode cX0_aid 19 = .ok (.astore 7, 2) := dk_58 7 (dk_at dksX0_aid_0 19 rfl rfl)
theorem dX0_aid_21 : decode cX0_aid 21 = .ok (.iconst 1, 1) := dk_4 (dk_at dksX0_aid_0 21 rfl rfl)
theorem dX0_aid_22 : decode cX0_aid 22 = .ok (.ireturn, 1) := dk_172 (dk_at dksX0_aid_0 22 rfl rfl)
theorem dX0_aid_23 : decode cX0_aid 23 = .ok (.astore 7, 2) := dk_58 7 (dk_at dksX0_aid_1 0 rfl rfl)
theorem dX0_aid_25 : decode cX0_aid 25 = .ok (.iconst 2, 1) := dk_5 (dk_at dksX0_aid_1 2 rfl rfl)
theorem dX0_aid_26 : decode cX0_aid 26 = .ok (.ireturn, 1) := dk_172 (dk_at dksX0_aid_1 3 rfl rfl)
theorem dX0_aid_27 : decode cX0_aid 27 = .ok (.astore 7, 2) := dk_58 7 (dk_at dksX0_aid_1 4 rfl rfl)
theorem dX0_aid_29 : decode cX0_aid 29 = .ok (.iconst 3, 1) := dk_6 (dk_at dksX0_aid_1 6 rfl rfl)
theorem dX0_aid_30 : decode cX0_aid 30 = .ok (.ireturn, 1) := dk_172 (dk_at dksX0_aid_1 7 rfl rfl)
theorem dX0_aid_31 : decode cX0_aid 31 = .ok (.iconst 0, 1) := dk_3 (dk_at dksX0_aid_1 8 rfl rfl)
theorem dX0_aid_32 : decode cX0_aid 32 = .ok (.ireturn, 1) := dk_172 (dk_at dksX0_aid_1 9 rfl rfl)
abbrev cX0_close : ByteArray := method_13_code
def yX0_close : MethodName := ⟨RX0, "close", "(LGridMarket;[J)I"⟩
def dkwX0_close_0 : List UInt8 := [43, 3, 42, 182, 0, 52, 133, 80, 167, 0, 6, 77, 4, 172, 3, 172]
abbrev dktX0_close_0 : List UInt8 := dkwX0_close_0 ++ []
theorem dksX0_close_0 : cX0_close.data.toList.drop 0 = dktX0_close_0 := by decide +kernel
theorem dX0_close_0 : decode cX0_close 0 = .ok (.aload_n 1, 1) := dk_43 (dk_at dksX0_close_0 0 rfl rfl)
theorem dX0_close_1 : decode cX0_close 1 = .ok (.iconst 0, 1) := dk_3 (dk_at dksX0_close_0 1 rfl rfl)
theorem dX0_close_2 : decode cX0_close 2 = .ok (.aload_n 0, 1) := dk_42 (dk_at dksX0_close_0 2 rfl rfl)
theorem dX0_close_3 : decode cX0_close 3 = .ok (.invokevirtual 52, 3) := dk_182 0 52 (dk_at dksX0_close_0 3 rfl rfl)
theorem dX0_close_6 : decode cX0_close 6 = .ok (.i2l, 1) := dk_133 (dk_at dksX0_close_0 6 rfl rfl)
theorem dX0_close_7 : decode cX0_close 7 = .ok (.lastore, 1) := dk_80 (dk_at dksX0_close_0 7 rfl rfl)
theorem dX0_close_8 : decode cX0_close 8 = .ok (.goto 6, 3) := dk_167 0 6 (dk_at dksX0_close_0 8 rfl rfl)
theorem dX0_close_11 : decode cX0_close 11 = .ok (.astore_n 2, 1) := dk_77 (dk_at dksX0_close_0 11 rfl rfl)
theorem dX0_close_12 : decode cX0_close 12 = .ok (.iconst 1, 1) := dk_4 (dk_at dksX0_close_0 12 rfl rfl)
theorem dX0_close_13 : decode cX0_close 13 = .ok (.ireturn, 1) := dk_172 (dk_at dksX0_close_0 13 rfl rfl)
theorem dX0_close_14 : decode cX0_close 14 = .ok (.iconst 0, 1) := dk_3 (dk_at dksX0_close_0 14 rfl rfl)
theorem dX0_close_15 : decode cX0_close 15 = .ok (.ireturn, 1) := dk_172 (dk_at dksX0_close_0 15 rfl rfl)
abbrev cX0_read : ByteArray := method_14_code
def yX0_read : MethodName := ⟨RX0, "read", "(LGridMarket;IIIII[J)I"⟩
def dkwX0_read_1 : List UInt8 := [58, 7, 5, 172, 3, 172]
abbrev dktX0_read_1 : List UInt8 := dkwX0_read_1 ++ []
def dkwX0_read_0 : List UInt8 := [25, 6, 3, 42, 27, 28, 29, 21, 4, 21, 5, 182, 0, 55, 133, 80, 167, 0, 11, 58, 7, 4, 172]
abbrev dktX0_read_0 : List UInt8 := dkwX0_read_0 ++ dktX0_read_1
theorem dksX0_read_0 : cX0_read.data.toList.drop 0 = dktX0_read_0 := by decide +kernel
theorem dksX0_read_1 : cX0_read.data.toList.drop 23 = dktX0_read_1 := dk_seg dksX0_read_0 23 rfl rfl
theorem dX0_read_0 : decode cX0_read 0 = .ok (.aload 6, 2) := dk_25 6 (dk_at dksX0_read_0 0 rfl rfl)
theorem dX0_read_2 : decode cX0_read 2 = .ok (.iconst 0, 1) := dk_3 (dk_at dksX0_read_0 2 rfl rfl)
theorem dX0_read_3 : decode cX0_read 3 = .ok (.aload_n 0, 1) := dk_42 (dk_at dksX0_read_0 3 rfl rfl)
theorem dX0_read_4 : decode cX0_read 4 = .ok (.iload_n 1, 1) := dk_27 (dk_at dksX0_read_0 4 rfl rfl)
theorem dX0_read_5 : decode cX0_read 5 = .ok (.iload_n 2, 1) := dk_28 (dk_at dksX0_read_0 5 rfl rfl)
theorem dX0_read_6 : decode cX0_read 6 = .ok (.iload_n 3, 1) := dk_29 (dk_at dksX0_read_0 6 rfl rfl)
theorem dX0_read_7 : decode cX0_read 7 = .ok (.iload 4, 2) := dk_21 4 (dk_at dksX0_read_0 7 rfl rfl)
theorem dX0_read_9 : decode cX0_read 9 = .ok (.iload 5, 2) := dk_21 5 (dk_at dksX0_read_0 9 rfl rfl)
theorem dX0_read_11 : decode cX0_read 11 = .ok (.invokevirtual 55, 3) := dk_182 0 55 (dk_at dksX0_read_0 11 rfl rfl)
theorem dX0_read_14 : decode cX0_read 14 = .ok (.i2l, 1) := dk_133 (dk_at dksX0_read_0 14 rfl rfl)
theorem dX0_read_15 : decode cX0_read 15 = .ok (.lastore, 1) := dk_80 (dk_at dksX0_read_0 15 rfl rfl)
theorem dX0_read_16 : decode cX0_read 16 = .ok (.goto 11, 3) := dk_167 0 11 (dk_at dksX0_read_0 16 rfl rfl)
theorem dX0_read_19 : decode cX0_read 19 = .ok (.astore 7, 2) := dk_58 7 (dk_at dksX0_read_0 19 rfl rfl)
theorem dX0_read_21 : decode cX0_read 21 = .ok (.iconst 1, 1) := dk_4 (dk_at dksX0_read_0 21 rfl rfl)
theorem dX0_read_22 : decode cX0_read 22 = .ok (.ireturn, 1) := dk_172 (dk_at dksX0_read_0 22 rfl rfl)
theorem dX0_read_23 : decode cX0_read 23 = .ok (.astore 7, 2) := dk_58 7 (dk_at dksX0_read_1 0 rfl rfl)
theorem dX0_read_25 : decode cX0_read 25 = .ok (.iconst 2, 1) := dk_5 (dk_at dksX0_read_1 2 rfl rfl)
theorem dX0_read_26 : decode cX0_read 26 = .ok (.ireturn, 1) := dk_172 (dk_at dksX0_read_1 3 rfl rfl)
theorem dX0_read_27 : decode cX0_read 27 = .ok (.iconst 0, 1) := dk_3 (dk_at dksX0_read_1 4 rfl rfl)
theorem dX0_read_28 : decode cX0_read 28 = .ok (.ireturn, 1) := dk_172 (dk_at dksX0_read_1 5 rfl rfl)
abbrev cX0_run : ByteArray := method_15_code
def yX0_run : MethodName := ⟨RX0, "run", "(LGridMarket;I[J)I"⟩
def dkwX0_run_0 : List UInt8 := [44, 3, 42, 27, 182, 0, 58, 133, 80, 167, 0, 9, 78, 4, 172, 78, 5, 172, 3, 172]
abbrev dktX0_run_0 : List UInt8 := dkwX0_run_0 ++ []
theorem dksX0_run_0 : cX0_run.data.toList.drop 0 = dktX0_run_0 := by decide +kernel
theorem dX0_run_0 : decode cX0_run 0 = .ok (.aload_n 2, 1) := dk_44 (dk_at dksX0_run_0 0 rfl rfl)
theorem dX0_run_1 : decode cX0_run 1 = .ok (.iconst 0, 1) := dk_3 (dk_at dksX0_run_0 1 rfl rfl)
theorem dX0_run_2 : decode cX0_run 2 = .ok (.aload_n 0, 1) := dk_42 (dk_at dksX0_run_0 2 rfl rfl)
theorem dX0_run_3 : decode cX0_run 3 = .ok (.iload_n 1, 1) := dk_27 (dk_at dksX0_run_0 3 rfl rfl)
theorem dX0_run_4 : decode cX0_run 4 = .ok (.invokevirtual 58, 3) := dk_182 0 58 (dk_at dksX0_run_0 4 rfl rfl)
theorem dX0_run_7 : decode cX0_run 7 = .ok (.i2l, 1) := dk_133 (dk_at dksX0_run_0 7 rfl rfl)
theorem dX0_run_8 : decode cX0_run 8 = .ok (.lastore, 1) := dk_80 (dk_at dksX0_run_0 8 rfl rfl)
theorem dX0_run_9 : decode cX0_run 9 = .ok (.goto 9, 3) := dk_167 0 9 (dk_at dksX0_run_0 9 rfl rfl)
theorem dX0_run_12 : decode cX0_run 12 = .ok (.astore_n 3, 1) := dk_78 (dk_at dksX0_run_0 12 rfl rfl)
theorem dX0_run_13 : decode cX0_run 13 = .ok (.iconst 1, 1) := dk_4 (dk_at dksX0_run_0 13 rfl rfl)
theorem dX0_run_14 : decode cX0_run 14 = .ok (.ireturn, 1) := dk_172 (dk_at dksX0_run_0 14 rfl rfl)
theorem dX0_run_15 : decode cX0_run 15 = .ok (.astore_n 3, 1) := dk_78 (dk_at dksX0_run_0 15 rfl rfl)
theorem dX0_run_16 : decode cX0_run 16 = .ok (.iconst 2, 1) := dk_5 (dk_at dksX0_run_0 16 rfl rfl)
theorem dX0_run_17 : decode cX0_run 17 = .ok (.ireturn, 1) := dk_172 (dk_at dksX0_run_0 17 rfl rfl)
theorem dX0_run_18 : decode cX0_run 18 = .ok (.iconst 0, 1) := dk_3 (dk_at dksX0_run_0 18 rfl rfl)
theorem dX0_run_19 : decode cX0_run 19 = .ok (.ireturn, 1) := dk_172 (dk_at dksX0_run_0 19 rfl rfl)
abbrev cX0_price : ByteArray := method_16_code
def yX0_price : MethodName := ⟨RX0, "price", "(LGridMarket;II[J)I"⟩
def dkwX0_price_0 : List UInt8 := [45, 3, 42, 27, 28, 182, 0, 61, 133, 80, 167, 0, 11, 58, 4, 4, 172, 58, 4, 5, 172, 3, 172]
abbrev dktX0_price_0 : List UInt8 := dkwX0_price_0 ++ []
theorem dksX0_price_0 : cX0_price.data.toList.drop 0 = dktX0_price_0 := by decide +kernel
theorem dX0_price_0 : decode cX0_price 0 = .ok (.aload_n 3, 1) := dk_45 (dk_at dksX0_price_0 0 rfl rfl)
theorem dX0_price_1 : decode cX0_price 1 = .ok (.iconst 0, 1) := dk_3 (dk_at dksX0_price_0 1 rfl rfl)
theorem dX0_price_2 : decode cX0_price 2 = .ok (.aload_n 0, 1) := dk_42 (dk_at dksX0_price_0 2 rfl rfl)
theorem dX0_price_3 : decode cX0_price 3 = .ok (.iload_n 1, 1) := dk_27 (dk_at dksX0_price_0 3 rfl rfl)
theorem dX0_price_4 : decode cX0_price 4 = .ok (.iload_n 2, 1) := dk_28 (dk_at dksX0_price_0 4 rfl rfl)
theorem dX0_price_5 : decode cX0_price 5 = .ok (.invokevirtual 61, 3) := dk_182 0 61 (dk_at dksX0_price_0 5 rfl rfl)
theorem dX0_price_8 : decode cX0_price 8 = .ok (.i2l, 1) := dk_133 (dk_at dksX0_price_0 8 rfl rfl)
theorem dX0_price_9 : decode cX0_price 9 = .ok (.lastore, 1) := dk_80 (dk_at dksX0_price_0 9 rfl rfl)
theorem dX0_price_10 : decode cX0_price 10 = .ok (.goto 11, 3) := dk_167 0 11 (dk_at dksX0_price_0 10 rfl rfl)
theorem dX0_price_13 : decode cX0_price 13 = .ok (.astore 4, 2) := dk_58 4 (dk_at dksX0_price_0 13 rfl rfl)
theorem dX0_price_15 : decode cX0_price 15 = .ok (.iconst 1, 1) := dk_4 (dk_at dksX0_price_0 15 rfl rfl)
theorem dX0_price_16 : decode cX0_price 16 = .ok (.ireturn, 1) := dk_172 (dk_at dksX0_price_0 16 rfl rfl)
theorem dX0_price_17 : decode cX0_price 17 = .ok (.astore 4, 2) := dk_58 4 (dk_at dksX0_price_0 17 rfl rfl)
theorem dX0_price_19 : decode cX0_price 19 = .ok (.iconst 2, 1) := dk_5 (dk_at dksX0_price_0 19 rfl rfl)
theorem dX0_price_20 : decode cX0_price 20 = .ok (.ireturn, 1) := dk_172 (dk_at dksX0_price_0 20 rfl rfl)
theorem dX0_price_21 : decode cX0_price 21 = .ok (.iconst 0, 1) := dk_3 (dk_at dksX0_price_0 21 rfl rfl)
theorem dX0_price_22 : decode cX0_price 22 = .ok (.ireturn, 1) := dk_172 (dk_at dksX0_price_0 22 rfl rfl)
abbrev cX0_net : ByteArray := method_17_code
def yX0_net : MethodName := ⟨RX0, "net", "(LGridMarket;II[J)I"⟩
def dkwX0_net_0 : List UInt8 := [45, 3, 42, 27, 28, 182, 0, 64, 133, 80, 167, 0, 11, 58, 4, 4, 172, 58, 4, 5, 172, 3, 172]
abbrev dktX0_net_0 : List UInt8 := dkwX0_net_0 ++ []
theorem dksX0_net_0 : cX0_net.data.toList.drop 0 = dktX0_net_0 := by decide +kernel
theorem dX0_net_0 : decode cX0_net 0 = .ok (.aload_n 3, 1) := dk_45 (dk_at dksX0_net_0 0 rfl rfl)
theorem dX0_net_1 : decode cX0_net 1 = .ok (.iconst 0, 1) := dk_3 (dk_at dksX0_net_0 1 rfl rfl)
theorem dX0_net_2 : decode cX0_net 2 = .ok (.aload_n 0, 1) := dk_42 (dk_at dksX0_net_0 2 rfl rfl)
theorem dX0_net_3 : decode cX0_net 3 = .ok (.iload_n 1, 1) := dk_27 (dk_at dksX0_net_0 3 rfl rfl)
theorem dX0_net_4 : decode cX0_net 4 = .ok (.iload_n 2, 1) := dk_28 (dk_at dksX0_net_0 4 rfl rfl)
theorem dX0_net_5 : decode cX0_net 5 = .ok (.invokevirtual 64, 3) := dk_182 0 64 (dk_at dksX0_net_0 5 rfl rfl)
theorem dX0_net_8 : decode cX0_net 8 = .ok (.i2l, 1) := dk_133 (dk_at dksX0_net_0 8 rfl rfl)
theorem dX0_net_9 : decode cX0_net 9 = .ok (.lastore, 1) := dk_80 (dk_at dksX0_net_0 9 rfl rfl)
theorem dX0_net_10 : decode cX0_net 10 = .ok (.goto 11, 3) := dk_167 0 11 (dk_at dksX0_net_0 10 rfl rfl)
theorem dX0_net_13 : decode cX0_net 13 = .ok (.astore 4, 2) := dk_58 4 (dk_at dksX0_net_0 13 rfl rfl)
theorem dX0_net_15 : decode cX0_net 15 = .ok (.iconst 1, 1) := dk_4 (dk_at dksX0_net_0 15 rfl rfl)
theorem dX0_net_16 : decode cX0_net 16 = .ok (.ireturn, 1) := dk_172 (dk_at dksX0_net_0 16 rfl rfl)
theorem dX0_net_17 : decode cX0_net 17 = .ok (.astore 4, 2) := dk_58 4 (dk_at dksX0_net_0 17 rfl rfl)
theorem dX0_net_19 : decode cX0_net 19 = .ok (.iconst 2, 1) := dk_5 (dk_at dksX0_net_0 19 rfl rfl)
theorem dX0_net_20 : decode cX0_net 20 = .ok (.ireturn, 1) := dk_172 (dk_at dksX0_net_0 20 rfl rfl)
theorem dX0_net_21 : decode cX0_net 21 = .ok (.iconst 0, 1) := dk_3 (dk_at dksX0_net_0 21 rfl rfl)
theorem dX0_net_22 : decode cX0_net 22 = .ok (.ireturn, 1) := dk_172 (dk_at dksX0_net_0 22 rfl rfl)
abbrev cX0_flow : ByteArray := method_18_code
def yX0_flow : MethodName := ⟨RX0, "flow", "(LGridMarket;II[J)I"⟩
def dkwX0_flow_0 : List UInt8 := [45, 3, 42, 27, 28, 182, 0, 67, 133, 80, 167, 0, 11, 58, 4, 4, 172, 58, 4, 5, 172, 3, 172]
abbrev dktX0_flow_0 : List UInt8 := dkwX0_flow_0 ++ []
theorem dksX0_flow_0 : cX0_flow.data.toList.drop 0 = dktX0_flow_0 := by decide +kernel
theorem dX0_flow_0 : decode cX0_flow 0 = .ok (.aload_n 3, 1) := dk_45 (dk_at dksX0_flow_0 0 rfl rfl)
theorem dX0_flow_1 : decode cX0_flow 1 = .ok (.iconst 0, 1) := dk_3 (dk_at dksX0_flow_0 1 rfl rfl)
theorem dX0_flow_2 : decode cX0_flow 2 = .ok (.aload_n 0, 1) := dk_42 (dk_at dksX0_flow_0 2 rfl rfl)
theorem dX0_flow_3 : decode cX0_flow 3 = .ok (.iload_n 1, 1) := dk_27 (dk_at dksX0_flow_0 3 rfl rfl)
theorem dX0_flow_4 : decode cX0_flow 4 = .ok (.iload_n 2, 1) := dk_28 (dk_at dksX0_flow_0 4 rfl rfl)
theorem dX0_flow_5 : decode cX0_flow 5 = .ok (.invokevirtual 67, 3) := dk_182 0 67 (dk_at dksX0_flow_0 5 rfl rfl)
theorem dX0_flow_8 : decode cX0_flow 8 = .ok (.i2l, 1) := dk_133 (dk_at dksX0_flow_0 8 rfl rfl)
theorem dX0_flow_9 : decode cX0_flow 9 = .ok (.lastore, 1) := dk_80 (dk_at dksX0_flow_0 9 rfl rfl)
theorem dX0_flow_10 : decode cX0_flow 10 = .ok (.goto 11, 3) := dk_167 0 11 (dk_at dksX0_flow_0 10 rfl rfl)
theorem dX0_flow_13 : decode cX0_flow 13 = .ok (.astore 4, 2) := dk_58 4 (dk_at dksX0_flow_0 13 rfl rfl)
theorem dX0_flow_15 : decode cX0_flow 15 = .ok (.iconst 1, 1) := dk_4 (dk_at dksX0_flow_0 15 rfl rfl)
theorem dX0_flow_16 : decode cX0_flow 16 = .ok (.ireturn, 1) := dk_172 (dk_at dksX0_flow_0 16 rfl rfl)
theorem dX0_flow_17 : decode cX0_flow 17 = .ok (.astore 4, 2) := dk_58 4 (dk_at dksX0_flow_0 17 rfl rfl)
theorem dX0_flow_19 : decode cX0_flow 19 = .ok (.iconst 2, 1) := dk_5 (dk_at dksX0_flow_0 19 rfl rfl)
theorem dX0_flow_20 : decode cX0_flow 20 = .ok (.ireturn, 1) := dk_172 (dk_at dksX0_flow_0 20 rfl rfl)
theorem dX0_flow_21 : decode cX0_flow 21 = .ok (.iconst 0, 1) := dk_3 (dk_at dksX0_flow_0 21 rfl rfl)
theorem dX0_flow_22 : decode cX0_flow 22 = .ok (.ireturn, 1) := dk_172 (dk_at dksX0_flow_0 22 rfl rfl)
abbrev cX0_taken : ByteArray := method_19_code
def yX0_taken : MethodName := ⟨RX0, "taken", "(LGridMarket;I[J)I"⟩
def dkwX0_taken_0 : List UInt8 := [44, 3, 42, 27, 182, 0, 70, 133, 80, 167, 0, 9, 78, 4, 172, 78, 5, 172, 3, 172]
abbrev dktX0_taken_0 : List UInt8 := dkwX0_taken_0 ++ []
theorem dksX0_taken_0 : cX0_taken.data.toList.drop 0 = dktX0_taken_0 := by decide +kernel
theorem dX0_taken_0 : decode cX0_taken 0 = .ok (.aload_n 2, 1) := dk_44 (dk_at dksX0_taken_0 0 rfl rfl)
theorem dX0_taken_1 : decode cX0_taken 1 = .ok (.iconst 0, 1) := dk_3 (dk_at dksX0_taken_0 1 rfl rfl)
theorem dX0_taken_2 : decode cX0_taken 2 = .ok (.aload_n 0, 1) := dk_42 (dk_at dksX0_taken_0 2 rfl rfl)
theorem dX0_taken_3 : decode cX0_taken 3 = .ok (.iload_n 1, 1) := dk_27 (dk_at dksX0_taken_0 3 rfl rfl)
theorem dX0_taken_4 : decode cX0_taken 4 = .ok (.invokevirtual 70, 3) := dk_182 0 70 (dk_at dksX0_taken_0 4 rfl rfl)
theorem dX0_taken_7 : decode cX0_taken 7 = .ok (.i2l, 1) := dk_133 (dk_at dksX0_taken_0 7 rfl rfl)
theorem dX0_taken_8 : decode cX0_taken 8 = .ok (.lastore, 1) := dk_80 (dk_at dksX0_taken_0 8 rfl rfl)
theorem dX0_taken_9 : decode cX0_taken 9 = .ok (.goto 9, 3) := dk_167 0 9 (dk_at dksX0_taken_0 9 rfl rfl)
theorem dX0_taken_12 : decode cX0_taken 12 = .ok (.astore_n 3, 1) := dk_78 (dk_at dksX0_taken_0 12 rfl rfl)
theorem dX0_taken_13 : decode cX0_taken 13 = .ok (.iconst 1, 1) := dk_4 (dk_at dksX0_taken_0 13 rfl rfl)
theorem dX0_taken_14 : decode cX0_taken 14 = .ok (.ireturn, 1) := dk_172 (dk_at dksX0_taken_0 14 rfl rfl)
theorem dX0_taken_15 : decode cX0_taken 15 = .ok (.astore_n 3, 1) := dk_78 (dk_at dksX0_taken_0 15 rfl rfl)
theorem dX0_taken_16 : decode cX0_taken 16 = .ok (.iconst 2, 1) := dk_5 (dk_at dksX0_taken_0 16 rfl rfl)
theorem dX0_taken_17 : decode cX0_taken 17 = .ok (.ireturn, 1) := dk_172 (dk_at dksX0_taken_0 17 rfl rfl)
theorem dX0_taken_18 : decode cX0_taken 18 = .ok (.iconst 0, 1) := dk_3 (dk_at dksX0_taken_0 18 rfl rfl)
theorem dX0_taken_19 : decode cX0_taken 19 = .ok (.ireturn, 1) := dk_172 (dk_at dksX0_taken_0 19 rfl rfl)
abbrev cX0_isTaken : ByteArray := method_20_code
def yX0_isTaken : MethodName := ⟨RX0, "isTaken", "(LGridMarket;I[J)I"⟩
def dkwX0_isTaken_1 : List UInt8 := [172, 3, 172]
abbrev dktX0_isTaken_1 : List UInt8 := dkwX0_isTaken_1 ++ []
def dkwX0_isTaken_0 : List UInt8 := [44, 3, 42, 27, 182, 0, 73, 153, 0, 7, 10, 167, 0, 4, 9, 80, 167, 0, 9, 78, 4, 172, 78, 5]
abbrev dktX0_isTaken_0 : List UInt8 := dkwX0_isTaken_0 ++ dktX0_isTaken_1
theorem dksX0_isTaken_0 : cX0_isTaken.data.toList.drop 0 = dktX0_isTaken_0 := by decide +kernel
theorem dksX0_isTaken_1 : cX0_isTaken.data.toList.drop 24 = dktX0_isTaken_1 := dk_seg dksX0_isTaken_0 24 rfl rfl
theorem dX0_isTaken_0 : decode cX0_isTaken 0 = .ok (.aload_n 2, 1) := dk_44 (dk_at dksX0_isTaken_0 0 rfl rfl)
theorem dX0_isTaken_1 : decode cX0_isTaken 1 = .ok (.iconst 0, 1) := dk_3 (dk_at dksX0_isTaken_0 1 rfl rfl)
theorem dX0_isTaken_2 : decode cX0_isTaken 2 = .ok (.aload_n 0, 1) := dk_42 (dk_at dksX0_isTaken_0 2 rfl rfl)
theorem dX0_isTaken_3 : decode cX0_isTaken 3 = .ok (.iload_n 1, 1) := dk_27 (dk_at dksX0_isTaken_0 3 rfl rfl)
theorem dX0_isTaken_4 : decode cX0_isTaken 4 = .ok (.invokevirtual 73, 3) := dk_182 0 73 (dk_at dksX0_isTaken_0 4 rfl rfl)
theorem dX0_isTaken_7 : decode cX0_isTaken 7 = .ok (.ifCond .eq 7, 3) := dk_153 0 7 (dk_at dksX0_isTaken_0 7 rfl rfl)
theorem dX0_isTaken_10 : decode cX0_isTaken 10 = .ok (.lconst 1, 1) := dk_10 (dk_at dksX0_isTaken_0 10 rfl rfl)
theorem dX0_isTaken_11 : decode cX0_isTaken 11 = .ok (.goto 4, 3) := dk_167 0 4 (dk_at dksX0_isTaken_0 11 rfl rfl)
theorem dX0_isTaken_14 : decode cX0_isTaken 14 = .ok (.lconst 0, 1) := dk_9 (dk_at dksX0_isTaken_0 14 rfl rfl)
theorem dX0_isTaken_15 : decode cX0_isTaken 15 = .ok (.lastore, 1) := dk_80 (dk_at dksX0_isTaken_0 15 rfl rfl)
theorem dX0_isTaken_16 : decode cX0_isTaken 16 = .ok (.goto 9, 3) := dk_167 0 9 (dk_at dksX0_isTaken_0 16 rfl rfl)
theorem dX0_isTaken_19 : decode cX0_isTaken 19 = .ok (.astore_n 3, 1) := dk_78 (dk_at dksX0_isTaken_0 19 rfl rfl)
theorem dX0_isTaken_20 : decode cX0_isTaken 20 = .ok (.iconst 1, 1) := dk_4 (dk_at dksX0_isTaken_0 20 rfl rfl)
theorem dX0_isTaken_21 : decode cX0_isTaken 21 = .ok (.ireturn, 1) := dk_172 (dk_at dksX0_isTaken_0 21 rfl rfl)
theorem dX0_isTaken_22 : decode cX0_isTaken 22 = .ok (.astore_n 3, 1) := dk_78 (dk_at dksX0_isTaken_0 22 rfl rfl)
theorem dX0_isTaken_23 : decode cX0_isTaken 23 = .ok (.iconst 2, 1) := dk_5 (dk_at dksX0_isTaken_0 23 rfl rfl)
theorem dX0_isTaken_24 : decode cX0_isTaken 24 = .ok (.ireturn, 1) := dk_172 (dk_at dksX0_isTaken_1 0 rfl rfl)
theorem dX0_isTaken_25 : decode cX0_isTaken 25 = .ok (.iconst 0, 1) := dk_3 (dk_at dksX0_isTaken_1 1 rfl rfl)
theorem dX0_isTaken_26 : decode cX0_isTaken 26 = .ok (.ireturn, 1) := dk_172 (dk_at dksX0_isTaken_1 2 rfl rfl)
abbrev cX0_gain : ByteArray := method_21_code
def yX0_gain : MethodName := ⟨RX0, "gain", "(LGridMarket;I[J)I"⟩
def dkwX0_gain_0 : List UInt8 := [44, 3, 42, 27, 182, 0, 77, 133, 80, 167, 0, 9, 78, 4, 172, 78, 5, 172, 3, 172]
abbrev dktX0_gain_0 : List UInt8 := dkwX0_gain_0 ++ []
theorem dksX0_gain_0 : cX0_gain.data.toList.drop 0 = dktX0_gain_0 := by decide +kernel
theorem dX0_gain_0 : decode cX0_gain 0 = .ok (.aload_n 2, 1) := dk_44 (dk_at dksX0_gain_0 0 rfl rfl)
theorem dX0_gain_1 : decode cX0_gain 1 = .ok (.iconst 0, 1) := dk_3 (dk_at dksX0_gain_0 1 rfl rfl)
theorem dX0_gain_2 : decode cX0_gain 2 = .ok (.aload_n 0, 1) := dk_42 (dk_at dksX0_gain_0 2 rfl rfl)
theorem dX0_gain_3 : decode cX0_gain 3 = .ok (.iload_n 1, 1) := dk_27 (dk_at dksX0_gain_0 3 rfl rfl)
theorem dX0_gain_4 : decode cX0_gain 4 = .ok (.invokevirtual 77, 3) := dk_182 0 77 (dk_at dksX0_gain_0 4 rfl rfl)
theorem dX0_gain_7 : decode cX0_gain 7 = .ok (.i2l, 1) := dk_133 (dk_at dksX0_gain_0 7 rfl rfl)
theorem dX0_gain_8 : decode cX0_gain 8 = .ok (.lastore, 1) := dk_80 (dk_at dksX0_gain_0 8 rfl rfl)
theorem dX0_gain_9 : decode cX0_gain 9 = .ok (.goto 9, 3) := dk_167 0 9 (dk_at dksX0_gain_0 9 rfl rfl)
theorem dX0_gain_12 : decode cX0_gain 12 = .ok (.astore_n 3, 1) := dk_78 (dk_at dksX0_gain_0 12 rfl rfl)
theorem dX0_gain_13 : decode cX0_gain 13 = .ok (.iconst 1, 1) := dk_4 (dk_at dksX0_gain_0 13 rfl rfl)
theorem dX0_gain_14 : decode cX0_gain 14 = .ok (.ireturn, 1) := dk_172 (dk_at dksX0_gain_0 14 rfl rfl)
theorem dX0_gain_15 : decode cX0_gain 15 = .ok (.astore_n 3, 1) := dk_78 (dk_at dksX0_gain_0 15 rfl rfl)
theorem dX0_gain_16 : decode cX0_gain 16 = .ok (.iconst 2, 1) := dk_5 (dk_at dksX0_gain_0 16 rfl rfl)
theorem dX0_gain_17 : decode cX0_gain 17 = .ok (.ireturn, 1) := dk_172 (dk_at dksX0_gain_0 17 rfl rfl)
theorem dX0_gain_18 : decode cX0_gain 18 = .ok (.iconst 0, 1) := dk_3 (dk_at dksX0_gain_0 18 rfl rfl)
theorem dX0_gain_19 : decode cX0_gain 19 = .ok (.ireturn, 1) := dk_172 (dk_at dksX0_gain_0 19 rfl rfl)
abbrev cX0_worthAnew : ByteArray := method_22_code
def yX0_worthAnew : MethodName := ⟨RX0, "worthAnew", "(LGridMarket;[J)I"⟩
def dkwX0_worthAnew_0 : List UInt8 := [43, 3, 42, 182, 0, 80, 133, 80, 167, 0, 6, 77, 4, 172, 3, 172]
abbrev dktX0_worthAnew_0 : List UInt8 := dkwX0_worthAnew_0 ++ []
theorem dksX0_worthAnew_0 : cX0_worthAnew.data.toList.drop 0 = dktX0_worthAnew_0 := by decide +kernel
theorem dX0_worthAnew_0 : decode cX0_worthAnew 0 = .ok (.aload_n 1, 1) := dk_43 (dk_at dksX0_worthAnew_0 0 rfl rfl)
theorem dX0_worthAnew_1 : decode cX0_worthAnew 1 = .ok (.iconst 0, 1) := dk_3 (dk_at dksX0_worthAnew_0 1 rfl rfl)
theorem dX0_worthAnew_2 : decode cX0_worthAnew 2 = .ok (.aload_n 0, 1) := dk_42 (dk_at dksX0_worthAnew_0 2 rfl rfl)
theorem dX0_worthAnew_3 : decode cX0_worthAnew 3 = .ok (.invokevirtual 80, 3) := dk_182 0 80 (dk_at dksX0_worthAnew_0 3 rfl rfl)
theorem dX0_worthAnew_6 : decode cX0_worthAnew 6 = .ok (.i2l, 1) := dk_133 (dk_at dksX0_worthAnew_0 6 rfl rfl)
theorem dX0_worthAnew_7 : decode cX0_worthAnew 7 = .ok (.lastore, 1) := dk_80 (dk_at dksX0_worthAnew_0 7 rfl rfl)
theorem dX0_worthAnew_8 : decode cX0_worthAnew 8 = .ok (.goto 6, 3) := dk_167 0 6 (dk_at dksX0_worthAnew_0 8 rfl rfl)
theorem dX0_worthAnew_11 : decode cX0_worthAnew 11 = .ok (.astore_n 2, 1) := dk_77 (dk_at dksX0_worthAnew_0 11 rfl rfl)
theorem dX0_worthAnew_12 : decode cX0_worthAnew 12 = .ok (.iconst 1, 1) := dk_4 (dk_at dksX0_worthAnew_0 12 rfl rfl)
theorem dX0_worthAnew_13 : decode cX0_worthAnew 13 = .ok (.ireturn, 1) := dk_172 (dk_at dksX0_worthAnew_0 13 rfl rfl)
theorem dX0_worthAnew_14 : decode cX0_worthAnew 14 = .ok (.iconst 0, 1) := dk_3 (dk_at dksX0_worthAnew_0 14 rfl rfl)
theorem dX0_worthAnew_15 : decode cX0_worthAnew 15 = .ok (.ireturn, 1) := dk_172 (dk_at dksX0_worthAnew_0 15 rfl rfl)
abbrev cX0_given : ByteArray := method_23_code
def yX0_given : MethodName := ⟨RX0, "given", "(LGridMarket;I[J)I"⟩
def dkwX0_given_0 : List UInt8 := [44, 3, 42, 27, 182, 0, 83, 133, 80, 167, 0, 9, 78, 4, 172, 78, 5, 172, 3, 172]
abbrev dktX0_given_0 : List UInt8 := dkwX0_given_0 ++ []
theorem dksX0_given_0 : cX0_given.data.toList.drop 0 = dktX0_given_0 := by decide +kernel
theorem dX0_given_0 : decode cX0_given 0 = .ok (.aload_n 2, 1) := dk_44 (dk_at dksX0_given_0 0 rfl rfl)
theorem dX0_given_1 : decode cX0_given 1 = .ok (.iconst 0, 1) := dk_3 (dk_at dksX0_given_0 1 rfl rfl)
theorem dX0_given_2 : decode cX0_given 2 = .ok (.aload_n 0, 1) := dk_42 (dk_at dksX0_given_0 2 rfl rfl)
theorem dX0_given_3 : decode cX0_given 3 = .ok (.iload_n 1, 1) := dk_27 (dk_at dksX0_given_0 3 rfl rfl)
theorem dX0_given_4 : decode cX0_given 4 = .ok (.invokevirtual 83, 3) := dk_182 0 83 (dk_at dksX0_given_0 4 rfl rfl)
theorem dX0_given_7 : decode cX0_given 7 = .ok (.i2l, 1) := dk_133 (dk_at dksX0_given_0 7 rfl rfl)
theorem dX0_given_8 : decode cX0_given 8 = .ok (.lastore, 1) := dk_80 (dk_at dksX0_given_0 8 rfl rfl)
theorem dX0_given_9 : decode cX0_given 9 = .ok (.goto 9, 3) := dk_167 0 9 (dk_at dksX0_given_0 9 rfl rfl)
theorem dX0_given_12 : decode cX0_given 12 = .ok (.astore_n 3, 1) := dk_78 (dk_at dksX0_given_0 12 rfl rfl)
theorem dX0_given_13 : decode cX0_given 13 = .ok (.iconst 1, 1) := dk_4 (dk_at dksX0_given_0 13 rfl rfl)
theorem dX0_given_14 : decode cX0_given 14 = .ok (.ireturn, 1) := dk_172 (dk_at dksX0_given_0 14 rfl rfl)
theorem dX0_given_15 : decode cX0_given 15 = .ok (.astore_n 3, 1) := dk_78 (dk_at dksX0_given_0 15 rfl rfl)
theorem dX0_given_16 : decode cX0_given 16 = .ok (.iconst 2, 1) := dk_5 (dk_at dksX0_given_0 16 rfl rfl)
theorem dX0_given_17 : decode cX0_given 17 = .ok (.ireturn, 1) := dk_172 (dk_at dksX0_given_0 17 rfl rfl)
theorem dX0_given_18 : decode cX0_given 18 = .ok (.iconst 0, 1) := dk_3 (dk_at dksX0_given_0 18 rfl rfl)
theorem dX0_given_19 : decode cX0_given 19 = .ok (.ireturn, 1) := dk_172 (dk_at dksX0_given_0 19 rfl rfl)
abbrev cX0_left : ByteArray := method_24_code
def yX0_left : MethodName := ⟨RX0, "left", "(LGridMarket;I[J)I"⟩
def dkwX0_left_0 : List UInt8 := [44, 3, 42, 27, 182, 0, 86, 133, 80, 167, 0, 6, 78, 4, 172, 3, 172]
abbrev dktX0_left_0 : List UInt8 := dkwX0_left_0 ++ []
theorem dksX0_left_0 : cX0_left.data.toList.drop 0 = dktX0_left_0 := by decide +kernel
theorem dX0_left_0 : decode cX0_left 0 = .ok (.aload_n 2, 1) := dk_44 (dk_at dksX0_left_0 0 rfl rfl)
theorem dX0_left_1 : decode cX0_left 1 = .ok (.iconst 0, 1) := dk_3 (dk_at dksX0_left_0 1 rfl rfl)
theorem dX0_left_2 : decode cX0_left 2 = .ok (.aload_n 0, 1) := dk_42 (dk_at dksX0_left_0 2 rfl rfl)
theorem dX0_left_3 : decode cX0_left 3 = .ok (.iload_n 1, 1) := dk_27 (dk_at dksX0_left_0 3 rfl rfl)
theorem dX0_left_4 : decode cX0_left 4 = .ok (.invokevirtual 86, 3) := dk_182 0 86 (dk_at dksX0_left_0 4 rfl rfl)
theorem dX0_left_7 : decode cX0_left 7 = .ok (.i2l, 1) := dk_133 (dk_at dksX0_left_0 7 rfl rfl)
theorem dX0_left_8 : decode cX0_left 8 = .ok (.lastore, 1) := dk_80 (dk_at dksX0_left_0 8 rfl rfl)
theorem dX0_left_9 : decode cX0_left 9 = .ok (.goto 6, 3) := dk_167 0 6 (dk_at dksX0_left_0 9 rfl rfl)
theorem dX0_left_12 : decode cX0_left 12 = .ok (.astore_n 3, 1) := dk_78 (dk_at dksX0_left_0 12 rfl rfl)
theorem dX0_left_13 : decode cX0_left 13 = .ok (.iconst 1, 1) := dk_4 (dk_at dksX0_left_0 13 rfl rfl)
theorem dX0_left_14 : decode cX0_left 14 = .ok (.ireturn, 1) := dk_172 (dk_at dksX0_left_0 14 rfl rfl)
theorem dX0_left_15 : decode cX0_left 15 = .ok (.iconst 0, 1) := dk_3 (dk_at dksX0_left_0 15 rfl rfl)
theorem dX0_left_16 : decode cX0_left 16 = .ok (.ireturn, 1) := dk_172 (dk_at dksX0_left_0 16 rfl rfl)
abbrev cX0_plan : ByteArray := method_25_code
def yX0_plan : MethodName := ⟨RX0, "plan", "(LGridMarket;IIII[J)I"⟩
def dkwX0_plan_0 : List UInt8 := [25, 5, 3, 42, 27, 28, 29, 21, 4, 182, 0, 89, 133, 80, 167, 0, 7, 58, 6, 4, 172, 3, 172]
abbrev dktX0_plan_0 : List UInt8 := dkwX0_plan_0 ++ []
theorem dksX0_plan_0 : cX0_plan.data.toList.drop 0 = dktX0_plan_0 := by decide +kernel
theorem dX0_plan_0 : decode cX0_plan 0 = .ok (.aload 5, 2) := dk_25 5 (dk_at dksX0_plan_0 0 rfl rfl)
theorem dX0_plan_2 : decode cX0_plan 2 = .ok (.iconst 0, 1) := dk_3 (dk_at dksX0_plan_0 2 rfl rfl)
theorem dX0_plan_3 : decode cX0_plan 3 = .ok (.aload_n 0, 1) := dk_42 (dk_at dksX0_plan_0 3 rfl rfl)
theorem dX0_plan_4 : decode cX0_plan 4 = .ok (.iload_n 1, 1) := dk_27 (dk_at dksX0_plan_0 4 rfl rfl)
theorem dX0_plan_5 : decode cX0_plan 5 = .ok (.iload_n 2, 1) := dk_28 (dk_at dksX0_plan_0 5 rfl rfl)
theorem dX0_plan_6 : decode cX0_plan 6 = .ok (.iload_n 3, 1) := dk_29 (dk_at dksX0_plan_0 6 rfl rfl)
theorem dX0_plan_7 : decode cX0_plan 7 = .ok (.iload 4, 2) := dk_21 4 (dk_at dksX0_plan_0 7 rfl rfl)
theorem dX0_plan_9 : decode cX0_plan 9 = .ok (.invokevirtual 89, 3) := dk_182 0 89 (dk_at dksX0_plan_0 9 rfl rfl)
theorem dX0_plan_12 : decode cX0_plan 12 = .ok (.i2l, 1) := dk_133 (dk_at dksX0_plan_0 12 rfl rfl)
theorem dX0_plan_13 : decode cX0_plan 13 = .ok (.lastore, 1) := dk_80 (dk_at dksX0_plan_0 13 rfl rfl)
theorem dX0_plan_14 : decode cX0_plan 14 = .ok (.goto 7, 3) := dk_167 0 7 (dk_at dksX0_plan_0 14 rfl rfl)
theorem dX0_plan_17 : decode cX0_plan 17 = .ok (.astore 6, 2) := dk_58 6 (dk_at dksX0_plan_0 17 rfl rfl)
theorem dX0_plan_19 : decode cX0_plan 19 = .ok (.iconst 1, 1) := dk_4 (dk_at dksX0_plan_0 19 rfl rfl)
theorem dX0_plan_20 : decode cX0_plan 20 = .ok (.ireturn, 1) := dk_172 (dk_at dksX0_plan_0 20 rfl rfl)
theorem dX0_plan_21 : decode cX0_plan 21 = .ok (.iconst 0, 1) := dk_3 (dk_at dksX0_plan_0 21 rfl rfl)
theorem dX0_plan_22 : decode cX0_plan 22 = .ok (.ireturn, 1) := dk_172 (dk_at dksX0_plan_0 22 rfl rfl)
abbrev cX0_gap : ByteArray := method_26_code
def yX0_gap : MethodName := ⟨RX0, "gap", "(LGridMarket;II[J)I"⟩
def dkwX0_gap_0 : List UInt8 := [45, 3, 42, 27, 28, 182, 0, 93, 133, 80, 167, 0, 7, 58, 4, 4, 172, 3, 172]
abbrev dktX0_gap_0 : List UInt8 := dkwX0_gap_0 ++ []
theorem dksX0_gap_0 : cX0_gap.data.toList.drop 0 = dktX0_gap_0 := by decide +kernel
theorem dX0_gap_0 : decode cX0_gap 0 = .ok (.aload_n 3, 1) := dk_45 (dk_at dksX0_gap_0 0 rfl rfl)
theorem dX0_gap_1 : decode cX0_gap 1 = .ok (.iconst 0, 1) := dk_3 (dk_at dksX0_gap_0 1 rfl rfl)
theorem dX0_gap_2 : decode cX0_gap 2 = .ok (.aload_n 0, 1) := dk_42 (dk_at dksX0_gap_0 2 rfl rfl)
theorem dX0_gap_3 : decode cX0_gap 3 = .ok (.iload_n 1, 1) := dk_27 (dk_at dksX0_gap_0 3 rfl rfl)
theorem dX0_gap_4 : decode cX0_gap 4 = .ok (.iload_n 2, 1) := dk_28 (dk_at dksX0_gap_0 4 rfl rfl)
theorem dX0_gap_5 : decode cX0_gap 5 = .ok (.invokevirtual 93, 3) := dk_182 0 93 (dk_at dksX0_gap_0 5 rfl rfl)
theorem dX0_gap_8 : decode cX0_gap 8 = .ok (.i2l, 1) := dk_133 (dk_at dksX0_gap_0 8 rfl rfl)
theorem dX0_gap_9 : decode cX0_gap 9 = .ok (.lastore, 1) := dk_80 (dk_at dksX0_gap_0 9 rfl rfl)
theorem dX0_gap_10 : decode cX0_gap 10 = .ok (.goto 7, 3) := dk_167 0 7 (dk_at dksX0_gap_0 10 rfl rfl)
theorem dX0_gap_13 : decode cX0_gap 13 = .ok (.astore 4, 2) := dk_58 4 (dk_at dksX0_gap_0 13 rfl rfl)
theorem dX0_gap_15 : decode cX0_gap 15 = .ok (.iconst 1, 1) := dk_4 (dk_at dksX0_gap_0 15 rfl rfl)
theorem dX0_gap_16 : decode cX0_gap 16 = .ok (.ireturn, 1) := dk_172 (dk_at dksX0_gap_0 16 rfl rfl)
theorem dX0_gap_17 : decode cX0_gap 17 = .ok (.iconst 0, 1) := dk_3 (dk_at dksX0_gap_0 17 rfl rfl)
theorem dX0_gap_18 : decode cX0_gap 18 = .ok (.ireturn, 1) := dk_172 (dk_at dksX0_gap_0 18 rfl rfl)
abbrev cX0_gapPrice : ByteArray := method_27_code
def yX0_gapPrice : MethodName := ⟨RX0, "gapPrice", "(LGridMarket;II[J)I"⟩
def dkwX0_gapPrice_0 : List UInt8 := [45, 3, 42, 27, 28, 182, 0, 96, 133, 80, 167, 0, 7, 58, 4, 4, 172, 3, 172]
abbrev dktX0_gapPrice_0 : List UInt8 := dkwX0_gapPrice_0 ++ []
theorem dksX0_gapPrice_0 : cX0_gapPrice.data.toList.drop 0 = dktX0_gapPrice_0 := by decide +kernel
theorem dX0_gapPrice_0 : decode cX0_gapPrice 0 = .ok (.aload_n 3, 1) := dk_45 (dk_at dksX0_gapPrice_0 0 rfl rfl)
theorem dX0_gapPrice_1 : decode cX0_gapPrice 1 = .ok (.iconst 0, 1) := dk_3 (dk_at dksX0_gapPrice_0 1 rfl rfl)
theorem dX0_gapPrice_2 : decode cX0_gapPrice 2 = .ok (.aload_n 0, 1) := dk_42 (dk_at dksX0_gapPrice_0 2 rfl rfl)
theorem dX0_gapPrice_3 : decode cX0_gapPrice 3 = .ok (.iload_n 1, 1) := dk_27 (dk_at dksX0_gapPrice_0 3 rfl rfl)
theorem dX0_gapPrice_4 : decode cX0_gapPrice 4 = .ok (.iload_n 2, 1) := dk_28 (dk_at dksX0_gapPrice_0 4 rfl rfl)
theorem dX0_gapPrice_5 : decode cX0_gapPrice 5 = .ok (.invokevirtual 96, 3) := dk_182 0 96 (dk_at dksX0_gapPrice_0 5 rfl rfl)
theorem dX0_gapPrice_8 : decode cX0_gapPrice 8 = .ok (.i2l, 1) := dk_133 (dk_at dksX0_gapPrice_0 8 rfl rfl)
theorem dX0_gapPrice_9 : decode cX0_gapPrice 9 = .ok (.lastore, 1) := dk_80 (dk_at dksX0_gapPrice_0 9 rfl rfl)
theorem dX0_gapPrice_10 : decode cX0_gapPrice 10 = .ok (.goto 7, 3) := dk_167 0 7 (dk_at dksX0_gapPrice_0 10 rfl rfl)
theorem dX0_gapPrice_13 : decode cX0_gapPrice 13 = .ok (.astore 4, 2) := dk_58 4 (dk_at dksX0_gapPrice_0 13 rfl rfl)
theorem dX0_gapPrice_15 : decode cX0_gapPrice 15 = .ok (.iconst 1, 1) := dk_4 (dk_at dksX0_gapPrice_0 15 rfl rfl)
theorem dX0_gapPrice_16 : decode cX0_gapPrice 16 = .ok (.ireturn, 1) := dk_172 (dk_at dksX0_gapPrice_0 16 rfl rfl)
theorem dX0_gapPrice_17 : decode cX0_gapPrice 17 = .ok (.iconst 0, 1) := dk_3 (dk_at dksX0_gapPrice_0 17 rfl rfl)
theorem dX0_gapPrice_18 : decode cX0_gapPrice 18 = .ok (.ireturn, 1) := dk_172 (dk_at dksX0_gapPrice_0 18 rfl rfl)
abbrev cX0_bill : ByteArray := method_28_code
def yX0_bill : MethodName := ⟨RX0, "bill", "(LGridMarket;II[J)I"⟩
def dkwX0_bill_0 : List UInt8 := [45, 3, 42, 27, 28, 182, 0, 99, 133, 80, 167, 0, 7, 58, 4, 4, 172, 3, 172]
abbrev dktX0_bill_0 : List UInt8 := dkwX0_bill_0 ++ []
theorem dksX0_bill_0 : cX0_bill.data.toList.drop 0 = dktX0_bill_0 := by decide +kernel
theorem dX0_bill_0 : decode cX0_bill 0 = .ok (.aload_n 3, 1) := dk_45 (dk_at dksX0_bill_0 0 rfl rfl)
theorem dX0_bill_1 : decode cX0_bill 1 = .ok (.iconst 0, 1) := dk_3 (dk_at dksX0_bill_0 1 rfl rfl)
theorem dX0_bill_2 : decode cX0_bill 2 = .ok (.aload_n 0, 1) := dk_42 (dk_at dksX0_bill_0 2 rfl rfl)
theorem dX0_bill_3 : decode cX0_bill 3 = .ok (.iload_n 1, 1) := dk_27 (dk_at dksX0_bill_0 3 rfl rfl)
theorem dX0_bill_4 : decode cX0_bill 4 = .ok (.iload_n 2, 1) := dk_28 (dk_at dksX0_bill_0 4 rfl rfl)
theorem dX0_bill_5 : decode cX0_bill 5 = .ok (.invokevirtual 99, 3) := dk_182 0 99 (dk_at dksX0_bill_0 5 rfl rfl)
theorem dX0_bill_8 : decode cX0_bill 8 = .ok (.i2l, 1) := dk_133 (dk_at dksX0_bill_0 8 rfl rfl)
theorem dX0_bill_9 : decode cX0_bill 9 = .ok (.lastore, 1) := dk_80 (dk_at dksX0_bill_0 9 rfl rfl)
theorem dX0_bill_10 : decode cX0_bill 10 = .ok (.goto 7, 3) := dk_167 0 7 (dk_at dksX0_bill_0 10 rfl rfl)
theorem dX0_bill_13 : decode cX0_bill 13 = .ok (.astore 4, 2) := dk_58 4 (dk_at dksX0_bill_0 13 rfl rfl)
theorem dX0_bill_15 : decode cX0_bill 15 = .ok (.iconst 1, 1) := dk_4 (dk_at dksX0_bill_0 15 rfl rfl)
theorem dX0_bill_16 : decode cX0_bill 16 = .ok (.ireturn, 1) := dk_172 (dk_at dksX0_bill_0 16 rfl rfl)
theorem dX0_bill_17 : decode cX0_bill 17 = .ok (.iconst 0, 1) := dk_3 (dk_at dksX0_bill_0 17 rfl rfl)
theorem dX0_bill_18 : decode cX0_bill 18 = .ok (.ireturn, 1) := dk_172 (dk_at dksX0_bill_0 18 rfl rfl)
abbrev cX0_settled : ByteArray := method_29_code
def yX0_settled : MethodName := ⟨RX0, "settled", "(LGridMarket;II[J)I"⟩
def dkwX0_settled_0 : List UInt8 := [45, 3, 42, 27, 28, 182, 0, 102, 133, 80, 167, 0, 7, 58, 4, 4, 172, 3, 172]
abbrev dktX0_settled_0 : List UInt8 := dkwX0_settled_0 ++ []
theorem dksX0_settled_0 : cX0_settled.data.toList.drop 0 = dktX0_settled_0 := by decide +kernel
theorem dX0_settled_0 : decode cX0_settled 0 = .ok (.aload_n 3, 1) := dk_45 (dk_at dksX0_settled_0 0 rfl rfl)
theorem dX0_settled_1 : decode cX0_settled 1 = .ok (.iconst 0, 1) := dk_3 (dk_at dksX0_settled_0 1 rfl rfl)
theorem dX0_settled_2 : decode cX0_settled 2 = .ok (.aload_n 0, 1) := dk_42 (dk_at dksX0_settled_0 2 rfl rfl)
theorem dX0_settled_3 : decode cX0_settled 3 = .ok (.iload_n 1, 1) := dk_27 (dk_at dksX0_settled_0 3 rfl rfl)
theorem dX0_settled_4 : decode cX0_settled 4 = .ok (.iload_n 2, 1) := dk_28 (dk_at dksX0_settled_0 4 rfl rfl)
theorem dX0_settled_5 : decode cX0_settled 5 = .ok (.invokevirtual 102, 3) := dk_182 0 102 (dk_at dksX0_settled_0 5 rfl rfl)
theorem dX0_settled_8 : decode cX0_settled 8 = .ok (.i2l, 1) := dk_133 (dk_at dksX0_settled_0 8 rfl rfl)
theorem dX0_settled_9 : decode cX0_settled 9 = .ok (.lastore, 1) := dk_80 (dk_at dksX0_settled_0 9 rfl rfl)
theorem dX0_settled_10 : decode cX0_settled 10 = .ok (.goto 7, 3) := dk_167 0 7 (dk_at dksX0_settled_0 10 rfl rfl)
theorem dX0_settled_13 : decode cX0_settled 13 = .ok (.astore 4, 2) := dk_58 4 (dk_at dksX0_settled_0 13 rfl rfl)
theorem dX0_settled_15 : decode cX0_settled 15 = .ok (.iconst 1, 1) := dk_4 (dk_at dksX0_settled_0 15 rfl rfl)
theorem dX0_settled_16 : decode cX0_settled 16 = .ok (.ireturn, 1) := dk_172 (dk_at dksX0_settled_0 16 rfl rfl)
theorem dX0_settled_17 : decode cX0_settled 17 = .ok (.iconst 0, 1) := dk_3 (dk_at dksX0_settled_0 17 rfl rfl)
theorem dX0_settled_18 : decode cX0_settled 18 = .ok (.ireturn, 1) := dk_172 (dk_at dksX0_settled_0 18 rfl rfl)
abbrev cX0_account : ByteArray := method_30_code
def yX0_account : MethodName := ⟨RX0, "account", "(LGridMarket;I[J)I"⟩
def dkwX0_account_0 : List UInt8 := [44, 3, 42, 27, 182, 0, 105, 133, 80, 167, 0, 6, 78, 4, 172, 3, 172]
abbrev dktX0_account_0 : List UInt8 := dkwX0_account_0 ++ []
theorem dksX0_account_0 : cX0_account.data.toList.drop 0 = dktX0_account_0 := by decide +kernel
theorem dX0_account_0 : decode cX0_account 0 = .ok (.aload_n 2, 1) := dk_44 (dk_at dksX0_account_0 0 rfl rfl)
theorem dX0_account_1 : decode cX0_account 1 = .ok (.iconst 0, 1) := dk_3 (dk_at dksX0_account_0 1 rfl rfl)
theorem dX0_account_2 : decode cX0_account 2 = .ok (.aload_n 0, 1) := dk_42 (dk_at dksX0_account_0 2 rfl rfl)
theorem dX0_account_3 : decode cX0_account 3 = .ok (.iload_n 1, 1) := dk_27 (dk_at dksX0_account_0 3 rfl rfl)
theorem dX0_account_4 : decode cX0_account 4 = .ok (.invokevirtual 105, 3) := dk_182 0 105 (dk_at dksX0_account_0 4 rfl rfl)
theorem dX0_account_7 : decode cX0_account 7 = .ok (.i2l, 1) := dk_133 (dk_at dksX0_account_0 7 rfl rfl)
theorem dX0_account_8 : decode cX0_account 8 = .ok (.lastore, 1) := dk_80 (dk_at dksX0_account_0 8 rfl rfl)
theorem dX0_account_9 : decode cX0_account 9 = .ok (.goto 6, 3) := dk_167 0 6 (dk_at dksX0_account_0 9 rfl rfl)
theorem dX0_account_12 : decode cX0_account 12 = .ok (.astore_n 3, 1) := dk_78 (dk_at dksX0_account_0 12 rfl rfl)
theorem dX0_account_13 : decode cX0_account 13 = .ok (.iconst 1, 1) := dk_4 (dk_at dksX0_account_0 13 rfl rfl)
theorem dX0_account_14 : decode cX0_account 14 = .ok (.ireturn, 1) := dk_172 (dk_at dksX0_account_0 14 rfl rfl)
theorem dX0_account_15 : decode cX0_account 15 = .ok (.iconst 0, 1) := dk_3 (dk_at dksX0_account_0 15 rfl rfl)
theorem dX0_account_16 : decode cX0_account 16 = .ok (.ireturn, 1) := dk_172 (dk_at dksX0_account_0 16 rfl rfl)
abbrev cX0_hasFailed : ByteArray := method_31_code
def yX0_hasFailed : MethodName := ⟨RX0, "hasFailed", "(LGridMarket;I[J)I"⟩
def dkwX0_hasFailed_0 : List UInt8 := [44, 3, 42, 27, 182, 0, 108, 153, 0, 7, 10, 167, 0, 4, 9, 80, 167, 0, 6, 78, 4, 172, 3, 172]
abbrev dktX0_hasFailed_0 : List UInt8 := dkwX0_hasFailed_0 ++ []
theorem dksX0_hasFailed_0 : cX0_hasFailed.data.toList.drop 0 = dktX0_hasFailed_0 := by decide +kernel
theorem dX0_hasFailed_0 : decode cX0_hasFailed 0 = .ok (.aload_n 2, 1) := dk_44 (dk_at dksX0_hasFailed_0 0 rfl rfl)
theorem dX0_hasFailed_1 : decode cX0_hasFailed 1 = .ok (.iconst 0, 1) := dk_3 (dk_at dksX0_hasFailed_0 1 rfl rfl)
theorem dX0_hasFailed_2 : decode cX0_hasFailed 2 = .ok (.aload_n 0, 1) := dk_42 (dk_at dksX0_hasFailed_0 2 rfl rfl)
theorem dX0_hasFailed_3 : decode cX0_hasFailed 3 = .ok (.iload_n 1, 1) := dk_27 (dk_at dksX0_hasFailed_0 3 rfl rfl)
theorem dX0_hasFailed_4 : decode cX0_hasFailed 4 = .ok (.invokevirtual 108, 3) := dk_182 0 108 (dk_at dksX0_hasFailed_0 4 rfl rfl)
theorem dX0_hasFailed_7 : decode cX0_hasFailed 7 = .ok (.ifCond .eq 7, 3) := dk_153 0 7 (dk_at dksX0_hasFailed_0 7 rfl rfl)
theorem dX0_hasFailed_10 : decode cX0_hasFailed 10 = .ok (.lconst 1, 1) := dk_10 (dk_at dksX0_hasFailed_0 10 rfl rfl)
theorem dX0_hasFailed_11 : decode cX0_hasFailed 11 = .ok (.goto 4, 3) := dk_167 0 4 (dk_at dksX0_hasFailed_0 11 rfl rfl)
theorem dX0_hasFailed_14 : decode cX0_hasFailed 14 = .ok (.lconst 0, 1) := dk_9 (dk_at dksX0_hasFailed_0 14 rfl rfl)
theorem dX0_hasFailed_15 : decode cX0_hasFailed 15 = .ok (.lastore, 1) := dk_80 (dk_at dksX0_hasFailed_0 15 rfl rfl)
theorem dX0_hasFailed_16 : decode cX0_hasFailed 16 = .ok (.goto 6, 3) := dk_167 0 6 (dk_at dksX0_hasFailed_0 16 rfl rfl)
theorem dX0_hasFailed_19 : decode cX0_hasFailed 19 = .ok (.astore_n 3, 1) := dk_78 (dk_at dksX0_hasFailed_0 19 rfl rfl)
theorem dX0_hasFailed_20 : decode cX0_hasFailed 20 = .ok (.iconst 1, 1) := dk_4 (dk_at dksX0_hasFailed_0 20 rfl rfl)
theorem dX0_hasFailed_21 : decode cX0_hasFailed 21 = .ok (.ireturn, 1) := dk_172 (dk_at dksX0_hasFailed_0 21 rfl rfl)
theorem dX0_hasFailed_22 : decode cX0_hasFailed 22 = .ok (.iconst 0, 1) := dk_3 (dk_at dksX0_hasFailed_0 22 rfl rfl)
theorem dX0_hasFailed_23 : decode cX0_hasFailed 23 = .ok (.ireturn, 1) := dk_172 (dk_at dksX0_hasFailed_0 23 rfl rfl)
theorem q54 : (Jvm.Cond.initialized "GridMarketLaw") ∈ lw_all := lw_g (lw_at lw_m1 0 rfl) rfl
theorem q92 : (Jvm.Cond.classLink "GridMarketLaw" (8 : Nat) "GridMarket") ∈ lw_all := lw_g (lw_at lw_m1 38 rfl) rfl
theorem q94 : (Jvm.Cond.methodLink "GridMarketLaw" (111 : Nat) ({ cls := "GridMarket", name := "<init>", desc := "()V" } : Jvm.MethodName)) ∈ lw_all := lw_g (lw_at lw_m1 40 rfl) rfl
theorem q210 : (Jvm.Cond.methodLink "GridMarketLaw" (166 : Nat) ({ cls := "GridMarket", name := "day", desc := "()I" } : Jvm.MethodName)) ∈ lw_all := lw_g (lw_at lw_m1 156 rfl) rfl
theorem q224 : (Jvm.Cond.methodLink "GridMarketLaw" (170 : Nat) ({ cls := "GridMarket", name := "phase", desc := "()I" } : Jvm.MethodName)) ∈ lw_all := lw_g (lw_at lw_m1 170 rfl) rfl
theorem q228 : (Jvm.Cond.methodLink "GridMarketLaw" (223 : Nat) ({ cls := "GridMarket", name := "house", desc := "()I" } : Jvm.MethodName)) ∈ lw_all := lw_g (lw_at lw_m1 174 rfl) rfl
theorem q232 : (Jvm.Cond.methodLink "GridMarketLaw" (115 : Nat) ({ cls := "GridMarketLaw", name := "deposit", desc := "(LGridMarket;II[J)I" } : Jvm.MethodName)) ∈ lw_all := lw_g (lw_at lw_m1 178 rfl) rfl
theorem q233 : (Jvm.Cond.static ({ cls := "GridMarketLaw", name := "deposit", desc := "(LGridMarket;II[J)I" } : Jvm.MethodName)) ∈ lw_all := lw_g (lw_at lw_m1 179 rfl) rfl
theorem q234 : (Jvm.Cond.codeWith ({ cls := "GridMarketLaw", name := "deposit", desc := "(LGridMarket;II[J)I" } : Jvm.MethodName) method_3_code (5 : Nat) (Option.some Jvm.ClassFile.FieldType.int) [((0 : Nat), (10 : Nat), (13 : Nat), (13 : Nat)), ((0 : Nat), (10 : Nat), (17 : Nat), (15 : Nat)), ((0 : Nat), (10 : Nat), (21 : Nat), (17 : Nat))]) ∈ lw_all := lw_g (lw_at lw_m1 180 rfl) rfl
theorem q235 : (Jvm.Cond.classLink "GridMarketLaw" (13 : Nat) "java/lang/IndexOutOfBoundsException") ∈ lw_all := lw_g (lw_at lw_m1 181 rfl) rfl
theorem q314 : (Jvm.Cond.classLink "GridMarketLaw" (15 : Nat) "java/lang/IllegalArgumentException") ∈ lw_all := lw_g (lw_at lw_m2 20 rfl) rfl
theorem q315 : (Jvm.Cond.classLink "GridMarketLaw" (17 : Nat) "java/lang/IllegalStateException") ∈ lw_all := lw_g (lw_at lw_m2 21 rfl) rfl
theorem q316 : (Jvm.Cond.methodLink "GridMarketLaw" (7 : Nat) ({ cls := "GridMarket", name := "deposit", desc := "(II)I" } : Jvm.MethodName)) ∈ lw_all := lw_g (lw_at lw_m2 22 rfl) rfl
theorem q382 : (Jvm.Cond.methodLink "GridMarketLaw" (124 : Nat) ({ cls := "GridMarketLaw", name := "setLimit", desc := "(LGridMarket;II[J)I" } : Jvm.MethodName)) ∈ lw_all := lw_g (lw_at lw_m2 88 rfl) rfl
theorem q383 : (Jvm.Cond.static ({ cls := "GridMarketLaw", name := "setLimit", desc := "(LGridMarket;II[J)I" } : Jvm.MethodName)) ∈ lw_all := lw_g (lw_at lw_m2 89 rfl) rfl
theorem q384 : (Jvm.Cond.codeWith ({ cls := "GridMarketLaw", name := "setLimit", desc := "(LGridMarket;II[J)I" } : Jvm.MethodName) method_4_code (5 : Nat) (Option.some Jvm.ClassFile.FieldType.int) [((0 : Nat), (10 : Nat), (13 : Nat), (13 : Nat)), ((0 : Nat), (10 : Nat), (17 : Nat), (15 : Nat)), ((0 : Nat), (10 : Nat), (21 : Nat), (17 : Nat))]) ∈ lw_all := lw_g (lw_at lw_m2 90 rfl) rfl
theorem q385 : (Jvm.Cond.methodLink "GridMarketLaw" (19 : Nat) ({ cls := "GridMarket", name := "setLimit", desc := "(II)I" } : Jvm.MethodName)) ∈ lw_all := lw_g (lw_at lw_m2 91 rfl) rfl
theorem q389 : (Jvm.Cond.methodLink "GridMarketLaw" (127 : Nat) ({ cls := "GridMarketLaw", name := "bid", desc := "(LGridMarket;IIIZII[J)I" } : Jvm.MethodName)) ∈ lw_all := lw_g (lw_at lw_m2 95 rfl) rfl
theorem q390 : (Jvm.Cond.static ({ cls := "GridMarketLaw", name := "bid", desc := "(LGridMarket;IIIZII[J)I" } : Jvm.MethodName)) ∈ lw_all := lw_g (lw_at lw_m2 96 rfl) rfl
theorem q391 : (Jvm.Cond.codeWith ({ cls := "GridMarketLaw", name := "bid", desc := "(LGridMarket;IIIZII[J)I" } : Jvm.MethodName) method_5_code (9 : Nat) (Option.some Jvm.ClassFile.FieldType.int) [((0 : Nat), (18 : Nat), (21 : Nat), (13 : Nat)), ((0 : Nat), (18 : Nat), (25 : Nat), (15 : Nat)), ((0 : Nat), (18 : Nat), (29 : Nat), (17 : Nat))]) ∈ lw_all := lw_g (lw_at lw_m2 97 rfl) rfl
theorem q392 : (Jvm.Cond.methodLink "GridMarketLaw" (22 : Nat) ({ cls := "GridMarket", name := "bid", desc := "(IIIZII)I" } : Jvm.MethodName)) ∈ lw_all := lw_g (lw_at lw_m2 98 rfl) rfl
theorem q517 : (Jvm.Cond.methodLink "GridMarketLaw" (131 : Nat) ({ cls := "GridMarketLaw", name := "block", desc := "(LGridMarket;IIIZII[J)I" } : Jvm.MethodName)) ∈ lw_all := lw_g (lw_at lw_m2 223 rfl) rfl
theorem q518 : (Jvm.Cond.static ({ cls := "GridMarketLaw", name := "block", desc := "(LGridMarket;IIIZII[J)I" } : Jvm.MethodName)) ∈ lw_all := lw_g (lw_at lw_m2 224 rfl) rfl
theorem q519 : (Jvm.Cond.codeWith ({ cls := "GridMarketLaw", name := "block", desc := "(LGridMarket;IIIZII[J)I" } : Jvm.MethodName) method_6_code (9 : Nat) (Option.some Jvm.ClassFile.FieldType.int) [((0 : Nat), (18 : Nat), (21 : Nat), (13 : Nat)), ((0 : Nat), (18 : Nat), (25 : Nat), (15 : Nat)), ((0 : Nat), (18 : Nat), (29 : Nat), (17 : Nat))]) ∈ lw_all := lw_g (lw_at lw_m2 225 rfl) rfl
theorem q520 : (Jvm.Cond.methodLink "GridMarketLaw" (26 : Nat) ({ cls := "GridMarket", name := "block", desc := "(IIIZII)I" } : Jvm.MethodName)) ∈ lw_all := lw_g (lw_at lw_m2 226 rfl) rfl
theorem q569 : (Jvm.Cond.methodLink "GridMarketLaw" (134 : Nat) ({ cls := "GridMarketLaw", name := "link", desc := "(LGridMarket;III)I" } : Jvm.MethodName)) ∈ lw_all := lw_g (lw_at lw_m3 35 rfl) rfl
theorem q570 : (Jvm.Cond.static ({ cls := "GridMarketLaw", name := "link", desc := "(LGridMarket;III)I" } : Jvm.MethodName)) ∈ lw_all := lw_g (lw_at lw_m3 36 rfl) rfl
theorem q571 : (Jvm.Cond.codeWith ({ cls := "GridMarketLaw", name := "link", desc := "(LGridMarket;III)I" } : Jvm.MethodName) method_7_code (5 : Nat) (Option.some Jvm.ClassFile.FieldType.int) [((0 : Nat), (7 : Nat), (10 : Nat), (13 : Nat)), ((0 : Nat), (7 : Nat), (14 : Nat), (15 : Nat)), ((0 : Nat), (7 : Nat), (18 : Nat), (17 : Nat))]) ∈ lw_all := lw_g (lw_at lw_m3 37 rfl) rfl
theorem q572 : (Jvm.Cond.methodLink "GridMarketLaw" (29 : Nat) ({ cls := "GridMarket", name := "link", desc := "(III)V" } : Jvm.MethodName)) ∈ lw_all := lw_g (lw_at lw_m3 38 rfl) rfl
theorem q595 : (Jvm.Cond.methodLink "GridMarketLaw" (138 : Nat) ({ cls := "GridMarketLaw", name := "ask", desc := "(LGridMarket;IIIII[J)I" } : Jvm.MethodName)) ∈ lw_all := lw_g (lw_at lw_m3 61 rfl) rfl
theorem q596 : (Jvm.Cond.static ({ cls := "GridMarketLaw", name := "ask", desc := "(LGridMarket;IIIII[J)I" } : Jvm.MethodName)) ∈ lw_all := lw_g (lw_at lw_m3 62 rfl) rfl
theorem q597 : (Jvm.Cond.codeWith ({ cls := "GridMarketLaw", name := "ask", desc := "(LGridMarket;IIIII[J)I" } : Jvm.MethodName) method_8_code (8 : Nat) (Option.some Jvm.ClassFile.FieldType.int) [((0 : Nat), (16 : Nat), (19 : Nat), (13 : Nat)), ((0 : Nat), (16 : Nat), (23 : Nat), (15 : Nat)), ((0 : Nat), (16 : Nat), (27 : Nat), (17 : Nat))]) ∈ lw_all := lw_g (lw_at lw_m3 63 rfl) rfl
theorem q598 : (Jvm.Cond.methodLink "GridMarketLaw" (33 : Nat) ({ cls := "GridMarket", name := "ask", desc := "(IIIII)I" } : Jvm.MethodName)) ∈ lw_all := lw_g (lw_at lw_m3 64 rfl) rfl
theorem q635 : (Jvm.Cond.methodLink "GridMarketLaw" (142 : Nat) ({ cls := "GridMarketLaw", name := "clear", desc := "(LGridMarket;[J)I" } : Jvm.MethodName)) ∈ lw_all := lw_g (lw_at lw_m3 101 rfl) rfl
theorem q636 : (Jvm.Cond.static ({ cls := "GridMarketLaw", name := "clear", desc := "(LGridMarket;[J)I" } : Jvm.MethodName)) ∈ lw_all := lw_g (lw_at lw_m3 102 rfl) rfl
theorem q637 : (Jvm.Cond.codeWith ({ cls := "GridMarketLaw", name := "clear", desc := "(LGridMarket;[J)I" } : Jvm.MethodName) method_9_code (3 : Nat) (Option.some Jvm.ClassFile.FieldType.int) [((0 : Nat), (8 : Nat), (11 : Nat), (17 : Nat))]) ∈ lw_all := lw_g (lw_at lw_m3 103 rfl) rfl
theorem q638 : (Jvm.Cond.methodLink "GridMarketLaw" (37 : Nat) ({ cls := "GridMarket", name := "clear", desc := "()I" } : Jvm.MethodName)) ∈ lw_all := lw_g (lw_at lw_m3 104 rfl) rfl
theorem q1128 : (Jvm.Cond.methodLink "GridMarketLaw" (146 : Nat) ({ cls := "GridMarketLaw", name := "offer", desc := "(LGridMarket;IIIZII[J)I" } : Jvm.MethodName)) ∈ lw_all := lw_g (lw_at lw_m5 114 rfl) rfl
theorem q1129 : (Jvm.Cond.static ({ cls := "GridMarketLaw", name := "offer", desc := "(LGridMarket;IIIZII[J)I" } : Jvm.MethodName)) ∈ lw_all := lw_g (lw_at lw_m5 115 rfl) rfl
theorem q1130 : (Jvm.Cond.codeWith ({ cls := "GridMarketLaw", name := "offer", desc := "(LGridMarket;IIIZII[J)I" } : Jvm.MethodName) method_10_code (9 : Nat) (Option.some Jvm.ClassFile.FieldType.int) [((0 : Nat), (18 : Nat), (21 : Nat), (13 : Nat)), ((0 : Nat), (18 : Nat), (25 : Nat), (15 : Nat)), ((0 : Nat), (18 : Nat), (29 : Nat), (17 : Nat))]) ∈ lw_all := lw_g (lw_at lw_m5 116 rfl) rfl
theorem q1131 : (Jvm.Cond.methodLink "GridMarketLaw" (41 : Nat) ({ cls := "GridMarket", name := "offer", desc := "(IIIZII)I" } : Jvm.MethodName)) ∈ lw_all := lw_g (lw_at lw_m5 117 rfl) rfl
theorem q1227 : (Jvm.Cond.methodLink "GridMarketLaw" (149 : Nat) ({ cls := "GridMarketLaw", name := "takeBack", desc := "(LGridMarket;I[J)I" } : Jvm.MethodName)) ∈ lw_all := lw_g (lw_at lw_m5 213 rfl) rfl
theorem q1228 : (Jvm.Cond.static ({ cls := "GridMarketLaw", name := "takeBack", desc := "(LGridMarket;I[J)I" } : Jvm.MethodName)) ∈ lw_all := lw_g (lw_at lw_m5 214 rfl) rfl
theorem q1229 : (Jvm.Cond.codeWith ({ cls := "GridMarketLaw", name := "takeBack", desc := "(LGridMarket;I[J)I" } : Jvm.MethodName) method_11_code (4 : Nat) (Option.some Jvm.ClassFile.FieldType.int) [((0 : Nat), (9 : Nat), (12 : Nat), (13 : Nat)), ((0 : Nat), (9 : Nat), (15 : Nat), (17 : Nat))]) ∈ lw_all := lw_g (lw_at lw_m5 215 rfl) rfl
theorem q1230 : (Jvm.Cond.methodLink "GridMarketLaw" (44 : Nat) ({ cls := "GridMarket", name := "takeBack", desc := "(I)I" } : Jvm.MethodName)) ∈ lw_all := lw_g (lw_at lw_m5 216 rfl) rfl
theorem q1234 : (Jvm.Cond.methodLink "GridMarketLaw" (153 : Nat) ({ cls := "GridMarketLaw", name := "aid", desc := "(LGridMarket;IIZII[J)I" } : Jvm.MethodName)) ∈ lw_all := lw_g (lw_at lw_m5 220 rfl) rfl
theorem q1235 : (Jvm.Cond.static ({ cls := "GridMarketLaw", name := "aid", desc := "(LGridMarket;IIZII[J)I" } : Jvm.MethodName)) ∈ lw_all := lw_g (lw_at lw_m5 221 rfl) rfl
theorem q1236 : (Jvm.Cond.codeWith ({ cls := "GridMarketLaw", name := "aid", desc := "(LGridMarket;IIZII[J)I" } : Jvm.MethodName) method_12_code (8 : Nat) (Option.some Jvm.ClassFile.FieldType.int) [((0 : Nat), (16 : Nat), (19 : Nat), (13 : Nat)), ((0 : Nat), (16 : Nat), (23 : Nat), (15 : Nat)), ((0 : Nat), (16 : Nat), (27 : Nat), (17 : Nat))]) ∈ lw_all := lw_g (lw_at lw_m5 222 rfl) rfl
theorem q1237 : (Jvm.Cond.methodLink "GridMarketLaw" (48 : Nat) ({ cls := "GridMarket", name := "aid", desc := "(IIZII)I" } : Jvm.MethodName)) ∈ lw_all := lw_g (lw_at lw_m5 223 rfl) rfl
theorem q1268 : (Jvm.Cond.methodLink "GridMarketLaw" (157 : Nat) ({ cls := "GridMarketLaw", name := "close", desc := "(LGridMarket;[J)I" } : Jvm.MethodName)) ∈ lw_all := lw_g (lw_at lw_m6 14 rfl) rfl
theorem q1269 : (Jvm.Cond.static ({ cls := "GridMarketLaw", name := "close", desc := "(LGridMarket;[J)I" } : Jvm.MethodName)) ∈ lw_all := lw_g (lw_at lw_m6 15 rfl) rfl
theorem q1270 : (Jvm.Cond.codeWith ({ cls := "GridMarketLaw", name := "close", desc := "(LGridMarket;[J)I" } : Jvm.MethodName) method_13_code (3 : Nat) (Option.some Jvm.ClassFile.FieldType.int) [((0 : Nat), (8 : Nat), (11 : Nat), (17 : Nat))]) ∈ lw_all := lw_g (lw_at lw_m6 16 rfl) rfl
theorem q1271 : (Jvm.Cond.methodLink "GridMarketLaw" (52 : Nat) ({ cls := "GridMarket", name := "close", desc := "()I" } : Jvm.MethodName)) ∈ lw_all := lw_g (lw_at lw_m6 17 rfl) rfl
theorem q1275 : (Jvm.Cond.methodLink "GridMarketLaw" (160 : Nat) ({ cls := "GridMarketLaw", name := "read", desc := "(LGridMarket;IIIII[J)I" } : Jvm.MethodName)) ∈ lw_all := lw_g (lw_at lw_m6 21 rfl) rfl
theorem q1276 : (Jvm.Cond.static ({ cls := "GridMarketLaw", name := "read", desc := "(LGridMarket;IIIII[J)I" } : Jvm.MethodName)) ∈ lw_all := lw_g (lw_at lw_m6 22 rfl) rfl
theorem q1277 : (Jvm.Cond.codeWith ({ cls := "GridMarketLaw", name := "read", desc := "(LGridMarket;IIIII[J)I" } : Jvm.MethodName) method_14_code (8 : Nat) (Option.some Jvm.ClassFile.FieldType.int) [((0 : Nat), (16 : Nat), (19 : Nat), (13 : Nat)), ((0 : Nat), (16 : Nat), (23 : Nat), (15 : Nat))]) ∈ lw_all := lw_g (lw_at lw_m6 23 rfl) rfl
theorem q1278 : (Jvm.Cond.methodLink "GridMarketLaw" (55 : Nat) ({ cls := "GridMarket", name := "read", desc := "(IIIII)I" } : Jvm.MethodName)) ∈ lw_all := lw_g (lw_at lw_m6 24 rfl) rfl
theorem q1304 : (Jvm.Cond.methodLink "GridMarketLaw" (163 : Nat) ({ cls := "GridMarketLaw", name := "run", desc := "(LGridMarket;I[J)I" } : Jvm.MethodName)) ∈ lw_all := lw_g (lw_at lw_m6 50 rfl) rfl
theorem q1305 : (Jvm.Cond.static ({ cls := "GridMarketLaw", name := "run", desc := "(LGridMarket;I[J)I" } : Jvm.MethodName)) ∈ lw_all := lw_g (lw_at lw_m6 51 rfl) rfl
theorem q1306 : (Jvm.Cond.codeWith ({ cls := "GridMarketLaw", name := "run", desc := "(LGridMarket;I[J)I" } : Jvm.MethodName) method_15_code (4 : Nat) (Option.some Jvm.ClassFile.FieldType.int) [((0 : Nat), (9 : Nat), (12 : Nat), (13 : Nat)), ((0 : Nat), (9 : Nat), (15 : Nat), (17 : Nat))]) ∈ lw_all := lw_g (lw_at lw_m6 52 rfl) rfl
theorem q1307 : (Jvm.Cond.methodLink "GridMarketLaw" (58 : Nat) ({ cls := "GridMarket", name := "run", desc := "(I)I" } : Jvm.MethodName)) ∈ lw_all := lw_g (lw_at lw_m6 53 rfl) rfl
theorem q1336 : (Jvm.Cond.methodLink "GridMarketLaw" (174 : Nat) ({ cls := "GridMarketLaw", name := "price", desc := "(LGridMarket;II[J)I" } : Jvm.MethodName)) ∈ lw_all := lw_g (lw_at lw_m6 82 rfl) rfl
theorem q1337 : (Jvm.Cond.static ({ cls := "GridMarketLaw", name := "price", desc := "(LGridMarket;II[J)I" } : Jvm.MethodName)) ∈ lw_all := lw_g (lw_at lw_m6 83 rfl) rfl
theorem q1338 : (Jvm.Cond.codeWith ({ cls := "GridMarketLaw", name := "price", desc := "(LGridMarket;II[J)I" } : Jvm.MethodName) method_16_code (5 : Nat) (Option.some Jvm.ClassFile.FieldType.int) [((0 : Nat), (10 : Nat), (13 : Nat), (13 : Nat)), ((0 : Nat), (10 : Nat), (17 : Nat), (17 : Nat))]) ∈ lw_all := lw_g (lw_at lw_m6 84 rfl) rfl
theorem q1339 : (Jvm.Cond.methodLink "GridMarketLaw" (61 : Nat) ({ cls := "GridMarket", name := "price", desc := "(II)I" } : Jvm.MethodName)) ∈ lw_all := lw_g (lw_at lw_m6 85 rfl) rfl
theorem q1347 : (Jvm.Cond.methodLink "GridMarketLaw" (177 : Nat) ({ cls := "GridMarketLaw", name := "net", desc := "(LGridMarket;II[J)I" } : Jvm.MethodName)) ∈ lw_all := lw_g (lw_at lw_m6 93 rfl) rfl
theorem q1348 : (Jvm.Cond.static ({ cls := "GridMarketLaw", name := "net", desc := "(LGridMarket;II[J)I" } : Jvm.MethodName)) ∈ lw_all := lw_g (lw_at lw_m6 94 rfl) rfl
theorem q1349 : (Jvm.Cond.codeWith ({ cls := "GridMarketLaw", name := "net", desc := "(LGridMarket;II[J)I" } : Jvm.MethodName) method_17_code (5 : Nat) (Option.some Jvm.ClassFile.FieldType.int) [((0 : Nat), (10 : Nat), (13 : Nat), (13 : Nat)), ((0 : Nat), (10 : Nat), (17 : Nat), (17 : Nat))]) ∈ lw_all := lw_g (lw_at lw_m6 95 rfl) rfl
theorem q1350 : (Jvm.Cond.methodLink "GridMarketLaw" (64 : Nat) ({ cls := "GridMarket", name := "net", desc := "(II)I" } : Jvm.MethodName)) ∈ lw_all := lw_g (lw_at lw_m6 96 rfl) rfl
theorem q1354 : (Jvm.Cond.methodLink "GridMarketLaw" (180 : Nat) ({ cls := "GridMarketLaw", name := "flow", desc := "(LGridMarket;II[J)I" } : Jvm.MethodName)) ∈ lw_all := lw_g (lw_at lw_m6 100 rfl) rfl
theorem q1355 : (Jvm.Cond.static ({ cls := "GridMarketLaw", name := "flow", desc := "(LGridMarket;II[J)I" } : Jvm.MethodName)) ∈ lw_all := lw_g (lw_at lw_m6 101 rfl) rfl
theorem q1356 : (Jvm.Cond.codeWith ({ cls := "GridMarketLaw", name := "flow", desc := "(LGridMarket;II[J)I" } : Jvm.MethodName) method_18_code (5 : Nat) (Option.some Jvm.ClassFile.FieldType.int) [((0 : Nat), (10 : Nat), (13 : Nat), (13 : Nat)), ((0 : Nat), (10 : Nat), (17 : Nat), (17 : Nat))]) ∈ lw_all := lw_g (lw_at lw_m6 102 rfl) rfl
theorem q1357 : (Jvm.Cond.methodLink "GridMarketLaw" (67 : Nat) ({ cls := "GridMarket", name := "flow", desc := "(II)I" } : Jvm.MethodName)) ∈ lw_all := lw_g (lw_at lw_m6 103 rfl) rfl
theorem q1361 : (Jvm.Cond.methodLink "GridMarketLaw" (183 : Nat) ({ cls := "GridMarketLaw", name := "taken", desc := "(LGridMarket;I[J)I" } : Jvm.MethodName)) ∈ lw_all := lw_g (lw_at lw_m6 107 rfl) rfl
theorem q1362 : (Jvm.Cond.static ({ cls := "GridMarketLaw", name := "taken", desc := "(LGridMarket;I[J)I" } : Jvm.MethodName)) ∈ lw_all := lw_g (lw_at lw_m6 108 rfl) rfl
theorem q1363 : (Jvm.Cond.codeWith ({ cls := "GridMarketLaw", name := "taken", desc := "(LGridMarket;I[J)I" } : Jvm.MethodName) method_19_code (4 : Nat) (Option.some Jvm.ClassFile.FieldType.int) [((0 : Nat), (9 : Nat), (12 : Nat), (13 : Nat)), ((0 : Nat), (9 : Nat), (15 : Nat), (17 : Nat))]) ∈ lw_all := lw_g (lw_at lw_m6 109 rfl) rfl
theorem q1364 : (Jvm.Cond.methodLink "GridMarketLaw" (70 : Nat) ({ cls := "GridMarket", name := "taken", desc := "(I)I" } : Jvm.MethodName)) ∈ lw_all := lw_g (lw_at lw_m6 110 rfl) rfl
theorem q1368 : (Jvm.Cond.methodLink "GridMarketLaw" (186 : Nat) ({ cls := "GridMarketLaw", name := "isTaken", desc := "(LGridMarket;I[J)I" } : Jvm.MethodName)) ∈ lw_all := lw_g (lw_at lw_m6 114 rfl) rfl
theorem q1369 : (Jvm.Cond.static ({ cls := "GridMarketLaw", name := "isTaken", desc := "(LGridMarket;I[J)I" } : Jvm.MethodName)) ∈ lw_all := lw_g (lw_at lw_m6 115 rfl) rfl
theorem q1370 : (Jvm.Cond.codeWith ({ cls := "GridMarketLaw", name := "isTaken", desc := "(LGridMarket;I[J)I" } : Jvm.MethodName) method_20_code (4 : Nat) (Option.some Jvm.ClassFile.FieldType.int) [((0 : Nat), (16 : Nat), (19 : Nat), (13 : Nat)), ((0 : Nat), (16 : Nat), (22 : Nat), (17 : Nat))]) ∈ lw_all := lw_g (lw_at lw_m6 116 rfl) rfl
theorem q1371 : (Jvm.Cond.methodLink "GridMarketLaw" (73 : Nat) ({ cls := "GridMarket", name := "isTaken", desc := "(I)Z" } : Jvm.MethodName)) ∈ lw_all := lw_g (lw_at lw_m6 117 rfl) rfl
theorem q1375 : (Jvm.Cond.methodLink "GridMarketLaw" (189 : Nat) ({ cls := "GridMarketLaw", name := "gain", desc := "(LGridMarket;I[J)I" } : Jvm.MethodName)) ∈ lw_all := lw_g (lw_at lw_m6 121 rfl) rfl
theorem q1376 : (Jvm.Cond.static ({ cls := "GridMarketLaw", name := "gain", desc := "(LGridMarket;I[J)I" } : Jvm.MethodName)) ∈ lw_all := lw_g (lw_at lw_m6 122 rfl) rfl
theorem q1377 : (Jvm.Cond.codeWith ({ cls := "GridMarketLaw", name := "gain", desc := "(LGridMarket;I[J)I" } : Jvm.MethodName) method_21_code (4 : Nat) (Option.some Jvm.ClassFile.FieldType.int) [((0 : Nat), (9 : Nat), (12 : Nat), (13 : Nat)), ((0 : Nat), (9 : Nat), (15 : Nat), (17 : Nat))]) ∈ lw_all := lw_g (lw_at lw_m6 123 rfl) rfl
theorem q1378 : (Jvm.Cond.methodLink "GridMarketLaw" (77 : Nat) ({ cls := "GridMarket", name := "gain", desc := "(I)I" } : Jvm.MethodName)) ∈ lw_all := lw_g (lw_at lw_m6 124 rfl) rfl
theorem q1382 : (Jvm.Cond.methodLink "GridMarketLaw" (192 : Nat) ({ cls := "GridMarketLaw", name := "worthAnew", desc := "(LGridMarket;[J)I" } : Jvm.MethodName)) ∈ lw_all := lw_g (lw_at lw_m6 128 rfl) rfl
theorem q1383 : (Jvm.Cond.static ({ cls := "GridMarketLaw", name := "worthAnew", desc := "(LGridMarket;[J)I" } : Jvm.MethodName)) ∈ lw_all := lw_g (lw_at lw_m6 129 rfl) rfl
theorem q1384 : (Jvm.Cond.codeWith ({ cls := "GridMarketLaw", name := "worthAnew", desc := "(LGridMarket;[J)I" } : Jvm.MethodName) method_22_code (3 : Nat) (Option.some Jvm.ClassFile.FieldType.int) [((0 : Nat), (8 : Nat), (11 : Nat), (17 : Nat))]) ∈ lw_all := lw_g (lw_at lw_m6 130 rfl) rfl
theorem q1385 : (Jvm.Cond.methodLink "GridMarketLaw" (80 : Nat) ({ cls := "GridMarket", name := "worthAnew", desc := "()I" } : Jvm.MethodName)) ∈ lw_all := lw_g (lw_at lw_m6 131 rfl) rfl
theorem q1389 : (Jvm.Cond.methodLink "GridMarketLaw" (195 : Nat) ({ cls := "GridMarketLaw", name := "given", desc := "(LGridMarket;I[J)I" } : Jvm.MethodName)) ∈ lw_all := lw_g (lw_at lw_m6 135 rfl) rfl
theorem q1390 : (Jvm.Cond.static ({ cls := "GridMarketLaw", name := "given", desc := "(LGridMarket;I[J)I" } : Jvm.MethodName)) ∈ lw_all := lw_g (lw_at lw_m6 136 rfl) rfl
theorem q1391 : (Jvm.Cond.codeWith ({ cls := "GridMarketLaw", name := "given", desc := "(LGridMarket;I[J)I" } : Jvm.MethodName) method_23_code (4 : Nat) (Option.some Jvm.ClassFile.FieldType.int) [((0 : Nat), (9 : Nat), (12 : Nat), (13 : Nat)), ((0 : Nat), (9 : Nat), (15 : Nat), (17 : Nat))]) ∈ lw_all := lw_g (lw_at lw_m6 137 rfl) rfl
theorem q1392 : (Jvm.Cond.methodLink "GridMarketLaw" (83 : Nat) ({ cls := "GridMarket", name := "given", desc := "(I)I" } : Jvm.MethodName)) ∈ lw_all := lw_g (lw_at lw_m6 138 rfl) rfl
theorem q1396 : (Jvm.Cond.methodLink "GridMarketLaw" (198 : Nat) ({ cls := "GridMarketLaw", name := "left", desc := "(LGridMarket;I[J)I" } : Jvm.MethodName)) ∈ lw_all := lw_g (lw_at lw_m6 142 rfl) rfl
theorem q1397 : (Jvm.Cond.static ({ cls := "GridMarketLaw", name := "left", desc := "(LGridMarket;I[J)I" } : Jvm.MethodName)) ∈ lw_all := lw_g (lw_at lw_m6 143 rfl) rfl
theorem q1398 : (Jvm.Cond.codeWith ({ cls := "GridMarketLaw", name := "left", desc := "(LGridMarket;I[J)I" } : Jvm.MethodName) method_24_code (4 : Nat) (Option.some Jvm.ClassFile.FieldType.int) [((0 : Nat), (9 : Nat), (12 : Nat), (13 : Nat))]) ∈ lw_all := lw_g (lw_at lw_m6 144 rfl) rfl
theorem q1399 : (Jvm.Cond.methodLink "GridMarketLaw" (86 : Nat) ({ cls := "GridMarket", name := "left", desc := "(I)I" } : Jvm.MethodName)) ∈ lw_all := lw_g (lw_at lw_m6 145 rfl) rfl
theorem q1403 : (Jvm.Cond.methodLink "GridMarketLaw" (201 : Nat) ({ cls := "GridMarketLaw", name := "plan", desc := "(LGridMarket;IIII[J)I" } : Jvm.MethodName)) ∈ lw_all := lw_g (lw_at lw_m6 149 rfl) rfl
theorem q1404 : (Jvm.Cond.static ({ cls := "GridMarketLaw", name := "plan", desc := "(LGridMarket;IIII[J)I" } : Jvm.MethodName)) ∈ lw_all := lw_g (lw_at lw_m6 150 rfl) rfl
theorem q1405 : (Jvm.Cond.codeWith ({ cls := "GridMarketLaw", name := "plan", desc := "(LGridMarket;IIII[J)I" } : Jvm.MethodName) method_25_code (7 : Nat) (Option.some Jvm.ClassFile.FieldType.int) [((0 : Nat), (14 : Nat), (17 : Nat), (13 : Nat))]) ∈ lw_all := lw_g (lw_at lw_m6 151 rfl) rfl
theorem q1406 : (Jvm.Cond.methodLink "GridMarketLaw" (89 : Nat) ({ cls := "GridMarket", name := "plan", desc := "(IIII)I" } : Jvm.MethodName)) ∈ lw_all := lw_g (lw_at lw_m6 152 rfl) rfl
theorem q1411 : (Jvm.Cond.methodLink "GridMarketLaw" (205 : Nat) ({ cls := "GridMarketLaw", name := "gap", desc := "(LGridMarket;II[J)I" } : Jvm.MethodName)) ∈ lw_all := lw_g (lw_at lw_m6 157 rfl) rfl
theorem q1412 : (Jvm.Cond.static ({ cls := "GridMarketLaw", name := "gap", desc := "(LGridMarket;II[J)I" } : Jvm.MethodName)) ∈ lw_all := lw_g (lw_at lw_m6 158 rfl) rfl
theorem q1413 : (Jvm.Cond.codeWith ({ cls := "GridMarketLaw", name := "gap", desc := "(LGridMarket;II[J)I" } : Jvm.MethodName) method_26_code (5 : Nat) (Option.some Jvm.ClassFile.FieldType.int) [((0 : Nat), (10 : Nat), (13 : Nat), (13 : Nat))]) ∈ lw_all := lw_g (lw_at lw_m6 159 rfl) rfl
theorem q1414 : (Jvm.Cond.methodLink "GridMarketLaw" (93 : Nat) ({ cls := "GridMarket", name := "gap", desc := "(II)I" } : Jvm.MethodName)) ∈ lw_all := lw_g (lw_at lw_m6 160 rfl) rfl
theorem q1418 : (Jvm.Cond.methodLink "GridMarketLaw" (208 : Nat) ({ cls := "GridMarketLaw", name := "gapPrice", desc := "(LGridMarket;II[J)I" } : Jvm.MethodName)) ∈ lw_all := lw_g (lw_at lw_m6 164 rfl) rfl
theorem q1419 : (Jvm.Cond.static ({ cls := "GridMarketLaw", name := "gapPrice", desc := "(LGridMarket;II[J)I" } : Jvm.MethodName)) ∈ lw_all := lw_g (lw_at lw_m6 165 rfl) rfl
theorem q1420 : (Jvm.Cond.codeWith ({ cls := "GridMarketLaw", name := "gapPrice", desc := "(LGridMarket;II[J)I" } : Jvm.MethodName) method_27_code (5 : Nat) (Option.some Jvm.ClassFile.FieldType.int) [((0 : Nat), (10 : Nat), (13 : Nat), (13 : Nat))]) ∈ lw_all := lw_g (lw_at lw_m6 166 rfl) rfl
theorem q1421 : (Jvm.Cond.methodLink "GridMarketLaw" (96 : Nat) ({ cls := "GridMarket", name := "gapPrice", desc := "(II)I" } : Jvm.MethodName)) ∈ lw_all := lw_g (lw_at lw_m6 167 rfl) rfl
theorem q1425 : (Jvm.Cond.methodLink "GridMarketLaw" (211 : Nat) ({ cls := "GridMarketLaw", name := "bill", desc := "(LGridMarket;II[J)I" } : Jvm.MethodName)) ∈ lw_all := lw_g (lw_at lw_m6 171 rfl) rfl
theorem q1426 : (Jvm.Cond.static ({ cls := "GridMarketLaw", name := "bill", desc := "(LGridMarket;II[J)I" } : Jvm.MethodName)) ∈ lw_all := lw_g (lw_at lw_m6 172 rfl) rfl
theorem q1427 : (Jvm.Cond.codeWith ({ cls := "GridMarketLaw", name := "bill", desc := "(LGridMarket;II[J)I" } : Jvm.MethodName) method_28_code (5 : Nat) (Option.some Jvm.ClassFile.FieldType.int) [((0 : Nat), (10 : Nat), (13 : Nat), (13 : Nat))]) ∈ lw_all := lw_g (lw_at lw_m6 173 rfl) rfl
theorem q1428 : (Jvm.Cond.methodLink "GridMarketLaw" (99 : Nat) ({ cls := "GridMarket", name := "bill", desc := "(II)I" } : Jvm.MethodName)) ∈ lw_all := lw_g (lw_at lw_m6 174 rfl) rfl
theorem q1432 : (Jvm.Cond.methodLink "GridMarketLaw" (214 : Nat) ({ cls := "GridMarketLaw", name := "settled", desc := "(LGridMarket;II[J)I" } : Jvm.MethodName)) ∈ lw_all := lw_g (lw_at lw_m6 178 rfl) rfl
theorem q1433 : (Jvm.Cond.static ({ cls := "GridMarketLaw", name := "settled", desc := "(LGridMarket;II[J)I" } : Jvm.MethodName)) ∈ lw_all := lw_g (lw_at lw_m6 179 rfl) rfl
theorem q1434 : (Jvm.Cond.codeWith ({ cls := "GridMarketLaw", name := "settled", desc := "(LGridMarket;II[J)I" } : Jvm.MethodName) method_29_code (5 : Nat) (Option.some Jvm.ClassFile.FieldType.int) [((0 : Nat), (10 : Nat), (13 : Nat), (13 : Nat))]) ∈ lw_all := lw_g (lw_at lw_m6 180 rfl) rfl
theorem q1435 : (Jvm.Cond.methodLink "GridMarketLaw" (102 : Nat) ({ cls := "GridMarket", name := "settled", desc := "(II)I" } : Jvm.MethodName)) ∈ lw_all := lw_g (lw_at lw_m6 181 rfl) rfl
theorem q1439 : (Jvm.Cond.methodLink "GridMarketLaw" (217 : Nat) ({ cls := "GridMarketLaw", name := "account", desc := "(LGridMarket;I[J)I" } : Jvm.MethodName)) ∈ lw_all := lw_g (lw_at lw_m6 185 rfl) rfl
theorem q1440 : (Jvm.Cond.static ({ cls := "GridMarketLaw", name := "account", desc := "(LGridMarket;I[J)I" } : Jvm.MethodName)) ∈ lw_all := lw_g (lw_at lw_m6 186 rfl) rfl
theorem q1441 : (Jvm.Cond.codeWith ({ cls := "GridMarketLaw", name := "account", desc := "(LGridMarket;I[J)I" } : Jvm.MethodName) method_30_code (4 : Nat) (Option.some Jvm.ClassFile.FieldType.int) [((0 : Nat), (9 : Nat), (12 : Nat), (13 : Nat))]) ∈ lw_all := lw_g (lw_at lw_m6 187 rfl) rfl
theorem q1442 : (Jvm.Cond.methodLink "GridMarketLaw" (105 : Nat) ({ cls := "GridMarket", name := "account", desc := "(I)I" } : Jvm.MethodName)) ∈ lw_all := lw_g (lw_at lw_m6 188 rfl) rfl
theorem q1446 : (Jvm.Cond.methodLink "GridMarketLaw" (220 : Nat) ({ cls := "GridMarketLaw", name := "hasFailed", desc := "(LGridMarket;I[J)I" } : Jvm.MethodName)) ∈ lw_all := lw_g (lw_at lw_m6 192 rfl) rfl
theorem q1447 : (Jvm.Cond.static ({ cls := "GridMarketLaw", name := "hasFailed", desc := "(LGridMarket;I[J)I" } : Jvm.MethodName)) ∈ lw_all := lw_g (lw_at lw_m6 193 rfl) rfl
theorem q1448 : (Jvm.Cond.codeWith ({ cls := "GridMarketLaw", name := "hasFailed", desc := "(LGridMarket;I[J)I" } : Jvm.MethodName) method_31_code (4 : Nat) (Option.some Jvm.ClassFile.FieldType.int) [((0 : Nat), (16 : Nat), (19 : Nat), (13 : Nat))]) ∈ lw_all := lw_g (lw_at lw_m6 194 rfl) rfl
theorem q1449 : (Jvm.Cond.methodLink "GridMarketLaw" (108 : Nat) ({ cls := "GridMarket", name := "hasFailed", desc := "(I)Z" } : Jvm.MethodName)) ∈ lw_all := lw_g (lw_at lw_m6 195 rfl) rfl
theorem q1453 : (Jvm.Cond.classLink "GridMarketLaw" (112 : Nat) "GridMarketModel") ∈ lw_all := lw_g (lw_at lw_m6 199 rfl) rfl
theorem q1455 : (Jvm.Cond.methodLink "GridMarketLaw" (114 : Nat) ({ cls := "GridMarketModel", name := "<init>", desc := "()V" } : Jvm.MethodName)) ∈ lw_all := lw_g (lw_at lw_m6 201 rfl) rfl
theorem q1664 : (Jvm.Cond.methodLink "GridMarketLaw" (121 : Nat) ({ cls := "GridMarketModel", name := "thrown", desc := "()I" } : Jvm.MethodName)) ∈ lw_all := lw_g (lw_at lw_m7 170 rfl) rfl
theorem q1668 : (Jvm.Cond.methodLink "GridMarketLaw" (120 : Nat) ({ cls := "GridMarketModel", name := "deposit", desc := "(II)I" } : Jvm.MethodName)) ∈ lw_all := lw_g (lw_at lw_m7 174 rfl) rfl
theorem q1680 : (Jvm.Cond.methodLink "GridMarketLaw" (126 : Nat) ({ cls := "GridMarketModel", name := "setLimit", desc := "(II)I" } : Jvm.MethodName)) ∈ lw_all := lw_g (lw_at lw_m7 186 rfl) rfl
theorem q1684 : (Jvm.Cond.methodLink "GridMarketLaw" (130 : Nat) ({ cls := "GridMarketModel", name := "bid", desc := "(IIIZII)I" } : Jvm.MethodName)) ∈ lw_all := lw_g (lw_at lw_m7 190 rfl) rfl
theorem q1694 : (Jvm.Cond.methodLink "GridMarketLaw" (133 : Nat) ({ cls := "GridMarketModel", name := "block", desc := "(IIIZII)I" } : Jvm.MethodName)) ∈ lw_all := lw_g (lw_at lw_m7 200 rfl) rfl
theorem q1698 : (Jvm.Cond.methodLink "GridMarketLaw" (137 : Nat) ({ cls := "GridMarketModel", name := "link", desc := "(III)V" } : Jvm.MethodName)) ∈ lw_all := lw_g (lw_at lw_m7 204 rfl) rfl
theorem q1702 : (Jvm.Cond.methodLink "GridMarketLaw" (141 : Nat) ({ cls := "GridMarketModel", name := "ask", desc := "(IIIII)I" } : Jvm.MethodName)) ∈ lw_all := lw_g (lw_at lw_m7 208 rfl) rfl
theorem q1706 : (Jvm.Cond.methodLink "GridMarketLaw" (145 : Nat) ({ cls := "GridMarketModel", name := "clear", desc := "()I" } : Jvm.MethodName)) ∈ lw_all := lw_g (lw_at lw_m7 212 rfl) rfl
theorem q1789 : (Jvm.Cond.methodLink "GridMarketLaw" (148 : Nat) ({ cls := "GridMarketModel", name := "offer", desc := "(IIIZII)I" } : Jvm.MethodName)) ∈ lw_all := lw_g (lw_at lw_m8 55 rfl) rfl
theorem q1805 : (Jvm.Cond.methodLink "GridMarketLaw" (152 : Nat) ({ cls := "GridMarketModel", name := "takeBack", desc := "(I)I" } : Jvm.MethodName)) ∈ lw_all := lw_g (lw_at lw_m8 71 rfl) rfl
theorem q1809 : (Jvm.Cond.methodLink "GridMarketLaw" (156 : Nat) ({ cls := "GridMarketModel", name := "aid", desc := "(IIZII)I" } : Jvm.MethodName)) ∈ lw_all := lw_g (lw_at lw_m8 75 rfl) rfl
theorem q1813 : (Jvm.Cond.methodLink "GridMarketLaw" (159 : Nat) ({ cls := "GridMarketModel", name := "close", desc := "()I" } : Jvm.MethodName)) ∈ lw_all := lw_g (lw_at lw_m8 79 rfl) rfl
theorem q1817 : (Jvm.Cond.methodLink "GridMarketLaw" (162 : Nat) ({ cls := "GridMarketModel", name := "read", desc := "(IIIII)I" } : Jvm.MethodName)) ∈ lw_all := lw_g (lw_at lw_m8 83 rfl) rfl
theorem q1832 : (Jvm.Cond.methodLink "GridMarketLaw" (165 : Nat) ({ cls := "GridMarketModel", name := "run", desc := "(I)I" } : Jvm.MethodName)) ∈ lw_all := lw_g (lw_at lw_m8 98 rfl) rfl
theorem q1866 : (Jvm.Cond.methodLink "GridMarketLaw" (169 : Nat) ({ cls := "GridMarketModel", name := "day", desc := "()I" } : Jvm.MethodName)) ∈ lw_all := lw_g (lw_at lw_m8 132 rfl) rfl
theorem q1870 : (Jvm.Cond.methodLink "GridMarketLaw" (173 : Nat) ({ cls := "GridMarketModel", name := "phase", desc := "()I" } : Jvm.MethodName)) ∈ lw_all := lw_g (lw_at lw_m8 136 rfl) rfl
theorem q1874 : (Jvm.Cond.methodLink "GridMarketLaw" (176 : Nat) ({ cls := "GridMarketModel", name := "price", desc := "(II)I" } : Jvm.MethodName)) ∈ lw_all := lw_g (lw_at lw_m8 140 rfl) rfl
theorem q1882 : (Jvm.Cond.methodLink "GridMarketLaw" (179 : Nat) ({ cls := "GridMarketModel", name := "net", desc := "(II)I" } : Jvm.MethodName)) ∈ lw_all := lw_g (lw_at lw_m8 148 rfl) rfl
theorem q1886 : (Jvm.Cond.methodLink "GridMarketLaw" (182 : Nat) ({ cls := "GridMarketModel", name := "flow", desc := "(II)I" } : Jvm.MethodName)) ∈ lw_all := lw_g (lw_at lw_m8 152 rfl) rfl
theorem q1890 : (Jvm.Cond.methodLink "GridMarketLaw" (185 : Nat) ({ cls := "GridMarketModel", name := "taken", desc := "(I)I" } : Jvm.MethodName)) ∈ lw_all := lw_g (lw_at lw_m8 156 rfl) rfl
theorem q1894 : (Jvm.Cond.methodLink "GridMarketLaw" (188 : Nat) ({ cls := "GridMarketModel", name := "isTaken", desc := "(I)Z" } : Jvm.MethodName)) ∈ lw_all := lw_g (lw_at lw_m8 160 rfl) rfl
theorem q1898 : (Jvm.Cond.methodLink "GridMarketLaw" (191 : Nat) ({ cls := "GridMarketModel", name := "gain", desc := "(I)I" } : Jvm.MethodName)) ∈ lw_all := lw_g (lw_at lw_m8 164 rfl) rfl
theorem q1902 : (Jvm.Cond.methodLink "GridMarketLaw" (194 : Nat) ({ cls := "GridMarketModel", name := "worthAnew", desc := "()I" } : Jvm.MethodName)) ∈ lw_all := lw_g (lw_at lw_m8 168 rfl) rfl
theorem q1906 : (Jvm.Cond.methodLink "GridMarketLaw" (197 : Nat) ({ cls := "GridMarketModel", name := "given", desc := "(I)I" } : Jvm.MethodName)) ∈ lw_all := lw_g (lw_at lw_m8 172 rfl) rfl
theorem q1910 : (Jvm.Cond.methodLink "GridMarketLaw" (200 : Nat) ({ cls := "GridMarketModel", name := "left", desc := "(I)I" } : Jvm.MethodName)) ∈ lw_all := lw_g (lw_at lw_m8 176 rfl) rfl
theorem q1914 : (Jvm.Cond.methodLink "GridMarketLaw" (204 : Nat) ({ cls := "GridMarketModel", name := "plan", desc := "(IIII)I" } : Jvm.MethodName)) ∈ lw_all := lw_g (lw_at lw_m8 180 rfl) rfl
theorem q1918 : (Jvm.Cond.methodLink "GridMarketLaw" (207 : Nat) ({ cls := "GridMarketModel", name := "gap", desc := "(II)I" } : Jvm.MethodName)) ∈ lw_all := lw_g (lw_at lw_m8 184 rfl) rfl
theorem q1922 : (Jvm.Cond.methodLink "GridMarketLaw" (210 : Nat) ({ cls := "GridMarketModel", name := "gapPrice", desc := "(II)I" } : Jvm.MethodName)) ∈ lw_all := lw_g (lw_at lw_m8 188 rfl) rfl
theorem q1926 : (Jvm.Cond.methodLink "GridMarketLaw" (213 : Nat) ({ cls := "GridMarketModel", name := "bill", desc := "(II)I" } : Jvm.MethodName)) ∈ lw_all := lw_g (lw_at lw_m8 192 rfl) rfl
theorem q1934 : (Jvm.Cond.methodLink "GridMarketLaw" (216 : Nat) ({ cls := "GridMarketModel", name := "settled", desc := "(II)I" } : Jvm.MethodName)) ∈ lw_all := lw_g (lw_at lw_m8 200 rfl) rfl
theorem q1938 : (Jvm.Cond.methodLink "GridMarketLaw" (219 : Nat) ({ cls := "GridMarketModel", name := "account", desc := "(I)I" } : Jvm.MethodName)) ∈ lw_all := lw_g (lw_at lw_m8 204 rfl) rfl
theorem q1942 : (Jvm.Cond.methodLink "GridMarketLaw" (222 : Nat) ({ cls := "GridMarketModel", name := "hasFailed", desc := "(I)Z" } : Jvm.MethodName)) ∈ lw_all := lw_g (lw_at lw_m8 208 rfl) rfl
theorem q1946 : (Jvm.Cond.methodLink "GridMarketLaw" (226 : Nat) ({ cls := "GridMarketModel", name := "house", desc := "()I" } : Jvm.MethodName)) ∈ lw_all := lw_g (lw_at lw_m8 212 rfl) rfl
/-! the law's own entry -/
set_option maxRecDepth 100000
abbrev cL_law : ByteArray := code
def dkwL_law_97 : List UInt8 := [172]
abbrev dktL_law_97 : List UInt8 := dkwL_law_97 ++ []
def dkwL_law_96 : List UInt8 := [172, 167, 0, 16, 43, 182, 0, 223, 44, 182, 0, 226, 159, 0, 5, 3, 172, 132, 4, 7, 167, 246, 213, 4]
abbrev dktL_law_96 : List UInt8 := dkwL_law_96 ++ dktL_law_97
def dkwL_law_95 : List UInt8 := [172, 21, 5, 154, 0, 22, 45, 3, 47, 21, 6, 153, 0, 7, 10, 167, 0, 4, 9, 148, 153, 0, 5, 3]
abbrev dktL_law_95 : List UInt8 := dkwL_law_95 ++ dktL_law_96
def dkwL_law_94 : List UInt8 := [54, 5, 44, 42, 21, 4, 4, 96, 46, 182, 0, 222, 54, 6, 44, 182, 0, 121, 21, 5, 159, 0, 5, 3]
abbrev dktL_law_94 : List UInt8 := dkwL_law_94 ++ dktL_law_95
def dkwL_law_93 : List UInt8 := [21, 6, 133, 148, 153, 0, 5, 3, 172, 167, 0, 79, 43, 42, 21, 4, 4, 96, 46, 45, 184, 0, 220]
abbrev dktL_law_93 : List UInt8 := dkwL_law_93 ++ dktL_law_94
def dkwL_law_92 : List UInt8 := [182, 0, 219, 54, 6, 44, 182, 0, 121, 21, 5, 159, 0, 5, 3, 172, 21, 5, 154, 0, 15, 45, 3, 47]
abbrev dktL_law_92 : List UInt8 := dkwL_law_92 ++ dktL_law_93
def dkwL_law_91 : List UInt8 := [167, 0, 135, 43, 42, 21, 4, 4, 96, 46, 45, 184, 0, 217, 54, 5, 44, 42, 21, 4, 4, 96, 46]
abbrev dktL_law_91 : List UInt8 := dkwL_law_91 ++ dktL_law_92
def dkwL_law_90 : List UInt8 := [159, 0, 5, 3, 172, 21, 5, 154, 0, 15, 45, 3, 47, 21, 6, 133, 148, 153, 0, 5, 3, 172]
abbrev dktL_law_90 : List UInt8 := dkwL_law_90 ++ dktL_law_91
def dkwL_law_89 : List UInt8 := [21, 4, 4, 96, 46, 42, 21, 4, 5, 96, 46, 182, 0, 216, 54, 6, 44, 182, 0, 121, 21, 5]
abbrev dktL_law_89 : List UInt8 := dkwL_law_89 ++ dktL_law_90
def dkwL_law_88 : List UInt8 := [167, 0, 203, 43, 42, 21, 4, 4, 96, 46, 42, 21, 4, 5, 96, 46, 45, 184, 0, 214, 54, 5, 44, 42]
abbrev dktL_law_88 : List UInt8 := dkwL_law_88 ++ dktL_law_89
def dkwL_law_87 : List UInt8 := [159, 0, 5, 3, 172, 21, 5, 154, 0, 15, 45, 3, 47, 21, 6, 133, 148, 153, 0, 5, 3, 172]
abbrev dktL_law_87 : List UInt8 := dkwL_law_87 ++ dktL_law_88
def dkwL_law_86 : List UInt8 := [21, 4, 4, 96, 46, 42, 21, 4, 5, 96, 46, 182, 0, 213, 54, 6, 44, 182, 0, 121, 21, 5]
abbrev dktL_law_86 : List UInt8 := dkwL_law_86 ++ dktL_law_87
def dkwL_law_85 : List UInt8 := [167, 1, 15, 43, 42, 21, 4, 4, 96, 46, 42, 21, 4, 5, 96, 46, 45, 184, 0, 211, 54, 5, 44, 42]
abbrev dktL_law_85 : List UInt8 := dkwL_law_85 ++ dktL_law_86
def dkwL_law_84 : List UInt8 := [159, 0, 5, 3, 172, 21, 5, 154, 0, 15, 45, 3, 47, 21, 6, 133, 148, 153, 0, 5, 3, 172]
abbrev dktL_law_84 : List UInt8 := dkwL_law_84 ++ dktL_law_85
def dkwL_law_83 : List UInt8 := [21, 4, 4, 96, 46, 42, 21, 4, 5, 96, 46, 182, 0, 210, 54, 6, 44, 182, 0, 121, 21, 5]
abbrev dktL_law_83 : List UInt8 := dkwL_law_83 ++ dktL_law_84
def dkwL_law_82 : List UInt8 := [167, 1, 83, 43, 42, 21, 4, 4, 96, 46, 42, 21, 4, 5, 96, 46, 45, 184, 0, 208, 54, 5, 44, 42]
abbrev dktL_law_82 : List UInt8 := dkwL_law_82 ++ dktL_law_83
def dkwL_law_81 : List UInt8 := [159, 0, 5, 3, 172, 21, 5, 154, 0, 15, 45, 3, 47, 21, 6, 133, 148, 153, 0, 5, 3, 172]
abbrev dktL_law_81 : List UInt8 := dkwL_law_81 ++ dktL_law_82
def dkwL_law_80 : List UInt8 := [21, 4, 4, 96, 46, 42, 21, 4, 5, 96, 46, 182, 0, 207, 54, 6, 44, 182, 0, 121, 21, 5]
abbrev dktL_law_80 : List UInt8 := dkwL_law_80 ++ dktL_law_81
def dkwL_law_79 : List UInt8 := [167, 1, 151, 43, 42, 21, 4, 4, 96, 46, 42, 21, 4, 5, 96, 46, 45, 184, 0, 205, 54, 5, 44, 42]
abbrev dktL_law_79 : List UInt8 := dkwL_law_79 ++ dktL_law_80
def dkwL_law_78 : List UInt8 := [159, 0, 5, 3, 172, 21, 5, 154, 0, 15, 45, 3, 47, 21, 6, 133, 148, 153, 0, 5, 3, 172]
abbrev dktL_law_78 : List UInt8 := dkwL_law_78 ++ dktL_law_79
def dkwL_law_77 : List UInt8 := [42, 21, 4, 6, 96, 46, 42, 21, 4, 7, 96, 46, 182, 0, 204, 54, 6, 44, 182, 0, 121, 21, 5]
abbrev dktL_law_77 : List UInt8 := dkwL_law_77 ++ dktL_law_78
def dkwL_law_76 : List UInt8 := [21, 4, 7, 96, 46, 45, 184, 0, 201, 54, 5, 44, 42, 21, 4, 4, 96, 46, 42, 21, 4, 5, 96, 46]
abbrev dktL_law_76 : List UInt8 := dkwL_law_76 ++ dktL_law_77
def dkwL_law_75 : List UInt8 := [167, 1, 243, 43, 42, 21, 4, 4, 96, 46, 42, 21, 4, 5, 96, 46, 42, 21, 4, 6, 96, 46, 42]
abbrev dktL_law_75 : List UInt8 := dkwL_law_75 ++ dktL_law_76
def dkwL_law_74 : List UInt8 := [21, 5, 159, 0, 5, 3, 172, 21, 5, 154, 0, 15, 45, 3, 47, 21, 6, 133, 148, 153, 0, 5, 3, 172]
abbrev dktL_law_74 : List UInt8 := dkwL_law_74 ++ dktL_law_75
def dkwL_law_73 : List UInt8 := [46, 45, 184, 0, 198, 54, 5, 44, 42, 21, 4, 4, 96, 46, 182, 0, 200, 54, 6, 44, 182, 0, 121]
abbrev dktL_law_73 : List UInt8 := dkwL_law_73 ++ dktL_law_74
def dkwL_law_72 : List UInt8 := [154, 0, 15, 45, 3, 47, 21, 6, 133, 148, 153, 0, 5, 3, 172, 167, 2, 43, 43, 42, 21, 4, 4, 96]
abbrev dktL_law_72 : List UInt8 := dkwL_law_72 ++ dktL_law_73
def dkwL_law_71 : List UInt8 := [21, 4, 4, 96, 46, 182, 0, 197, 54, 6, 44, 182, 0, 121, 21, 5, 159, 0, 5, 3, 172, 21, 5]
abbrev dktL_law_71 : List UInt8 := dkwL_law_71 ++ dktL_law_72
def dkwL_law_70 : List UInt8 := [148, 153, 0, 5, 3, 172, 167, 2, 99, 43, 42, 21, 4, 4, 96, 46, 45, 184, 0, 195, 54, 5, 44, 42]
abbrev dktL_law_70 : List UInt8 := dkwL_law_70 ++ dktL_law_71
def dkwL_law_69 : List UInt8 := [54, 6, 44, 182, 0, 121, 21, 5, 159, 0, 5, 3, 172, 21, 5, 154, 0, 15, 45, 3, 47, 21, 6, 133]
abbrev dktL_law_69 : List UInt8 := dkwL_law_69 ++ dktL_law_70
def dkwL_law_68 : List UInt8 := [21, 6, 133, 148, 153, 0, 5, 3, 172, 167, 2, 143, 43, 45, 184, 0, 192, 54, 5, 44, 182, 0, 194]
abbrev dktL_law_68 : List UInt8 := dkwL_law_68 ++ dktL_law_69
def dkwL_law_67 : List UInt8 := [182, 0, 191, 54, 6, 44, 182, 0, 121, 21, 5, 159, 0, 5, 3, 172, 21, 5, 154, 0, 15, 45, 3, 47]
abbrev dktL_law_67 : List UInt8 := dkwL_law_67 ++ dktL_law_68
def dkwL_law_66 : List UInt8 := [172, 167, 2, 199, 43, 42, 21, 4, 4, 96, 46, 45, 184, 0, 189, 54, 5, 44, 42, 21, 4, 4, 96, 46]
abbrev dktL_law_66 : List UInt8 := dkwL_law_66 ++ dktL_law_67
def dkwL_law_65 : List UInt8 := [172, 21, 5, 154, 0, 22, 45, 3, 47, 21, 6, 153, 0, 7, 10, 167, 0, 4, 9, 148, 153, 0, 5, 3]
abbrev dktL_law_65 : List UInt8 := dkwL_law_65 ++ dktL_law_66
def dkwL_law_64 : List UInt8 := [54, 5, 44, 42, 21, 4, 4, 96, 46, 182, 0, 188, 54, 6, 44, 182, 0, 121, 21, 5, 159, 0, 5, 3]
abbrev dktL_law_64 : List UInt8 := dkwL_law_64 ++ dktL_law_65
def dkwL_law_63 : List UInt8 := [21, 6, 133, 148, 153, 0, 5, 3, 172, 167, 3, 6, 43, 42, 21, 4, 4, 96, 46, 45, 184, 0, 186]
abbrev dktL_law_63 : List UInt8 := dkwL_law_63 ++ dktL_law_64
def dkwL_law_62 : List UInt8 := [182, 0, 185, 54, 6, 44, 182, 0, 121, 21, 5, 159, 0, 5, 3, 172, 21, 5, 154, 0, 15, 45, 3, 47]
abbrev dktL_law_62 : List UInt8 := dkwL_law_62 ++ dktL_law_63
def dkwL_law_61 : List UInt8 := [167, 3, 62, 43, 42, 21, 4, 4, 96, 46, 45, 184, 0, 183, 54, 5, 44, 42, 21, 4, 4, 96, 46]
abbrev dktL_law_61 : List UInt8 := dkwL_law_61 ++ dktL_law_62
def dkwL_law_60 : List UInt8 := [159, 0, 5, 3, 172, 21, 5, 154, 0, 15, 45, 3, 47, 21, 6, 133, 148, 153, 0, 5, 3, 172]
abbrev dktL_law_60 : List UInt8 := dkwL_law_60 ++ dktL_law_61
def dkwL_law_59 : List UInt8 := [21, 4, 4, 96, 46, 42, 21, 4, 5, 96, 46, 182, 0, 182, 54, 6, 44, 182, 0, 121, 21, 5]
abbrev dktL_law_59 : List UInt8 := dkwL_law_59 ++ dktL_law_60
def dkwL_law_58 : List UInt8 := [167, 3, 130, 43, 42, 21, 4, 4, 96, 46, 42, 21, 4, 5, 96, 46, 45, 184, 0, 180, 54, 5, 44, 42]
abbrev dktL_law_58 : List UInt8 := dkwL_law_58 ++ dktL_law_59
def dkwL_law_57 : List UInt8 := [159, 0, 5, 3, 172, 21, 5, 154, 0, 15, 45, 3, 47, 21, 6, 133, 148, 153, 0, 5, 3, 172]
abbrev dktL_law_57 : List UInt8 := dkwL_law_57 ++ dktL_law_58
def dkwL_law_56 : List UInt8 := [21, 4, 4, 96, 46, 42, 21, 4, 5, 96, 46, 182, 0, 179, 54, 6, 44, 182, 0, 121, 21, 5]
abbrev dktL_law_56 : List UInt8 := dkwL_law_56 ++ dktL_law_57
def dkwL_law_55 : List UInt8 := [167, 3, 198, 43, 42, 21, 4, 4, 96, 46, 42, 21, 4, 5, 96, 46, 45, 184, 0, 177, 54, 5, 44, 42]
abbrev dktL_law_55 : List UInt8 := dkwL_law_55 ++ dktL_law_56
def dkwL_law_54 : List UInt8 := [159, 0, 5, 3, 172, 21, 5, 154, 0, 15, 45, 3, 47, 21, 6, 133, 148, 153, 0, 5, 3, 172]
abbrev dktL_law_54 : List UInt8 := dkwL_law_54 ++ dktL_law_55
def dkwL_law_53 : List UInt8 := [44, 42, 21, 4, 4, 96, 46, 42, 21, 4, 5, 96, 46, 182, 0, 176, 54, 6, 44, 182, 0, 121, 21, 5]
abbrev dktL_law_53 : List UInt8 := dkwL_law_53 ++ dktL_law_54
def dkwL_law_52 : List UInt8 := [159, 4, 12, 3, 172, 43, 42, 21, 4, 4, 96, 46, 42, 21, 4, 5, 96, 46, 45, 184, 0, 174, 54, 5]
abbrev dktL_law_52 : List UInt8 := dkwL_law_52 ++ dktL_law_53
def dkwL_law_51 : List UInt8 := [167, 4, 36, 43, 182, 0, 166, 44, 182, 0, 169, 159, 4, 25, 3, 172, 43, 182, 0, 170, 44, 182, 0, 173]
abbrev dktL_law_51 : List UInt8 := dkwL_law_51 ++ dktL_law_52
def dkwL_law_50 : List UInt8 := [21, 5, 159, 0, 5, 3, 172, 21, 5, 154, 0, 15, 45, 3, 47, 21, 6, 133, 148, 153, 0, 5, 3, 172]
abbrev dktL_law_50 : List UInt8 := dkwL_law_50 ++ dktL_law_51
def dkwL_law_49 : List UInt8 := [46, 45, 184, 0, 163, 54, 5, 44, 42, 21, 4, 4, 96, 46, 182, 0, 165, 54, 6, 44, 182, 0, 121]
abbrev dktL_law_49 : List UInt8 := dkwL_law_49 ++ dktL_law_50
def dkwL_law_48 : List UInt8 := [154, 0, 15, 45, 3, 47, 21, 6, 133, 148, 153, 0, 5, 3, 172, 167, 4, 92, 43, 42, 21, 4, 4, 96]
abbrev dktL_law_48 : List UInt8 := dkwL_law_48 ++ dktL_law_49
def dkwL_law_47 : List UInt8 := [21, 4, 8, 96, 46, 182, 0, 162, 54, 6, 44, 182, 0, 121, 21, 5, 159, 0, 5, 3, 172, 21, 5]
abbrev dktL_law_47 : List UInt8 := dkwL_law_47 ++ dktL_law_48
def dkwL_law_46 : List UInt8 := [21, 4, 4, 96, 46, 42, 21, 4, 5, 96, 46, 42, 21, 4, 6, 96, 46, 42, 21, 4, 7, 96, 46, 42]
abbrev dktL_law_46 : List UInt8 := dkwL_law_46 ++ dktL_law_47
def dkwL_law_45 : List UInt8 := [6, 96, 46, 42, 21, 4, 7, 96, 46, 42, 21, 4, 8, 96, 46, 45, 184, 0, 160, 54, 5, 44, 42]
abbrev dktL_law_45 : List UInt8 := dkwL_law_45 ++ dktL_law_46
def dkwL_law_44 : List UInt8 := [153, 0, 5, 3, 172, 167, 4, 196, 43, 42, 21, 4, 4, 96, 46, 42, 21, 4, 5, 96, 46, 42, 21, 4]
abbrev dktL_law_44 : List UInt8 := dkwL_law_44 ++ dktL_law_45
def dkwL_law_43 : List UInt8 := [182, 0, 121, 21, 5, 159, 0, 5, 3, 172, 21, 5, 154, 0, 15, 45, 3, 47, 21, 6, 133, 148]
abbrev dktL_law_43 : List UInt8 := dkwL_law_43 ++ dktL_law_44
def dkwL_law_42 : List UInt8 := [153, 0, 5, 3, 172, 167, 4, 240, 43, 45, 184, 0, 157, 54, 5, 44, 182, 0, 159, 54, 6, 44]
abbrev dktL_law_42 : List UInt8 := dkwL_law_42 ++ dktL_law_43
def dkwL_law_41 : List UInt8 := [182, 0, 121, 21, 5, 159, 0, 5, 3, 172, 21, 5, 154, 0, 15, 45, 3, 47, 21, 6, 133, 148]
abbrev dktL_law_41 : List UInt8 := dkwL_law_41 ++ dktL_law_42
def dkwL_law_40 : List UInt8 := [4, 167, 0, 4, 3, 42, 21, 4, 7, 96, 46, 42, 21, 4, 8, 96, 46, 182, 0, 156, 54, 6, 44]
abbrev dktL_law_40 : List UInt8 := dkwL_law_40 ++ dktL_law_41
def dkwL_law_39 : List UInt8 := [54, 5, 44, 42, 21, 4, 4, 96, 46, 42, 21, 4, 5, 96, 46, 42, 21, 4, 6, 96, 46, 153, 0, 7]
abbrev dktL_law_39 : List UInt8 := dkwL_law_39 ++ dktL_law_40
def dkwL_law_38 : List UInt8 := [153, 0, 7, 4, 167, 0, 4, 3, 42, 21, 4, 7, 96, 46, 42, 21, 4, 8, 96, 46, 45, 184, 0, 153]
abbrev dktL_law_38 : List UInt8 := dkwL_law_38 ++ dktL_law_39
def dkwL_law_37 : List UInt8 := [167, 5, 104, 43, 42, 21, 4, 4, 96, 46, 42, 21, 4, 5, 96, 46, 42, 21, 4, 6, 96, 46]
abbrev dktL_law_37 : List UInt8 := dkwL_law_37 ++ dktL_law_38
def dkwL_law_36 : List UInt8 := [21, 5, 159, 0, 5, 3, 172, 21, 5, 154, 0, 15, 45, 3, 47, 21, 6, 133, 148, 153, 0, 5, 3, 172]
abbrev dktL_law_36 : List UInt8 := dkwL_law_36 ++ dktL_law_37
def dkwL_law_35 : List UInt8 := [46, 45, 184, 0, 149, 54, 5, 44, 42, 21, 4, 4, 96, 46, 182, 0, 152, 54, 6, 44, 182, 0, 121]
abbrev dktL_law_35 : List UInt8 := dkwL_law_35 ++ dktL_law_36
def dkwL_law_34 : List UInt8 := [154, 0, 15, 45, 3, 47, 21, 6, 133, 148, 153, 0, 5, 3, 172, 167, 5, 160, 43, 42, 21, 4, 4, 96]
abbrev dktL_law_34 : List UInt8 := dkwL_law_34 ++ dktL_law_35
def dkwL_law_33 : List UInt8 := [21, 4, 16, 6, 96, 46, 182, 0, 148, 54, 6, 44, 182, 0, 121, 21, 5, 159, 0, 5, 3, 172, 21, 5]
abbrev dktL_law_33 : List UInt8 := dkwL_law_33 ++ dktL_law_34
def dkwL_law_32 : List UInt8 := [6, 96, 46, 42, 21, 4, 7, 96, 46, 153, 0, 7, 4, 167, 0, 4, 3, 42, 21, 4, 8, 96, 46, 42]
abbrev dktL_law_32 : List UInt8 := dkwL_law_32 ++ dktL_law_33
def dkwL_law_31 : List UInt8 := [96, 46, 45, 184, 0, 146, 54, 5, 44, 42, 21, 4, 4, 96, 46, 42, 21, 4, 5, 96, 46, 42, 21, 4]
abbrev dktL_law_31 : List UInt8 := dkwL_law_31 ++ dktL_law_32
def dkwL_law_30 : List UInt8 := [21, 4, 7, 96, 46, 153, 0, 7, 4, 167, 0, 4, 3, 42, 21, 4, 8, 96, 46, 42, 21, 4, 16, 6]
abbrev dktL_law_30 : List UInt8 := dkwL_law_30 ++ dktL_law_31
def dkwL_law_29 : List UInt8 := [167, 6, 38, 43, 42, 21, 4, 4, 96, 46, 42, 21, 4, 5, 96, 46, 42, 21, 4, 6, 96, 46, 42]
abbrev dktL_law_29 : List UInt8 := dkwL_law_29 ++ dktL_law_30
def dkwL_law_28 : List UInt8 := [159, 0, 5, 3, 172, 21, 5, 154, 0, 15, 45, 3, 47, 21, 6, 133, 148, 153, 0, 5, 3, 172]
abbrev dktL_law_28 : List UInt8 := dkwL_law_28 ++ dktL_law_29
def dkwL_law_27 : List UInt8 := [167, 6, 82, 43, 45, 184, 0, 142, 54, 5, 44, 182, 0, 145, 54, 6, 44, 182, 0, 121, 21, 5]
abbrev dktL_law_27 : List UInt8 := dkwL_law_27 ++ dktL_law_28
def dkwL_law_26 : List UInt8 := [159, 0, 5, 3, 172, 21, 5, 154, 0, 15, 45, 3, 47, 21, 6, 133, 148, 153, 0, 5, 3, 172]
abbrev dktL_law_26 : List UInt8 := dkwL_law_26 ++ dktL_law_27
def dkwL_law_25 : List UInt8 := [46, 42, 21, 4, 7, 96, 46, 42, 21, 4, 8, 96, 46, 182, 0, 141, 54, 6, 44, 182, 0, 121, 21, 5]
abbrev dktL_law_25 : List UInt8 := dkwL_law_25 ++ dktL_law_26
def dkwL_law_24 : List UInt8 := [45, 184, 0, 138, 54, 5, 44, 42, 21, 4, 4, 96, 46, 42, 21, 4, 5, 96, 46, 42, 21, 4, 6, 96]
abbrev dktL_law_24 : List UInt8 := dkwL_law_24 ++ dktL_law_25
def dkwL_law_23 : List UInt8 := [42, 21, 4, 5, 96, 46, 42, 21, 4, 6, 96, 46, 42, 21, 4, 7, 96, 46, 42, 21, 4, 8, 96, 46]
abbrev dktL_law_23 : List UInt8 := dkwL_law_23 ++ dktL_law_24
def dkwL_law_22 : List UInt8 := [182, 0, 137, 44, 182, 0, 121, 21, 5, 159, 0, 5, 3, 172, 167, 6, 186, 43, 42, 21, 4, 4, 96, 46]
abbrev dktL_law_22 : List UInt8 := dkwL_law_22 ++ dktL_law_23
def dkwL_law_21 : List UInt8 := [184, 0, 134, 54, 5, 44, 42, 21, 4, 4, 96, 46, 42, 21, 4, 5, 96, 46, 42, 21, 4, 6, 96, 46]
abbrev dktL_law_21 : List UInt8 := dkwL_law_21 ++ dktL_law_22
def dkwL_law_20 : List UInt8 := [167, 6, 246, 43, 42, 21, 4, 4, 96, 46, 42, 21, 4, 5, 96, 46, 42, 21, 4, 6, 96, 46]
abbrev dktL_law_20 : List UInt8 := dkwL_law_20 ++ dktL_law_21
def dkwL_law_19 : List UInt8 := [159, 0, 5, 3, 172, 21, 5, 154, 0, 15, 45, 3, 47, 21, 6, 133, 148, 153, 0, 5, 3, 172]
abbrev dktL_law_19 : List UInt8 := dkwL_law_19 ++ dktL_law_20
def dkwL_law_18 : List UInt8 := [21, 4, 8, 96, 46, 42, 21, 4, 16, 6, 96, 46, 182, 0, 133, 54, 6, 44, 182, 0, 121, 21, 5]
abbrev dktL_law_18 : List UInt8 := dkwL_law_18 ++ dktL_law_19
def dkwL_law_17 : List UInt8 := [5, 96, 46, 42, 21, 4, 6, 96, 46, 42, 21, 4, 7, 96, 46, 153, 0, 7, 4, 167, 0, 4, 3, 42]
abbrev dktL_law_17 : List UInt8 := dkwL_law_17 ++ dktL_law_18
def dkwL_law_16 : List UInt8 := [46, 42, 21, 4, 16, 6, 96, 46, 45, 184, 0, 131, 54, 5, 44, 42, 21, 4, 4, 96, 46, 42, 21, 4]
abbrev dktL_law_16 : List UInt8 := dkwL_law_16 ++ dktL_law_17
def dkwL_law_15 : List UInt8 := [21, 4, 6, 96, 46, 42, 21, 4, 7, 96, 46, 153, 0, 7, 4, 167, 0, 4, 3, 42, 21, 4, 8, 96]
abbrev dktL_law_15 : List UInt8 := dkwL_law_15 ++ dktL_law_16
def dkwL_law_14 : List UInt8 := [148, 153, 0, 5, 3, 172, 167, 7, 124, 43, 42, 21, 4, 4, 96, 46, 42, 21, 4, 5, 96, 46, 42]
abbrev dktL_law_14 : List UInt8 := dkwL_law_14 ++ dktL_law_15
def dkwL_law_13 : List UInt8 := [54, 6, 44, 182, 0, 121, 21, 5, 159, 0, 5, 3, 172, 21, 5, 154, 0, 15, 45, 3, 47, 21, 6, 133]
abbrev dktL_law_13 : List UInt8 := dkwL_law_13 ++ dktL_law_14
def dkwL_law_12 : List UInt8 := [153, 0, 7, 4, 167, 0, 4, 3, 42, 21, 4, 8, 96, 46, 42, 21, 4, 16, 6, 96, 46, 182, 0, 130]
abbrev dktL_law_12 : List UInt8 := dkwL_law_12 ++ dktL_law_13
def dkwL_law_11 : List UInt8 := [42, 21, 4, 4, 96, 46, 42, 21, 4, 5, 96, 46, 42, 21, 4, 6, 96, 46, 42, 21, 4, 7, 96, 46]
abbrev dktL_law_11 : List UInt8 := dkwL_law_11 ++ dktL_law_12
def dkwL_law_10 : List UInt8 := [167, 0, 4, 3, 42, 21, 4, 8, 96, 46, 42, 21, 4, 16, 6, 96, 46, 45, 184, 0, 127, 54, 5, 44]
abbrev dktL_law_10 : List UInt8 := dkwL_law_10 ++ dktL_law_11
def dkwL_law_9 : List UInt8 := [46, 42, 21, 4, 5, 96, 46, 42, 21, 4, 6, 96, 46, 42, 21, 4, 7, 96, 46, 153, 0, 7, 4]
abbrev dktL_law_9 : List UInt8 := dkwL_law_9 ++ dktL_law_10
def dkwL_law_8 : List UInt8 := [154, 0, 15, 45, 3, 47, 21, 6, 133, 148, 153, 0, 5, 3, 172, 167, 8, 2, 43, 42, 21, 4, 4, 96]
abbrev dktL_law_8 : List UInt8 := dkwL_law_8 ++ dktL_law_9
def dkwL_law_7 : List UInt8 := [21, 4, 5, 96, 46, 182, 0, 126, 54, 6, 44, 182, 0, 121, 21, 5, 159, 0, 5, 3, 172, 21, 5]
abbrev dktL_law_7 : List UInt8 := dkwL_law_7 ++ dktL_law_8
def dkwL_law_6 : List UInt8 := [4, 96, 46, 42, 21, 4, 5, 96, 46, 45, 184, 0, 124, 54, 5, 44, 42, 21, 4, 4, 96, 46, 42]
abbrev dktL_law_6 : List UInt8 := dkwL_law_6 ++ dktL_law_7
def dkwL_law_5 : List UInt8 := [21, 5, 154, 0, 15, 45, 3, 47, 21, 6, 133, 148, 153, 0, 5, 3, 172, 167, 8, 70, 43, 42, 21, 4]
abbrev dktL_law_5 : List UInt8 := dkwL_law_5 ++ dktL_law_6
def dkwL_law_4 : List UInt8 := [96, 46, 42, 21, 4, 5, 96, 46, 182, 0, 120, 54, 6, 44, 182, 0, 121, 21, 5, 159, 0, 5, 3, 172]
abbrev dktL_law_4 : List UInt8 := dkwL_law_4 ++ dktL_law_5
def dkwL_law_3 : List UInt8 := [43, 42, 21, 4, 4, 96, 46, 42, 21, 4, 5, 96, 46, 45, 184, 0, 115, 54, 5, 44, 42, 21, 4, 4]
abbrev dktL_law_3 : List UInt8 := dkwL_law_3 ++ dktL_law_4
def dkwL_law_2 : List UInt8 := [170, 0, 0, 0, 0, 0, 9, 23, 0, 0, 0, 0, 0, 0, 0, 31, 0, 0, 0, 144, 0, 0, 0, 212, 0, 0, 1, 24, 0, 0, 1, 158, 0, 0, 2, 36, 0, 0, 2, 96, 0, 0, 2, 200, 0, 0, 2, 244, 0, 0, 3, 122, 0, 0, 3, 178, 0, 0, 4, 42, 0, 0, 4, 86, 0, 0, 4, 190, 0, 0, 4, 246, 0, 0, 5, 3, 0, 0, 5, 16, 0, 0, 5, 84, 0, 0, 5, 152, 0, 0, 5, 220, 0, 0, 6, 20, 0, 0, 6, 83, 0, 0, 6, 139, 0, 0, 6, 183, 0, 0, 6, 239, 0, 0, 7, 39, 0, 0, 7, 131, 0, 0, 7, 199, 0, 0, 8, 11, 0, 0, 8, 79, 0, 0, 8, 147, 0, 0, 8, 203, 0, 0, 9, 10]
abbrev dktL_law_2 : List UInt8 := dkwL_law_2 ++ dktL_law_3
def dkwL_law_1 : List UInt8 := [21, 4, 42, 190, 16, 7, 100, 163, 9, 39, 42, 21, 4, 46, 16, 31, 126]
abbrev dktL_law_1 : List UInt8 := dkwL_law_1 ++ dktL_law_2
def dkwL_law_0 : List UInt8 := [187, 0, 8, 89, 183, 0, 111, 76, 187, 0, 112, 89, 183, 0, 114, 77, 4, 188, 11, 78, 3, 54, 4]
abbrev dktL_law_0 : List UInt8 := dkwL_law_0 ++ dktL_law_1
theorem dksL_law_0 : cL_law.data.toList.drop 0 = dktL_law_0 := by decide +kernel
theorem dksL_law_1 : cL_law.data.toList.drop 23 = dktL_law_1 := dk_seg dksL_law_0 23 rfl rfl
theorem dksL_law_2 : cL_law.data.toList.drop 40 = dktL_law_2 := dk_seg dksL_law_1 17 rfl rfl
theorem dksL_law_3 : cL_law.data.toList.drop 184 = dktL_law_3 := dk_seg dksL_law_2 144 rfl rfl
theorem dksL_law_4 : cL_law.data.toList.drop 208 = dktL_law_4 := dk_seg dksL_law_3 24 rfl rfl
theorem dksL_law_5 : cL_law.data.toList.drop 232 = dktL_law_5 := dk_seg dksL_law_4 24 rfl rfl
theorem dksL_law_6 : cL_law.data.toList.drop 256 = dktL_law_6 := dk_seg dksL_law_5 24 rfl rfl
theorem dksL_law_7 : cL_law.data.toList.drop 279 = dktL_law_7 := dk_seg dksL_law_6 23 rfl rfl
theorem dksL_law_8 : cL_law.data.toList.drop 302 = dktL_law_8 := dk_seg dksL_law_7 23 rfl rfl
theorem dksL_law_9 : cL_law.data.toList.drop 326 = dktL_law_9 := dk_seg dksL_law_8 24 rfl rfl
theorem dksL_law_10 : cL_law.data.toList.drop 349 = dktL_law_10 := dk_seg dksL_law_9 23 rfl rfl
theorem dksL_law_11 : cL_law.data.toList.drop 373 = dktL_law_11 := dk_seg dksL_law_10 24 rfl rfl
theorem dksL_law_12 : cL_law.data.toList.drop 397 = dktL_law_12 := dk_seg dksL_law_11 24 rfl rfl
theorem dksL_law_13 : cL_law.data.toList.drop 421 = dktL_law_13 := dk_seg dksL_law_12 24 rfl rfl
theorem dksL_law_14 : cL_law.data.toList.drop 445 = dktL_law_14 := dk_seg dksL_law_13 24 rfl rfl
theorem dksL_law_15 : cL_law.data.toList.drop 468 = dktL_law_15 := dk_seg dksL_law_14 23 rfl rfl
theorem dksL_law_16 : cL_law.data.toList.drop 492 = dktL_law_16 := dk_seg dksL_law_15 24 rfl rfl
theorem dksL_law_17 : cL_law.data.toList.drop 516 = dktL_law_17 := dk_seg dksL_law_16 24 rfl rfl
theorem dksL_law_18 : cL_law.data.toList.drop 540 = dktL_law_18 := dk_seg dksL_law_17 24 rfl rfl
theorem dksL_law_19 : cL_law.data.toList.drop 563 = dktL_law_19 := dk_seg dksL_law_18 23 rfl rfl
theorem dksL_law_20 : cL_law.data.toList.drop 585 = dktL_law_20 := dk_seg dksL_law_19 22 rfl rfl
theorem dksL_law_21 : cL_law.data.toList.drop 607 = dktL_law_21 := dk_seg dksL_law_20 22 rfl rfl
theorem dksL_law_22 : cL_law.data.toList.drop 631 = dktL_law_22 := dk_seg dksL_law_21 24 rfl rfl
theorem dksL_law_23 : cL_law.data.toList.drop 655 = dktL_law_23 := dk_seg dksL_law_22 24 rfl rfl
theorem dksL_law_24 : cL_law.data.toList.drop 679 = dktL_law_24 := dk_seg dksL_law_23 24 rfl rfl
theorem dksL_law_25 : cL_law.data.toList.drop 703 = dktL_law_25 := dk_seg dksL_law_24 24 rfl rfl
theorem dksL_law_26 : cL_law.data.toList.drop 727 = dktL_law_26 := dk_seg dksL_law_25 24 rfl rfl
theorem dksL_law_27 : cL_law.data.toList.drop 749 = dktL_law_27 := dk_seg dksL_law_26 22 rfl rfl
theorem dksL_law_28 : cL_law.data.toList.drop 771 = dktL_law_28 := dk_seg dksL_law_27 22 rfl rfl
theorem dksL_law_29 : cL_law.data.toList.drop 793 = dktL_law_29 := dk_seg dksL_law_28 22 rfl rfl
theorem dksL_law_30 : cL_law.data.toList.drop 816 = dktL_law_30 := dk_seg dksL_law_29 23 rfl rfl
theorem dksL_law_31 : cL_law.data.toList.drop 840 = dktL_law_31 := dk_seg dksL_law_30 24 rfl rfl
theorem dksL_law_32 : cL_law.data.toList.drop 864 = dktL_law_32 := dk_seg dksL_law_31 24 rfl rfl
theorem dksL_law_33 : cL_law.data.toList.drop 888 = dktL_law_33 := dk_seg dksL_law_32 24 rfl rfl
theorem dksL_law_34 : cL_law.data.toList.drop 912 = dktL_law_34 := dk_seg dksL_law_33 24 rfl rfl
theorem dksL_law_35 : cL_law.data.toList.drop 936 = dktL_law_35 := dk_seg dksL_law_34 24 rfl rfl
theorem dksL_law_36 : cL_law.data.toList.drop 959 = dktL_law_36 := dk_seg dksL_law_35 23 rfl rfl
theorem dksL_law_37 : cL_law.data.toList.drop 983 = dktL_law_37 := dk_seg dksL_law_36 24 rfl rfl
theorem dksL_law_38 : cL_law.data.toList.drop 1005 = dktL_law_38 := dk_seg dksL_law_37 22 rfl rfl
theorem dksL_law_39 : cL_law.data.toList.drop 1029 = dktL_law_39 := dk_seg dksL_law_38 24 rfl rfl
theorem dksL_law_40 : cL_law.data.toList.drop 1053 = dktL_law_40 := dk_seg dksL_law_39 24 rfl rfl
theorem dksL_law_41 : cL_law.data.toList.drop 1076 = dktL_law_41 := dk_seg dksL_law_40 23 rfl rfl
theorem dksL_law_42 : cL_law.data.toList.drop 1098 = dktL_law_42 := dk_seg dksL_law_41 22 rfl rfl
theorem dksL_law_43 : cL_law.data.toList.drop 1120 = dktL_law_43 := dk_seg dksL_law_42 22 rfl rfl
theorem dksL_law_44 : cL_law.data.toList.drop 1142 = dktL_law_44 := dk_seg dksL_law_43 22 rfl rfl
theorem dksL_law_45 : cL_law.data.toList.drop 1166 = dktL_law_45 := dk_seg dksL_law_44 24 rfl rfl
theorem dksL_law_46 : cL_law.data.toList.drop 1189 = dktL_law_46 := dk_seg dksL_law_45 23 rfl rfl
theorem dksL_law_47 : cL_law.data.toList.drop 1213 = dktL_law_47 := dk_seg dksL_law_46 24 rfl rfl
theorem dksL_law_48 : cL_law.data.toList.drop 1236 = dktL_law_48 := dk_seg dksL_law_47 23 rfl rfl
theorem dksL_law_49 : cL_law.data.toList.drop 1260 = dktL_law_49 := dk_seg dksL_law_48 24 rfl rfl
theorem dksL_law_50 : cL_law.data.toList.drop 1283 = dktL_law_50 := dk_seg dksL_law_49 23 rfl rfl
theorem dksL_law_51 : cL_law.data.toList.drop 1307 = dktL_law_51 := dk_seg dksL_law_50 24 rfl rfl
theorem dksL_law_52 : cL_law.data.toList.drop 1331 = dktL_law_52 := dk_seg dksL_law_51 24 rfl rfl
theorem dksL_law_53 : cL_law.data.toList.drop 1355 = dktL_law_53 := dk_seg dksL_law_52 24 rfl rfl
theorem dksL_law_54 : cL_law.data.toList.drop 1379 = dktL_law_54 := dk_seg dksL_law_53 24 rfl rfl
theorem dksL_law_55 : cL_law.data.toList.drop 1401 = dktL_law_55 := dk_seg dksL_law_54 22 rfl rfl
theorem dksL_law_56 : cL_law.data.toList.drop 1425 = dktL_law_56 := dk_seg dksL_law_55 24 rfl rfl
theorem dksL_law_57 : cL_law.data.toList.drop 1447 = dktL_law_57 := dk_seg dksL_law_56 22 rfl rfl
theorem dksL_law_58 : cL_law.data.toList.drop 1469 = dktL_law_58 := dk_seg dksL_law_57 22 rfl rfl
theorem dksL_law_59 : cL_law.data.toList.drop 1493 = dktL_law_59 := dk_seg dksL_law_58 24 rfl rfl
theorem dksL_law_60 : cL_law.data.toList.drop 1515 = dktL_law_60 := dk_seg dksL_law_59 22 rfl rfl
theorem dksL_law_61 : cL_law.data.toList.drop 1537 = dktL_law_61 := dk_seg dksL_law_60 22 rfl rfl
theorem dksL_law_62 : cL_law.data.toList.drop 1560 = dktL_law_62 := dk_seg dksL_law_61 23 rfl rfl
theorem dksL_law_63 : cL_law.data.toList.drop 1584 = dktL_law_63 := dk_seg dksL_law_62 24 rfl rfl
theorem dksL_law_64 : cL_law.data.toList.drop 1607 = dktL_law_64 := dk_seg dksL_law_63 23 rfl rfl
theorem dksL_law_65 : cL_law.data.toList.drop 1631 = dktL_law_65 := dk_seg dksL_law_64 24 rfl rfl
theorem dksL_law_66 : cL_law.data.toList.drop 1655 = dktL_law_66 := dk_seg dksL_law_65 24 rfl rfl
theorem dksL_law_67 : cL_law.data.toList.drop 1679 = dktL_law_67 := dk_seg dksL_law_66 24 rfl rfl
theorem dksL_law_68 : cL_law.data.toList.drop 1703 = dktL_law_68 := dk_seg dksL_law_67 24 rfl rfl
theorem dksL_law_69 : cL_law.data.toList.drop 1726 = dktL_law_69 := dk_seg dksL_law_68 23 rfl rfl
theorem dksL_law_70 : cL_law.data.toList.drop 1750 = dktL_law_70 := dk_seg dksL_law_69 24 rfl rfl
theorem dksL_law_71 : cL_law.data.toList.drop 1774 = dktL_law_71 := dk_seg dksL_law_70 24 rfl rfl
theorem dksL_law_72 : cL_law.data.toList.drop 1797 = dktL_law_72 := dk_seg dksL_law_71 23 rfl rfl
theorem dksL_law_73 : cL_law.data.toList.drop 1821 = dktL_law_73 := dk_seg dksL_law_72 24 rfl rfl
theorem dksL_law_74 : cL_law.data.toList.drop 1844 = dktL_law_74 := dk_seg dksL_law_73 23 rfl rfl
theorem dksL_law_75 : cL_law.data.toList.drop 1868 = dktL_law_75 := dk_seg dksL_law_74 24 rfl rfl
theorem dksL_law_76 : cL_law.data.toList.drop 1891 = dktL_law_76 := dk_seg dksL_law_75 23 rfl rfl
theorem dksL_law_77 : cL_law.data.toList.drop 1915 = dktL_law_77 := dk_seg dksL_law_76 24 rfl rfl
theorem dksL_law_78 : cL_law.data.toList.drop 1938 = dktL_law_78 := dk_seg dksL_law_77 23 rfl rfl
theorem dksL_law_79 : cL_law.data.toList.drop 1960 = dktL_law_79 := dk_seg dksL_law_78 22 rfl rfl
theorem dksL_law_80 : cL_law.data.toList.drop 1984 = dktL_law_80 := dk_seg dksL_law_79 24 rfl rfl
theorem dksL_law_81 : cL_law.data.toList.drop 2006 = dktL_law_81 := dk_seg dksL_law_80 22 rfl rfl
theorem dksL_law_82 : cL_law.data.toList.drop 2028 = dktL_law_82 := dk_seg dksL_law_81 22 rfl rfl
theorem dksL_law_83 : cL_law.data.toList.drop 2052 = dktL_law_83 := dk_seg dksL_law_82 24 rfl rfl
theorem dksL_law_84 : cL_law.data.toList.drop 2074 = dktL_law_84 := dk_seg dksL_law_83 22 rfl rfl
theorem dksL_law_85 : cL_law.data.toList.drop 2096 = dktL_law_85 := dk_seg dksL_law_84 22 rfl rfl
theorem dksL_law_86 : cL_law.data.toList.drop 2120 = dktL_law_86 := dk_seg dksL_law_85 24 rfl rfl
theorem dksL_law_87 : cL_law.data.toList.drop 2142 = dktL_law_87 := dk_seg dksL_law_86 22 rfl rfl
theorem dksL_law_88 : cL_law.data.toList.drop 2164 = dktL_law_88 := dk_seg dksL_law_87 22 rfl rfl
theorem dksL_law_89 : cL_law.data.toList.drop 2188 = dktL_law_89 := dk_seg dksL_law_88 24 rfl rfl
theorem dksL_law_90 : cL_law.data.toList.drop 2210 = dktL_law_90 := dk_seg dksL_law_89 22 rfl rfl
theorem dksL_law_91 : cL_law.data.toList.drop 2232 = dktL_law_91 := dk_seg dksL_law_90 22 rfl rfl
theorem dksL_law_92 : cL_law.data.toList.drop 2255 = dktL_law_92 := dk_seg dksL_law_91 23 rfl rfl
theorem dksL_law_93 : cL_law.data.toList.drop 2279 = dktL_law_93 := dk_seg dksL_law_92 24 rfl rfl
theorem dksL_law_94 : cL_law.data.toList.drop 2302 = dktL_law_94 := dk_seg dksL_law_93 23 rfl rfl
theorem dksL_law_95 : cL_law.data.toList.drop 2326 = dktL_law_95 := dk_seg dksL_law_94 24 rfl rfl
theorem dksL_law_96 : cL_law.data.toList.drop 2350 = dktL_law_96 := dk_seg dksL_law_95 24 rfl rfl
theorem dksL_law_97 : cL_law.data.toList.drop 2374 = dktL_law_97 := dk_seg dksL_law_96 24 rfl rfl
theorem dL_law_0 : decode cL_law 0 = .ok (.new 8, 3) := dk_187 0 8 (dk_at dksL_law_0 0 rfl rfl)
theorem dL_law_3 : decode cL_law 3 = .ok (.dup, 1) := dk_89 (dk_at dksL_law_0 3 rfl rfl)
theorem dL_law_4 : decode cL_law 4 = .ok (.invokespecial 111, 3) := dk_183 0 111 (dk_at dksL_law_0 4 rfl rfl)
theorem dL_law_7 : decode cL_law 7 = .ok (.astore_n 1, 1) := dk_76 (dk_at dksL_law_0 7 rfl rfl)
theorem dL_law_8 : decode cL_law 8 = .ok (.new 112, 3) := dk_187 0 112 (dk_at dksL_law_0 8 rfl rfl)
theorem dL_law_11 : decode cL_law 11 = .ok (.dup, 1) := dk_89 (dk_at dksL_law_0 11 rfl rfl)
theorem dL_law_12 : decode cL_law 12 = .ok (.invokespecial 114, 3) := dk_183 0 114 (dk_at dksL_law_0 12 rfl rfl)
theorem dL_law_15 : decode cL_law 15 = .ok (.astore_n 2, 1) := dk_77 (dk_at dksL_law_0 15 rfl rfl)
theorem dL_law_16 : decode cL_law 16 = .ok (.iconst 1, 1) := dk_4 (dk_at dksL_law_0 16 rfl rfl)
theorem dL_law_17 : decode cL_law 17 = .ok (.newarray .long, 2) := dk_188_11 (dk_at dksL_law_0 17 rfl rfl)
theorem dL_law_19 : decode cL_law 19 = .ok (.astore_n 3, 1) := dk_78 (dk_at dksL_law_0 19 rfl rfl)
theorem dL_law_20 : decode cL_law 20 = .ok (.iconst 0, 1) := dk_3 (dk_at dksL_law_0 20 rfl rfl)
theorem dL_law_21 : decode cL_law 21 = .ok (.istore 4, 2) := dk_54 4 (dk_at dksL_law_0 21 rfl rfl)
theorem dL_law_23 : decode cL_law 23 = .ok (.iload 4, 2) := dk_21 4 (dk_at dksL_law_1 0 rfl rfl)
theorem dL_law_25 : decode cL_law 25 = .ok (.aload_n 0, 1) := dk_42 (dk_at dksL_law_1 2 rfl rfl)
theorem dL_law_26 : decode cL_law 26 = .ok (.arraylength, 1) := dk_190 (dk_at dksL_law_1 3 rfl rfl)
theorem dL_law_27 : decode cL_law 27 = .ok (.bipush 7, 2) := dk_16 7 (dk_at dksL_law_1 4 rfl rfl)
theorem dL_law_29 : decode cL_law 29 = .ok (.isub, 1) := dk_100 (dk_at dksL_law_1 6 rfl rfl)
theorem dL_law_30 : decode cL_law 30 = .ok (.if_icmp .gt 2343, 3) := dk_163 9 39 (dk_at dksL_law_1 7 rfl rfl)
theorem dL_law_33 : decode cL_law 33 = .ok (.aload_n 0, 1) := dk_42 (dk_at dksL_law_1 10 rfl rfl)
theorem dL_law_34 : decode cL_law 34 = .ok (.iload 4, 2) := dk_21 4 (dk_at dksL_law_1 11 rfl rfl)
theorem dL_law_36 : decode cL_law 36 = .ok (.iaload, 1) := dk_46 (dk_at dksL_law_1 13 rfl rfl)
theorem dL_law_37 : decode cL_law 37 = .ok (.bipush 31, 2) := dk_16 31 (dk_at dksL_law_1 14 rfl rfl)
theorem dL_law_39 : decode cL_law 39 = .ok (.iand, 1) := dk_126 (dk_at dksL_law_1 16 rfl rfl)
theorem dL_law_40 : decode cL_law 40 = .ok (.tableswitch 2327 0 31 #[144, 212, 280, 414, 548, 608, 712, 756, 890, 946, 1066, 1110, 1214, 1270, 1283, 1296, 1364, 1432, 1500, 1556, 1619, 1675, 1719, 1775, 1831, 1923, 1991, 2059, 2127, 2195, 2251, 2314], 144) := by decide +kernel
theorem dL_law_184 : decode cL_law 184 = .ok (.aload_n 1, 1) := dk_43 (dk_at dksL_law_3 0 rfl rfl)
theorem dL_law_185 : decode cL_law 185 = .ok (.aload_n 0, 1) := dk_42 (dk_at dksL_law_3 1 rfl rfl)
theorem dL_law_186 : decode cL_law 186 = .ok (.iload 4, 2) := dk_21 4 (dk_at dksL_law_3 2 rfl rfl)
theorem dL_law_188 : decode cL_law 188 = .ok (.iconst 1, 1) := dk_4 (dk_at dksL_law_3 4 rfl rfl)
theorem dL_law_189 : decode cL_law 189 = .ok (.iadd, 1) := dk_96 (dk_at dksL_law_3 5 rfl rfl)
theorem dL_law_190 : decode cL_law 190 = .ok (.iaload, 1) := dk_46 (dk_at dksL_law_3 6 rfl rfl)
theorem dL_law_191 : decode cL_law 191 = .ok (.aload_n 0, 1) := dk_42 (dk_at dksL_law_3 7 rfl rfl)
theorem dL_law_192 : decode cL_law 192 = .ok (.iload 4, 2) := dk_21 4 (dk_at dksL_law_3 8 rfl rfl)
theorem dL_law_194 : decode cL_law 194 = .ok (.iconst 2, 1) := dk_5 (dk_at dksL_law_3 10 rfl rfl)
theorem dL_law_195 : decode cL_law 195 = .ok (.iadd, 1) := dk_96 (dk_at dksL_law_3 11 rfl rfl)
theorem dL_law_196 : decode cL_law 196 = .ok (.iaload, 1) := dk_46 (dk_at dksL_law_3 12 rfl rfl)
theorem dL_law_197 : decode cL_law 197 = .ok (.aload_n 3, 1) := dk_45 (dk_at dksL_law_3 13 rfl rfl)
theorem dL_law_198 : decode cL_law 198 = .ok (.invokestatic 115, 3) := dk_184 0 115 (dk_at dksL_law_3 14 rfl rfl)
theorem dL_law_201 : decode cL_law 201 = .ok (.istore 5, 2) := dk_54 5 (dk_at dksL_law_3 17 rfl rfl)
theorem dL_law_203 : decode cL_law 203 = .ok (.aload_n 2, 1) := dk_44 (dk_at dksL_law_3 19 rfl rfl)
theorem dL_law_204 : decode cL_law 204 = .ok (.aload_n 0, 1) := dk_42 (dk_at dksL_law_3 20 rfl rfl)
theorem dL_law_205 : decode cL_law 205 = .ok (.iload 4, 2) := dk_21 4 (dk_at dksL_law_3 21 rfl rfl)
theorem dL_law_207 : decode cL_law 207 = .ok (.iconst 1, 1) := dk_4 (dk_at dksL_law_3 23 rfl rfl)
theorem dL_law_208 : decode cL_law 208 = .ok (.iadd, 1) := dk_96 (dk_at dksL_law_4 0 rfl rfl)
theorem dL_law_209 : decode cL_law 209 = .ok (.iaload, 1) := dk_46 (dk_at dksL_law_4 1 rfl rfl)
theorem dL_law_210 : decode cL_law 210 = .ok (.aload_n 0, 1) := dk_42 (dk_at dksL_law_4 2 rfl rfl)
theorem dL_law_211 : decode cL_law 211 = .ok (.iload 4, 2) := dk_21 4 (dk_at dksL_law_4 3 rfl rfl)
theorem dL_law_213 : decode cL_law 213 = .ok (.iconst 2, 1) := dk_5 (dk_at dksL_law_4 5 rfl rfl)
theorem dL_law_214 : decode cL_law 214 = .ok (.iadd, 1) := dk_96 (dk_at dksL_law_4 6 rfl rfl)
theorem dL_law_215 : decode cL_law 215 = .ok (.iaload, 1) := dk_46 (dk_at dksL_law_4 7 rfl rfl)
theorem dL_law_216 : decode cL_law 216 = .ok (.invokevirtual 120, 3) := dk_182 0 120 (dk_at dksL_law_4 8 rfl rfl)
theorem dL_law_219 : decode cL_law 219 = .ok (.istore 6, 2) := dk_54 6 (dk_at dksL_law_4 11 rfl rfl)
theorem dL_law_221 : decode cL_law 221 = .ok (.aload_n 2, 1) := dk_44 (dk_at dksL_law_4 13 rfl rfl)
theorem dL_law_222 : decode cL_law 222 = .ok (.invokevirtual 121, 3) := dk_182 0 121 (dk_at dksL_law_4 14 rfl rfl)
theorem dL_law_225 : decode cL_law 225 = .ok (.iload 5, 2) := dk_21 5 (dk_at dksL_law_4 17 rfl rfl)
theorem dL_law_227 : decode cL_law 227 = .ok (.if_icmp .eq 5, 3) := dk_159 0 5 (dk_at dksL_law_4 19 rfl rfl)
theorem dL_law_230 : decode cL_law 230 = .ok (.iconst 0, 1) := dk_3 (dk_at dksL_law_4 22 rfl rfl)
theorem dL_law_231 : decode cL_law 231 = .ok (.ireturn, 1) := dk_172 (dk_at dksL_law_4 23 rfl rfl)
theorem dL_law_232 : decode cL_law 232 = .ok (.iload 5, 2) := dk_21 5 (dk_at dksL_law_5 0 rfl rfl)
theorem dL_law_234 : decode cL_law 234 = .ok (.ifCond .ne 15, 3) := dk_154 0 15 (dk_at dksL_law_5 2 rfl rfl)
theorem dL_law_237 : decode cL_law 237 = .ok (.aload_n 3, 1) := dk_45 (dk_at dksL_law_5 5 rfl rfl)
theorem dL_law_238 : decode cL_law 238 = .ok (.iconst 0, 1) := dk_3 (dk_at dksL_law_5 6 rfl rfl)
theorem dL_law_239 : decode cL_law 239 = .ok (.laload, 1) := dk_47 (dk_at dksL_law_5 7 rfl rfl)
theorem dL_law_240 : decode cL_law 240 = .ok (.iload 6, 2) := dk_21 6 (dk_at dksL_law_5 8 rfl rfl)
theorem dL_law_242 : decode cL_law 242 = .ok (.i2l, 1) := dk_133 (dk_at dksL_law_5 10 rfl rfl)
theorem dL_law_243 : decode cL_law 243 = .ok (.lcmp, 1) := dk_148 (dk_at dksL_law_5 11 rfl rfl)
theorem dL_law_244 : decode cL_law 244 = .ok (.ifCond .eq 5, 3) := dk_153 0 5 (dk_at dksL_law_5 12 rfl rfl)
theorem dL_law_247 : decode cL_law 247 = .ok (.iconst 0, 1) := dk_3 (dk_at dksL_law_5 15 rfl rfl)
theorem dL_law_248 : decode cL_law 248 = .ok (.ireturn, 1) := dk_172 (dk_at dksL_law_5 16 rfl rfl)
theorem dL_law_249 : decode cL_law 249 = .ok (.goto 2118, 3) := dk_167 8 70 (dk_at dksL_law_5 17 rfl rfl)
theorem dL_law_252 : decode cL_law 252 = .ok (.aload_n 1, 1) := dk_43 (dk_at dksL_law_5 20 rfl rfl)
theorem dL_law_253 : decode cL_law 253 = .ok (.aload_n 0, 1) := dk_42 (dk_at dksL_law_5 21 rfl rfl)
theorem dL_law_254 : decode cL_law 254 = .ok (.iload 4, 2) := dk_21 4 (dk_at dksL_law_5 22 rfl rfl)
theorem dL_law_256 : decode cL_law 256 = .ok (.iconst 1, 1) := dk_4 (dk_at dksL_law_6 0 rfl rfl)
theorem dL_law_257 : decode cL_law 257 = .ok (.iadd, 1) := dk_96 (dk_at dksL_law_6 1 rfl rfl)
theorem dL_law_258 : decode cL_law 258 = .ok (.iaload, 1) := dk_46 (dk_at dksL_law_6 2 rfl rfl)
theorem dL_law_259 : decode cL_law 259 = .ok (.aload_n 0, 1) := dk_42 (dk_at dksL_law_6 3 rfl rfl)
theorem dL_law_260 : decode cL_law 260 = .ok (.iload 4, 2) := dk_21 4 (dk_at dksL_law_6 4 rfl rfl)
theorem dL_law_262 : decode cL_law 262 = .ok (.iconst 2, 1) := dk_5 (dk_at dksL_law_6 6 rfl rfl)
theorem dL_law_263 : decode cL_law 263 = .ok (.iadd, 1) := dk_96 (dk_at dksL_law_6 7 rfl rfl)
theorem dL_law_264 : decode cL_law 264 = .ok (.iaload, 1) := dk_46 (dk_at dksL_law_6 8 rfl rfl)
theorem dL_law_265 : decode cL_law 265 = .ok (.aload_n 3, 1) := dk_45 (dk_at dksL_law_6 9 rfl rfl)
theorem dL_law_266 : decode cL_law 266 = .ok (.invokestatic 124, 3) := dk_184 0 124 (dk_at dksL_law_6 10 rfl rfl)
theorem dL_law_269 : decode cL_law 269 = .ok (.istore 5, 2) := dk_54 5 (dk_at dksL_law_6 13 rfl rfl)
theorem dL_law_271 : decode cL_law 271 = .ok (.aload_n 2, 1) := dk_44 (dk_at dksL_law_6 15 rfl rfl)
theorem dL_law_272 : decode cL_law 272 = .ok (.aload_n 0, 1) := dk_42 (dk_at dksL_law_6 16 rfl rfl)
theorem dL_law_273 : decode cL_law 273 = .ok (.iload 4, 2) := dk_21 4 (dk_at dksL_law_6 17 rfl rfl)
theorem dL_law_275 : decode cL_law 275 = .ok (.iconst 1, 1) := dk_4 (dk_at dksL_law_6 19 rfl rfl)
theorem dL_law_276 : decode cL_law 276 = .ok (.iadd, 1) := dk_96 (dk_at dksL_law_6 20 rfl rfl)
theorem dL_law_277 : decode cL_law 277 = .ok (.iaload, 1) := dk_46 (dk_at dksL_law_6 21 rfl rfl)
theorem dL_law_278 : decode cL_law 278 = .ok (.aload_n 0, 1) := dk_42 (dk_at dksL_law_6 22 rfl rfl)
theorem dL_law_279 : decode cL_law 279 = .ok (.iload 4, 2) := dk_21 4 (dk_at dksL_law_7 0 rfl rfl)
theorem dL_law_281 : decode cL_law 281 = .ok (.iconst 2, 1) := dk_5 (dk_at dksL_law_7 2 rfl rfl)
theorem dL_law_282 : decode cL_law 282 = .ok (.iadd, 1) := dk_96 (dk_at dksL_law_7 3 rfl rfl)
theorem dL_law_283 : decode cL_law 283 = .ok (.iaload, 1) := dk_46 (dk_at dksL_law_7 4 rfl rfl)
theorem dL_law_284 : decode cL_law 284 = .ok (.invokevirtual 126, 3) := dk_182 0 126 (dk_at dksL_law_7 5 rfl rfl)
theorem dL_law_287 : decode cL_law 287 = .ok (.istore 6, 2) := dk_54 6 (dk_at dksL_law_7 8 rfl rfl)
theorem dL_law_289 : decode cL_law 289 = .ok (.aload_n 2, 1) := dk_44 (dk_at dksL_law_7 10 rfl rfl)
theorem dL_law_290 : decode cL_law 290 = .ok (.invokevirtual 121, 3) := dk_182 0 121 (dk_at dksL_law_7 11 rfl rfl)
theorem dL_law_293 : decode cL_law 293 = .ok (.iload 5, 2) := dk_21 5 (dk_at dksL_law_7 14 rfl rfl)
theorem dL_law_295 : decode cL_law 295 = .ok (.if_icmp .eq 5, 3) := dk_159 0 5 (dk_at dksL_law_7 16 rfl rfl)
theorem dL_law_298 : decode cL_law 298 = .ok (.iconst 0, 1) := dk_3 (dk_at dksL_law_7 19 rfl rfl)
theorem dL_law_299 : decode cL_law 299 = .ok (.ireturn, 1) := dk_172 (dk_at dksL_law_7 20 rfl rfl)
theorem dL_law_300 : decode cL_law 300 = .ok (.iload 5, 2) := dk_21 5 (dk_at dksL_law_7 21 rfl rfl)
theorem dL_law_302 : decode cL_law 302 = .ok (.ifCond .ne 15, 3) := dk_154 0 15 (dk_at dksL_law_8 0 rfl rfl)
theorem dL_law_305 : decode cL_law 305 = .ok (.aload_n 3, 1) := dk_45 (dk_at dksL_law_8 3 rfl rfl)
theorem dL_law_306 : decode cL_law 306 = .ok (.iconst 0, 1) := dk_3 (dk_at dksL_law_8 4 rfl rfl)
theorem dL_law_307 : decode cL_law 307 = .ok (.laload, 1) := dk_47 (dk_at dksL_law_8 5 rfl rfl)
theorem dL_law_308 : decode cL_law 308 = .ok (.iload 6, 2) := dk_21 6 (dk_at dksL_law_8 6 rfl rfl)
theorem dL_law_310 : decode cL_law 310 = .ok (.i2l, 1) := dk_133 (dk_at dksL_law_8 8 rfl rfl)
theorem dL_law_311 : decode cL_law 311 = .ok (.lcmp, 1) := dk_148 (dk_at dksL_law_8 9 rfl rfl)
theorem dL_law_312 : decode cL_law 312 = .ok (.ifCond .eq 5, 3) := dk_153 0 5 (dk_at dksL_law_8 10 rfl rfl)
theorem dL_law_315 : decode cL_law 315 = .ok (.iconst 0, 1) := dk_3 (dk_at dksL_law_8 13 rfl rfl)
theorem dL_law_316 : decode cL_law 316 = .ok (.ireturn, 1) := dk_172 (dk_at dksL_law_8 14 rfl rfl)
theorem dL_law_317 : decode cL_law 317 = .ok (.goto 2050, 3) := dk_167 8 2 (dk_at dksL_law_8 15 rfl rfl)
theorem dL_law_320 : decode cL_law 320 = .ok (.aload_n 1, 1) := dk_43 (dk_at dksL_law_8 18 rfl rfl)
theorem dL_law_321 : decode cL_law 321 = .ok (.aload_n 0, 1) := dk_42 (dk_at dksL_law_8 19 rfl rfl)
theorem dL_law_322 : decode cL_law 322 = .ok (.iload 4, 2) := dk_21 4 (dk_at dksL_law_8 20 rfl rfl)
theorem dL_law_324 : decode cL_law 324 = .ok (.iconst 1, 1) := dk_4 (dk_at dksL_law_8 22 rfl rfl)
theorem dL_law_325 : decode cL_law 325 = .ok (.iadd, 1) := dk_96 (dk_at dksL_law_8 23 rfl rfl)
theorem dL_law_326 : decode cL_law 326 = .ok (.iaload, 1) := dk_46 (dk_at dksL_law_9 0 rfl rfl)
theorem dL_law_327 : decode cL_law 327 = .ok (.aload_n 0, 1) := dk_42 (dk_at dksL_law_9 1 rfl rfl)
theorem dL_law_328 : decode cL_law 328 = .ok (.iload 4, 2) := dk_21 4 (dk_at dksL_law_9 2 rfl rfl)
theorem dL_law_330 : decode cL_law 330 = .ok (.iconst 2, 1) := dk_5 (dk_at dksL_law_9 4 rfl rfl)
theorem dL_law_331 : decode cL_law 331 = .ok (.iadd, 1) := dk_96 (dk_at dksL_law_9 5 rfl rfl)
theorem dL_law_332 : decode cL_law 332 = .ok (.iaload, 1) := dk_46 (dk_at dksL_law_9 6 rfl rfl)
theorem dL_law_333 : decode cL_law 333 = .ok (.aload_n 0, 1) := dk_42 (dk_at dksL_law_9 7 rfl rfl)
theorem dL_law_334 : decode cL_law 334 = .ok (.iload 4, 2) := dk_21 4 (dk_at dksL_law_9 8 rfl rfl)
theorem dL_law_336 : decode cL_law 336 = .ok (.iconst 3, 1) := dk_6 (dk_at dksL_law_9 10 rfl rfl)
theorem dL_law_337 : decode cL_law 337 = .ok (.iadd, 1) := dk_96 (dk_at dksL_law_9 11 rfl rfl)
theorem dL_law_338 : decode cL_law 338 = .ok (.iaload, 1) := dk_46 (dk_at dksL_law_9 12 rfl rfl)
theorem dL_law_339 : decode cL_law 339 = .ok (.aload_n 0, 1) := dk_42 (dk_at dksL_law_9 13 rfl rfl)
theorem dL_law_340 : decode cL_law 340 = .ok (.iload 4, 2) := dk_21 4 (dk_at dksL_law_9 14 rfl rfl)
theorem dL_law_342 : decode cL_law 342 = .ok (.iconst 4, 1) := dk_7 (dk_at dksL_law_9 16 rfl rfl)
theorem dL_law_343 : decode cL_law 343 = .ok (.iadd, 1) := dk_96 (dk_at dksL_law_9 17 rfl rfl)
theorem dL_law_344 : decode cL_law 344 = .ok (.iaload, 1) := dk_46 (dk_at dksL_law_9 18 rfl rfl)
theorem dL_law_345 : decode cL_law 345 = .ok (.ifCond .eq 7, 3) := dk_153 0 7 (dk_at dksL_law_9 19 rfl rfl)
theorem dL_law_348 : decode cL_law 348 = .ok (.iconst 1, 1) := dk_4 (dk_at dksL_law_9 22 rfl rfl)
theorem dL_law_349 : decode cL_law 349 = .ok (.goto 4, 3) := dk_167 0 4 (dk_at dksL_law_10 0 rfl rfl)
theorem dL_law_352 : decode cL_law 352 = .ok (.iconst 0, 1) := dk_3 (dk_at dksL_law_10 3 rfl rfl)
theorem dL_law_353 : decode cL_law 353 = .ok (.aload_n 0, 1) := dk_42 (dk_at dksL_law_10 4 rfl rfl)
theorem dL_law_354 : decode cL_law 354 = .ok (.iload 4, 2) := dk_21 4 (dk_at dksL_law_10 5 rfl rfl)
theorem dL_law_356 : decode cL_law 356 = .ok (.iconst 5, 1) := dk_8 (dk_at dksL_law_10 7 rfl rfl)
theorem dL_law_357 : decode cL_law 357 = .ok (.iadd, 1) := dk_96 (dk_at dksL_law_10 8 rfl rfl)
theorem dL_law_358 : decode cL_law 358 = .ok (.iaload, 1) := dk_46 (dk_at dksL_law_10 9 rfl rfl)
theorem dL_law_359 : decode cL_law 359 = .ok (.aload_n 0, 1) := dk_42 (dk_at dksL_law_10 10 rfl rfl)
theorem dL_law_360 : decode cL_law 360 = .ok (.iload 4, 2) := dk_21 4 (dk_at dksL_law_10 11 rfl rfl)
theorem dL_law_362 : decode cL_law 362 = .ok (.bipush 6, 2) := dk_16 6 (dk_at dksL_law_10 13 rfl rfl)
theorem dL_law_364 : decode cL_law 364 = .ok (.iadd, 1) := dk_96 (dk_at dksL_law_10 15 rfl rfl)
theorem dL_law_365 : decode cL_law 365 = .ok (.iaload, 1) := dk_46 (dk_at dksL_law_10 16 rfl rfl)
theorem dL_law_366 : decode cL_law 366 = .ok (.aload_n 3, 1) := dk_45 (dk_at dksL_law_10 17 rfl rfl)
theorem dL_law_367 : decode cL_law 367 = .ok (.invokestatic 127, 3) := dk_184 0 127 (dk_at dksL_law_10 18 rfl rfl)
theorem dL_law_370 : decode cL_law 370 = .ok (.istore 5, 2) := dk_54 5 (dk_at dksL_law_10 21 rfl rfl)
theorem dL_law_372 : decode cL_law 372 = .ok (.aload_n 2, 1) := dk_44 (dk_at dksL_law_10 23 rfl rfl)
theorem dL_law_373 : decode cL_law 373 = .ok (.aload_n 0, 1) := dk_42 (dk_at dksL_law_11 0 rfl rfl)
theorem dL_law_374 : decode cL_law 374 = .ok (.iload 4, 2) := dk_21 4 (dk_at dksL_law_11 1 rfl rfl)
theorem dL_law_376 : decode cL_law 376 = .ok (.iconst 1, 1) := dk_4 (dk_at dksL_law_11 3 rfl rfl)
theorem dL_law_377 : decode cL_law 377 = .ok (.iadd, 1) := dk_96 (dk_at dksL_law_11 4 rfl rfl)
theorem dL_law_378 : decode cL_law 378 = .ok (.iaload, 1) := dk_46 (dk_at dksL_law_11 5 rfl rfl)
theorem dL_law_379 : decode cL_law 379 = .ok (.aload_n 0, 1) := dk_42 (dk_at dksL_law_11 6 rfl rfl)
theorem dL_law_380 : decode cL_law 380 = .ok (.iload 4, 2) := dk_21 4 (dk_at dksL_law_11 7 rfl rfl)
theorem dL_law_382 : decode cL_law 382 = .ok (.iconst 2, 1) := dk_5 (dk_at dksL_law_11 9 rfl rfl)
theorem dL_law_383 : decode cL_law 383 = .ok (.iadd, 1) := dk_96 (dk_at dksL_law_11 10 rfl rfl)
theorem dL_law_384 : decode cL_law 384 = .ok (.iaload, 1) := dk_46 (dk_at dksL_law_11 11 rfl rfl)
theorem dL_law_385 : decode cL_law 385 = .ok (.aload_n 0, 1) := dk_42 (dk_at dksL_law_11 12 rfl rfl)
theorem dL_law_386 : decode cL_law 386 = .ok (.iload 4, 2) := dk_21 4 (dk_at dksL_law_11 13 rfl rfl)
theorem dL_law_388 : decode cL_law 388 = .ok (.iconst 3, 1) := dk_6 (dk_at dksL_law_11 15 rfl rfl)
theorem dL_law_389 : decode cL_law 389 = .ok (.iadd, 1) := dk_96 (dk_at dksL_law_11 16 rfl rfl)
theorem dL_law_390 : decode cL_law 390 = .ok (.iaload, 1) := dk_46 (dk_at dksL_law_11 17 rfl rfl)
theorem dL_law_391 : decode cL_law 391 = .ok (.aload_n 0, 1) := dk_42 (dk_at dksL_law_11 18 rfl rfl)
theorem dL_law_392 : decode cL_law 392 = .ok (.iload 4, 2) := dk_21 4 (dk_at dksL_law_11 19 rfl rfl)
theorem dL_law_394 : decode cL_law 394 = .ok (.iconst 4, 1) := dk_7 (dk_at dksL_law_11 21 rfl rfl)
theorem dL_law_395 : decode cL_law 395 = .ok (.iadd, 1) := dk_96 (dk_at dksL_law_11 22 rfl rfl)
theorem dL_law_396 : decode cL_law 396 = .ok (.iaload, 1) := dk_46 (dk_at dksL_law_11 23 rfl rfl)
theorem dL_law_397 : decode cL_law 397 = .ok (.ifCond .eq 7, 3) := dk_153 0 7 (dk_at dksL_law_12 0 rfl rfl)
theorem dL_law_400 : decode cL_law 400 = .ok (.iconst 1, 1) := dk_4 (dk_at dksL_law_12 3 rfl rfl)
theorem dL_law_401 : decode cL_law 401 = .ok (.goto 4, 3) := dk_167 0 4 (dk_at dksL_law_12 4 rfl rfl)
theorem dL_law_404 : decode cL_law 404 = .ok (.iconst 0, 1) := dk_3 (dk_at dksL_law_12 7 rfl rfl)
theorem dL_law_405 : decode cL_law 405 = .ok (.aload_n 0, 1) := dk_42 (dk_at dksL_law_12 8 rfl rfl)
theorem dL_law_406 : decode cL_law 406 = .ok (.iload 4, 2) := dk_21 4 (dk_at dksL_law_12 9 rfl rfl)
theorem dL_law_408 : decode cL_law 408 = .ok (.iconst 5, 1) := dk_8 (dk_at dksL_law_12 11 rfl rfl)
theorem dL_law_409 : decode cL_law 409 = .ok (.iadd, 1) := dk_96 (dk_at dksL_law_12 12 rfl rfl)
theorem dL_law_410 : decode cL_law 410 = .ok (.iaload, 1) := dk_46 (dk_at dksL_law_12 13 rfl rfl)
theorem dL_law_411 : decode cL_law 411 = .ok (.aload_n 0, 1) := dk_42 (dk_at dksL_law_12 14 rfl rfl)
theorem dL_law_412 : decode cL_law 412 = .ok (.iload 4, 2) := dk_21 4 (dk_at dksL_law_12 15 rfl rfl)
theorem dL_law_414 : decode cL_law 414 = .ok (.bipush 6, 2) := dk_16 6 (dk_at dksL_law_12 17 rfl rfl)
theorem dL_law_416 : decode cL_law 416 = .ok (.iadd, 1) := dk_96 (dk_at dksL_law_12 19 rfl rfl)
theorem dL_law_417 : decode cL_law 417 = .ok (.iaload, 1) := dk_46 (dk_at dksL_law_12 20 rfl rfl)
theorem dL_law_418 : decode cL_law 418 = .ok (.invokevirtual 130, 3) := dk_182 0 130 (dk_at dksL_law_12 21 rfl rfl)
theorem dL_law_421 : decode cL_law 421 = .ok (.istore 6, 2) := dk_54 6 (dk_at dksL_law_13 0 rfl rfl)
theorem dL_law_423 : decode cL_law 423 = .ok (.aload_n 2, 1) := dk_44 (dk_at dksL_law_13 2 rfl rfl)
theorem dL_law_424 : decode cL_law 424 = .ok (.invokevirtual 121, 3) := dk_182 0 121 (dk_at dksL_law_13 3 rfl rfl)
theorem dL_law_427 : decode cL_law 427 = .ok (.iload 5, 2) := dk_21 5 (dk_at dksL_law_13 6 rfl rfl)
theorem dL_law_429 : decode cL_law 429 = .ok (.if_icmp .eq 5, 3) := dk_159 0 5 (dk_at dksL_law_13 8 rfl rfl)
theorem dL_law_432 : decode cL_law 432 = .ok (.iconst 0, 1) := dk_3 (dk_at dksL_law_13 11 rfl rfl)
theorem dL_law_433 : decode cL_law 433 = .ok (.ireturn, 1) := dk_172 (dk_at dksL_law_13 12 rfl rfl)
theorem dL_law_434 : decode cL_law 434 = .ok (.iload 5, 2) := dk_21 5 (dk_at dksL_law_13 13 rfl rfl)
theorem dL_law_436 : decode cL_law 436 = .ok (.ifCond .ne 15, 3) := dk_154 0 15 (dk_at dksL_law_13 15 rfl rfl)
theorem dL_law_439 : decode cL_law 439 = .ok (.aload_n 3, 1) := dk_45 (dk_at dksL_law_13 18 rfl rfl)
theorem dL_law_440 : decode cL_law 440 = .ok (.iconst 0, 1) := dk_3 (dk_at dksL_law_13 19 rfl rfl)
theorem dL_law_441 : decode cL_law 441 = .ok (.laload, 1) := dk_47 (dk_at dksL_law_13 20 rfl rfl)
theorem dL_law_442 : decode cL_law 442 = .ok (.iload 6, 2) := dk_21 6 (dk_at dksL_law_13 21 rfl rfl)
theorem dL_law_444 : decode cL_law 444 = .ok (.i2l, 1) := dk_133 (dk_at dksL_law_13 23 rfl rfl)
theorem dL_law_445 : decode cL_law 445 = .ok (.lcmp, 1) := dk_148 (dk_at dksL_law_14 0 rfl rfl)
theorem dL_law_446 : decode cL_law 446 = .ok (.ifCond .eq 5, 3) := dk_153 0 5 (dk_at dksL_law_14 1 rfl rfl)
theorem dL_law_449 : decode cL_law 449 = .ok (.iconst 0, 1) := dk_3 (dk_at dksL_law_14 4 rfl rfl)
theorem dL_law_450 : decode cL_law 450 = .ok (.ireturn, 1) := dk_172 (dk_at dksL_law_14 5 rfl rfl)
theorem dL_law_451 : decode cL_law 451 = .ok (.goto 1916, 3) := dk_167 7 124 (dk_at dksL_law_14 6 rfl rfl)
theorem dL_law_454 : decode cL_law 454 = .ok (.aload_n 1, 1) := dk_43 (dk_at dksL_law_14 9 rfl rfl)
theorem dL_law_455 : decode cL_law 455 = .ok (.aload_n 0, 1) := dk_42 (dk_at dksL_law_14 10 rfl rfl)
theorem dL_law_456 : decode cL_law 456 = .ok (.iload 4, 2) := dk_21 4 (dk_at dksL_law_14 11 rfl rfl)
theorem dL_law_458 : decode cL_law 458 = .ok (.iconst 1, 1) := dk_4 (dk_at dksL_law_14 13 rfl rfl)
theorem dL_law_459 : decode cL_law 459 = .ok (.iadd, 1) := dk_96 (dk_at dksL_law_14 14 rfl rfl)
theorem dL_law_460 : decode cL_law 460 = .ok (.iaload, 1) := dk_46 (dk_at dksL_law_14 15 rfl rfl)
theorem dL_law_461 : decode cL_law 461 = .ok (.aload_n 0, 1) := dk_42 (dk_at dksL_law_14 16 rfl rfl)
theorem dL_law_462 : decode cL_law 462 = .ok (.iload 4, 2) := dk_21 4 (dk_at dksL_law_14 17 rfl rfl)
theorem dL_law_464 : decode cL_law 464 = .ok (.iconst 2, 1) := dk_5 (dk_at dksL_law_14 19 rfl rfl)
theorem dL_law_465 : decode cL_law 465 = .ok (.iadd, 1) := dk_96 (dk_at dksL_law_14 20 rfl rfl)
theorem dL_law_466 : decode cL_law 466 = .ok (.iaload, 1) := dk_46 (dk_at dksL_law_14 21 rfl rfl)
theorem dL_law_467 : decode cL_law 467 = .ok (.aload_n 0, 1) := dk_42 (dk_at dksL_law_14 22 rfl rfl)
theorem dL_law_468 : decode cL_law 468 = .ok (.iload 4, 2) := dk_21 4 (dk_at dksL_law_15 0 rfl rfl)
theorem dL_law_470 : decode cL_law 470 = .ok (.iconst 3, 1) := dk_6 (dk_at dksL_law_15 2 rfl rfl)
theorem dL_law_471 : decode cL_law 471 = .ok (.iadd, 1) := dk_96 (dk_at dksL_law_15 3 rfl rfl)
theorem dL_law_472 : decode cL_law 472 = .ok (.iaload, 1) := dk_46 (dk_at dksL_law_15 4 rfl rfl)
theorem dL_law_473 : decode cL_law 473 = .ok (.aload_n 0, 1) := dk_42 (dk_at dksL_law_15 5 rfl rfl)
theorem dL_law_474 : decode cL_law 474 = .ok (.iload 4, 2) := dk_21 4 (dk_at dksL_law_15 6 rfl rfl)
theorem dL_law_476 : decode cL_law 476 = .ok (.iconst 4, 1) := dk_7 (dk_at dksL_law_15 8 rfl rfl)
theorem dL_law_477 : decode cL_law 477 = .ok (.iadd, 1) := dk_96 (dk_at dksL_law_15 9 rfl rfl)
theorem dL_law_478 : decode cL_law 478 = .ok (.iaload, 1) := dk_46 (dk_at dksL_law_15 10 rfl rfl)
theorem dL_law_479 : decode cL_law 479 = .ok (.ifCond .eq 7, 3) := dk_153 0 7 (dk_at dksL_law_15 11 rfl rfl)
theorem dL_law_482 : decode cL_law 482 = .ok (.iconst 1, 1) := dk_4 (dk_at dksL_law_15 14 rfl rfl)
theorem dL_law_483 : decode cL_law 483 = .ok (.goto 4, 3) := dk_167 0 4 (dk_at dksL_law_15 15 rfl rfl)
theorem dL_law_486 : decode cL_law 486 = .ok (.iconst 0, 1) := dk_3 (dk_at dksL_law_15 18 rfl rfl)
theorem dL_law_487 : decode cL_law 487 = .ok (.aload_n 0, 1) := dk_42 (dk_at dksL_law_15 19 rfl rfl)
theorem dL_law_488 : decode cL_law 488 = .ok (.iload 4, 2) := dk_21 4 (dk_at dksL_law_15 20 rfl rfl)
theorem dL_law_490 : decode cL_law 490 = .ok (.iconst 5, 1) := dk_8 (dk_at dksL_law_15 22 rfl rfl)
theorem dL_law_491 : decode cL_law 491 = .ok (.iadd, 1) := dk_96 (dk_at dksL_law_15 23 rfl rfl)
theorem dL_law_492 : decode cL_law 492 = .ok (.iaload, 1) := dk_46 (dk_at dksL_law_16 0 rfl rfl)
theorem dL_law_493 : decode cL_law 493 = .ok (.aload_n 0, 1) := dk_42 (dk_at dksL_law_16 1 rfl rfl)
theorem dL_law_494 : decode cL_law 494 = .ok (.iload 4, 2) := dk_21 4 (dk_at dksL_law_16 2 rfl rfl)
theorem dL_law_496 : decode cL_law 496 = .ok (.bipush 6, 2) := dk_16 6 (dk_at dksL_law_16 4 rfl rfl)
theorem dL_law_498 : decode cL_law 498 = .ok (.iadd, 1) := dk_96 (dk_at dksL_law_16 6 rfl rfl)
theorem dL_law_499 : decode cL_law 499 = .ok (.iaload, 1) := dk_46 (dk_at dksL_law_16 7 rfl rfl)
theorem dL_law_500 : decode cL_law 500 = .ok (.aload_n 3, 1) := dk_45 (dk_at dksL_law_16 8 rfl rfl)
theorem dL_law_501 : decode cL_law 501 = .ok (.invokestatic 131, 3) := dk_184 0 131 (dk_at dksL_law_16 9 rfl rfl)
theorem dL_law_504 : decode cL_law 504 = .ok (.istore 5, 2) := dk_54 5 (dk_at dksL_law_16 12 rfl rfl)
theorem dL_law_506 : decode cL_law 506 = .ok (.aload_n 2, 1) := dk_44 (dk_at dksL_law_16 14 rfl rfl)
theorem dL_law_507 : decode cL_law 507 = .ok (.aload_n 0, 1) := dk_42 (dk_at dksL_law_16 15 rfl rfl)
theorem dL_law_508 : decode cL_law 508 = .ok (.iload 4, 2) := dk_21 4 (dk_at dksL_law_16 16 rfl rfl)
theorem dL_law_510 : decode cL_law 510 = .ok (.iconst 1, 1) := dk_4 (dk_at dksL_law_16 18 rfl rfl)
theorem dL_law_511 : decode cL_law 511 = .ok (.iadd, 1) := dk_96 (dk_at dksL_law_16 19 rfl rfl)
theorem dL_law_512 : decode cL_law 512 = .ok (.iaload, 1) := dk_46 (dk_at dksL_law_16 20 rfl rfl)
theorem dL_law_513 : decode cL_law 513 = .ok (.aload_n 0, 1) := dk_42 (dk_at dksL_law_16 21 rfl rfl)
theorem dL_law_514 : decode cL_law 514 = .ok (.iload 4, 2) := dk_21 4 (dk_at dksL_law_16 22 rfl rfl)
theorem dL_law_516 : decode cL_law 516 = .ok (.iconst 2, 1) := dk_5 (dk_at dksL_law_17 0 rfl rfl)
theorem dL_law_517 : decode cL_law 517 = .ok (.iadd, 1) := dk_96 (dk_at dksL_law_17 1 rfl rfl)
theorem dL_law_518 : decode cL_law 518 = .ok (.iaload, 1) := dk_46 (dk_at dksL_law_17 2 rfl rfl)
theorem dL_law_519 : decode cL_law 519 = .ok (.aload_n 0, 1) := dk_42 (dk_at dksL_law_17 3 rfl rfl)
theorem dL_law_520 : decode cL_law 520 = .ok (.iload 4, 2) := dk_21 4 (dk_at dksL_law_17 4 rfl rfl)
theorem dL_law_522 : decode cL_law 522 = .ok (.iconst 3, 1) := dk_6 (dk_at dksL_law_17 6 rfl rfl)
theorem dL_law_523 : decode cL_law 523 = .ok (.iadd, 1) := dk_96 (dk_at dksL_law_17 7 rfl rfl)
theorem dL_law_524 : decode cL_law 524 = .ok (.iaload, 1) := dk_46 (dk_at dksL_law_17 8 rfl rfl)
theorem dL_law_525 : decode cL_law 525 = .ok (.aload_n 0, 1) := dk_42 (dk_at dksL_law_17 9 rfl rfl)
theorem dL_law_526 : decode cL_law 526 = .ok (.iload 4, 2) := dk_21 4 (dk_at dksL_law_17 10 rfl rfl)
theorem dL_law_528 : decode cL_law 528 = .ok (.iconst 4, 1) := dk_7 (dk_at dksL_law_17 12 rfl rfl)
theorem dL_law_529 : decode cL_law 529 = .ok (.iadd, 1) := dk_96 (dk_at dksL_law_17 13 rfl rfl)
theorem dL_law_530 : decode cL_law 530 = .ok (.iaload, 1) := dk_46 (dk_at dksL_law_17 14 rfl rfl)
theorem dL_law_531 : decode cL_law 531 = .ok (.ifCond .eq 7, 3) := dk_153 0 7 (dk_at dksL_law_17 15 rfl rfl)
theorem dL_law_534 : decode cL_law 534 = .ok (.iconst 1, 1) := dk_4 (dk_at dksL_law_17 18 rfl rfl)
theorem dL_law_535 : decode cL_law 535 = .ok (.goto 4, 3) := dk_167 0 4 (dk_at dksL_law_17 19 rfl rfl)
theorem dL_law_538 : decode cL_law 538 = .ok (.iconst 0, 1) := dk_3 (dk_at dksL_law_17 22 rfl rfl)
theorem dL_law_539 : decode cL_law 539 = .ok (.aload_n 0, 1) := dk_42 (dk_at dksL_law_17 23 rfl rfl)
theorem dL_law_540 : decode cL_law 540 = .ok (.iload 4, 2) := dk_21 4 (dk_at dksL_law_18 0 rfl rfl)
theorem dL_law_542 : decode cL_law 542 = .ok (.iconst 5, 1) := dk_8 (dk_at dksL_law_18 2 rfl rfl)
theorem dL_law_543 : decode cL_law 543 = .ok (.iadd, 1) := dk_96 (dk_at dksL_law_18 3 rfl rfl)
theorem dL_law_544 : decode cL_law 544 = .ok (.iaload, 1) := dk_46 (dk_at dksL_law_18 4 rfl rfl)
theorem dL_law_545 : decode cL_law 545 = .ok (.aload_n 0, 1) := dk_42 (dk_at dksL_law_18 5 rfl rfl)
theorem dL_law_546 : decode cL_law 546 = .ok (.iload 4, 2) := dk_21 4 (dk_at dksL_law_18 6 rfl rfl)
theorem dL_law_548 : decode cL_law 548 = .ok (.bipush 6, 2) := dk_16 6 (dk_at dksL_law_18 8 rfl rfl)
theorem dL_law_550 : decode cL_law 550 = .ok (.iadd, 1) := dk_96 (dk_at dksL_law_18 10 rfl rfl)
theorem dL_law_551 : decode cL_law 551 = .ok (.iaload, 1) := dk_46 (dk_at dksL_law_18 11 rfl rfl)
theorem dL_law_552 : decode cL_law 552 = .ok (.invokevirtual 133, 3) := dk_182 0 133 (dk_at dksL_law_18 12 rfl rfl)
theorem dL_law_555 : decode cL_law 555 = .ok (.istore 6, 2) := dk_54 6 (dk_at dksL_law_18 15 rfl rfl)
theorem dL_law_557 : decode cL_law 557 = .ok (.aload_n 2, 1) := dk_44 (dk_at dksL_law_18 17 rfl rfl)
theorem dL_law_558 : decode cL_law 558 = .ok (.invokevirtual 121, 3) := dk_182 0 121 (dk_at dksL_law_18 18 rfl rfl)
theorem dL_law_561 : decode cL_law 561 = .ok (.iload 5, 2) := dk_21 5 (dk_at dksL_law_18 21 rfl rfl)
theorem dL_law_563 : decode cL_law 563 = .ok (.if_icmp .eq 5, 3) := dk_159 0 5 (dk_at dksL_law_19 0 rfl rfl)
theorem dL_law_566 : decode cL_law 566 = .ok (.iconst 0, 1) := dk_3 (dk_at dksL_law_19 3 rfl rfl)
theorem dL_law_567 : decode cL_law 567 = .ok (.ireturn, 1) := dk_172 (dk_at dksL_law_19 4 rfl rfl)
theorem dL_law_568 : decode cL_law 568 = .ok (.iload 5, 2) := dk_21 5 (dk_at dksL_law_19 5 rfl rfl)
theorem dL_law_570 : decode cL_law 570 = .ok (.ifCond .ne 15, 3) := dk_154 0 15 (dk_at dksL_law_19 7 rfl rfl)
theorem dL_law_573 : decode cL_law 573 = .ok (.aload_n 3, 1) := dk_45 (dk_at dksL_law_19 10 rfl rfl)
theorem dL_law_574 : decode cL_law 574 = .ok (.iconst 0, 1) := dk_3 (dk_at dksL_law_19 11 rfl rfl)
theorem dL_law_575 : decode cL_law 575 = .ok (.laload, 1) := dk_47 (dk_at dksL_law_19 12 rfl rfl)
theorem dL_law_576 : decode cL_law 576 = .ok (.iload 6, 2) := dk_21 6 (dk_at dksL_law_19 13 rfl rfl)
theorem dL_law_578 : decode cL_law 578 = .ok (.i2l, 1) := dk_133 (dk_at dksL_law_19 15 rfl rfl)
theorem dL_law_579 : decode cL_law 579 = .ok (.lcmp, 1) := dk_148 (dk_at dksL_law_19 16 rfl rfl)
theorem dL_law_580 : decode cL_law 580 = .ok (.ifCond .eq 5, 3) := dk_153 0 5 (dk_at dksL_law_19 17 rfl rfl)
theorem dL_law_583 : decode cL_law 583 = .ok (.iconst 0, 1) := dk_3 (dk_at dksL_law_19 20 rfl rfl)
theorem dL_law_584 : decode cL_law 584 = .ok (.ireturn, 1) := dk_172 (dk_at dksL_law_19 21 rfl rfl)
theorem dL_law_585 : decode cL_law 585 = .ok (.goto 1782, 3) := dk_167 6 246 (dk_at dksL_law_20 0 rfl rfl)
theorem dL_law_588 : decode cL_law 588 = .ok (.aload_n 1, 1) := dk_43 (dk_at dksL_law_20 3 rfl rfl)
theorem dL_law_589 : decode cL_law 589 = .ok (.aload_n 0, 1) := dk_42 (dk_at dksL_law_20 4 rfl rfl)
theorem dL_law_590 : decode cL_law 590 = .ok (.iload 4, 2) := dk_21 4 (dk_at dksL_law_20 5 rfl rfl)
theorem dL_law_592 : decode cL_law 592 = .ok (.iconst 1, 1) := dk_4 (dk_at dksL_law_20 7 rfl rfl)
theorem dL_law_593 : decode cL_law 593 = .ok (.iadd, 1) := dk_96 (dk_at dksL_law_20 8 rfl rfl)
theorem dL_law_594 : decode cL_law 594 = .ok (.iaload, 1) := dk_46 (dk_at dksL_law_20 9 rfl rfl)
theorem dL_law_595 : decode cL_law 595 = .ok (.aload_n 0, 1) := dk_42 (dk_at dksL_law_20 10 rfl rfl)
theorem dL_law_596 : decode cL_law 596 = .ok (.iload 4, 2) := dk_21 4 (dk_at dksL_law_20 11 rfl rfl)
theorem dL_law_598 : decode cL_law 598 = .ok (.iconst 2, 1) := dk_5 (dk_at dksL_law_20 13 rfl rfl)
theorem dL_law_599 : decode cL_law 599 = .ok (.iadd, 1) := dk_96 (dk_at dksL_law_20 14 rfl rfl)
theorem dL_law_600 : decode cL_law 600 = .ok (.iaload, 1) := dk_46 (dk_at dksL_law_20 15 rfl rfl)
theorem dL_law_601 : decode cL_law 601 = .ok (.aload_n 0, 1) := dk_42 (dk_at dksL_law_20 16 rfl rfl)
theorem dL_law_602 : decode cL_law 602 = .ok (.iload 4, 2) := dk_21 4 (dk_at dksL_law_20 17 rfl rfl)
theorem dL_law_604 : decode cL_law 604 = .ok (.iconst 3, 1) := dk_6 (dk_at dksL_law_20 19 rfl rfl)
theorem dL_law_605 : decode cL_law 605 = .ok (.iadd, 1) := dk_96 (dk_at dksL_law_20 20 rfl rfl)
theorem dL_law_606 : decode cL_law 606 = .ok (.iaload, 1) := dk_46 (dk_at dksL_law_20 21 rfl rfl)
theorem dL_law_607 : decode cL_law 607 = .ok (.invokestatic 134, 3) := dk_184 0 134 (dk_at dksL_law_21 0 rfl rfl)
theorem dL_law_610 : decode cL_law 610 = .ok (.istore 5, 2) := dk_54 5 (dk_at dksL_law_21 3 rfl rfl)
theorem dL_law_612 : decode cL_law 612 = .ok (.aload_n 2, 1) := dk_44 (dk_at dksL_law_21 5 rfl rfl)
theorem dL_law_613 : decode cL_law 613 = .ok (.aload_n 0, 1) := dk_42 (dk_at dksL_law_21 6 rfl rfl)
theorem dL_law_614 : decode cL_law 614 = .ok (.iload 4, 2) := dk_21 4 (dk_at dksL_law_21 7 rfl rfl)
theorem dL_law_616 : decode cL_law 616 = .ok (.iconst 1, 1) := dk_4 (dk_at dksL_law_21 9 rfl rfl)
theorem dL_law_617 : decode cL_law 617 = .ok (.iadd, 1) := dk_96 (dk_at dksL_law_21 10 rfl rfl)
theorem dL_law_618 : decode cL_law 618 = .ok (.iaload, 1) := dk_46 (dk_at dksL_law_21 11 rfl rfl)
theorem dL_law_619 : decode cL_law 619 = .ok (.aload_n 0, 1) := dk_42 (dk_at dksL_law_21 12 rfl rfl)
theorem dL_law_620 : decode cL_law 620 = .ok (.iload 4, 2) := dk_21 4 (dk_at dksL_law_21 13 rfl rfl)
theorem dL_law_622 : decode cL_law 622 = .ok (.iconst 2, 1) := dk_5 (dk_at dksL_law_21 15 rfl rfl)
theorem dL_law_623 : decode cL_law 623 = .ok (.iadd, 1) := dk_96 (dk_at dksL_law_21 16 rfl rfl)
theorem dL_law_624 : decode cL_law 624 = .ok (.iaload, 1) := dk_46 (dk_at dksL_law_21 17 rfl rfl)
theorem dL_law_625 : decode cL_law 625 = .ok (.aload_n 0, 1) := dk_42 (dk_at dksL_law_21 18 rfl rfl)
theorem dL_law_626 : decode cL_law 626 = .ok (.iload 4, 2) := dk_21 4 (dk_at dksL_law_21 19 rfl rfl)
theorem dL_law_628 : decode cL_law 628 = .ok (.iconst 3, 1) := dk_6 (dk_at dksL_law_21 21 rfl rfl)
theorem dL_law_629 : decode cL_law 629 = .ok (.iadd, 1) := dk_96 (dk_at dksL_law_21 22 rfl rfl)
theorem dL_law_630 : decode cL_law 630 = .ok (.iaload, 1) := dk_46 (dk_at dksL_law_21 23 rfl rfl)
theorem dL_law_631 : decode cL_law 631 = .ok (.invokevirtual 137, 3) := dk_182 0 137 (dk_at dksL_law_22 0 rfl rfl)
theorem dL_law_634 : decode cL_law 634 = .ok (.aload_n 2, 1) := dk_44 (dk_at dksL_law_22 3 rfl rfl)
theorem dL_law_635 : decode cL_law 635 = .ok (.invokevirtual 121, 3) := dk_182 0 121 (dk_at dksL_law_22 4 rfl rfl)
theorem dL_law_638 : decode cL_law 638 = .ok (.iload 5, 2) := dk_21 5 (dk_at dksL_law_22 7 rfl rfl)
theorem dL_law_640 : decode cL_law 640 = .ok (.if_icmp .eq 5, 3) := dk_159 0 5 (dk_at dksL_law_22 9 rfl rfl)
theorem dL_law_643 : decode cL_law 643 = .ok (.iconst 0, 1) := dk_3 (dk_at dksL_law_22 12 rfl rfl)
theorem dL_law_644 : decode cL_law 644 = .ok (.ireturn, 1) := dk_172 (dk_at dksL_law_22 13 rfl rfl)
theorem dL_law_645 : decode cL_law 645 = .ok (.goto 1722, 3) := dk_167 6 186 (dk_at dksL_law_22 14 rfl rfl)
theorem dL_law_648 : decode cL_law 648 = .ok (.aload_n 1, 1) := dk_43 (dk_at dksL_law_22 17 rfl rfl)
theorem dL_law_649 : decode cL_law 649 = .ok (.aload_n 0, 1) := dk_42 (dk_at dksL_law_22 18 rfl rfl)
theorem dL_law_650 : decode cL_law 650 = .ok (.iload 4, 2) := dk_21 4 (dk_at dksL_law_22 19 rfl rfl)
theorem dL_law_652 : decode cL_law 652 = .ok (.iconst 1, 1) := dk_4 (dk_at dksL_law_22 21 rfl rfl)
theorem dL_law_653 : decode cL_law 653 = .ok (.iadd, 1) := dk_96 (dk_at dksL_law_22 22 rfl rfl)
theorem dL_law_654 : decode cL_law 654 = .ok (.iaload, 1) := dk_46 (dk_at dksL_law_22 23 rfl rfl)
theorem dL_law_655 : decode cL_law 655 = .ok (.aload_n 0, 1) := dk_42 (dk_at dksL_law_23 0 rfl rfl)
theorem dL_law_656 : decode cL_law 656 = .ok (.iload 4, 2) := dk_21 4 (dk_at dksL_law_23 1 rfl rfl)
theorem dL_law_658 : decode cL_law 658 = .ok (.iconst 2, 1) := dk_5 (dk_at dksL_law_23 3 rfl rfl)
theorem dL_law_659 : decode cL_law 659 = .ok (.iadd, 1) := dk_96 (dk_at dksL_law_23 4 rfl rfl)
theorem dL_law_660 : decode cL_law 660 = .ok (.iaload, 1) := dk_46 (dk_at dksL_law_23 5 rfl rfl)
theorem dL_law_661 : decode cL_law 661 = .ok (.aload_n 0, 1) := dk_42 (dk_at dksL_law_23 6 rfl rfl)
theorem dL_law_662 : decode cL_law 662 = .ok (.iload 4, 2) := dk_21 4 (dk_at dksL_law_23 7 rfl rfl)
theorem dL_law_664 : decode cL_law 664 = .ok (.iconst 3, 1) := dk_6 (dk_at dksL_law_23 9 rfl rfl)
theorem dL_law_665 : decode cL_law 665 = .ok (.iadd, 1) := dk_96 (dk_at dksL_law_23 10 rfl rfl)
theorem dL_law_666 : decode cL_law 666 = .ok (.iaload, 1) := dk_46 (dk_at dksL_law_23 11 rfl rfl)
theorem dL_law_667 : decode cL_law 667 = .ok (.aload_n 0, 1) := dk_42 (dk_at dksL_law_23 12 rfl rfl)
theorem dL_law_668 : decode cL_law 668 = .ok (.iload 4, 2) := dk_21 4 (dk_at dksL_law_23 13 rfl rfl)
theorem dL_law_670 : decode cL_law 670 = .ok (.iconst 4, 1) := dk_7 (dk_at dksL_law_23 15 rfl rfl)
theorem dL_law_671 : decode cL_law 671 = .ok (.iadd, 1) := dk_96 (dk_at dksL_law_23 16 rfl rfl)
theorem dL_law_672 : decode cL_law 672 = .ok (.iaload, 1) := dk_46 (dk_at dksL_law_23 17 rfl rfl)
theorem dL_law_673 : decode cL_law 673 = .ok (.aload_n 0, 1) := dk_42 (dk_at dksL_law_23 18 rfl rfl)
theorem dL_law_674 : decode cL_law 674 = .ok (.iload 4, 2) := dk_21 4 (dk_at dksL_law_23 19 rfl rfl)
theorem dL_law_676 : decode cL_law 676 = .ok (.iconst 5, 1) := dk_8 (dk_at dksL_law_23 21 rfl rfl)
theorem dL_law_677 : decode cL_law 677 = .ok (.iadd, 1) := dk_96 (dk_at dksL_law_23 22 rfl rfl)
theorem dL_law_678 : decode cL_law 678 = .ok (.iaload, 1) := dk_46 (dk_at dksL_law_23 23 rfl rfl)
theorem dL_law_679 : decode cL_law 679 = .ok (.aload_n 3, 1) := dk_45 (dk_at dksL_law_24 0 rfl rfl)
theorem dL_law_680 : decode cL_law 680 = .ok (.invokestatic 138, 3) := dk_184 0 138 (dk_at dksL_law_24 1 rfl rfl)
theorem dL_law_683 : decode cL_law 683 = .ok (.istore 5, 2) := dk_54 5 (dk_at dksL_law_24 4 rfl rfl)
theorem dL_law_685 : decode cL_law 685 = .ok (.aload_n 2, 1) := dk_44 (dk_at dksL_law_24 6 rfl rfl)
theorem dL_law_686 : decode cL_law 686 = .ok (.aload_n 0, 1) := dk_42 (dk_at dksL_law_24 7 rfl rfl)
theorem dL_law_687 : decode cL_law 687 = .ok (.iload 4, 2) := dk_21 4 (dk_at dksL_law_24 8 rfl rfl)
theorem dL_law_689 : decode cL_law 689 = .ok (.iconst 1, 1) := dk_4 (dk_at dksL_law_24 10 rfl rfl)
theorem dL_law_690 : decode cL_law 690 = .ok (.iadd, 1) := dk_96 (dk_at dksL_law_24 11 rfl rfl)
theorem dL_law_691 : decode cL_law 691 = .ok (.iaload, 1) := dk_46 (dk_at dksL_law_24 12 rfl rfl)
theorem dL_law_692 : decode cL_law 692 = .ok (.aload_n 0, 1) := dk_42 (dk_at dksL_law_24 13 rfl rfl)
theorem dL_law_693 : decode cL_law 693 = .ok (.iload 4, 2) := dk_21 4 (dk_at dksL_law_24 14 rfl rfl)
theorem dL_law_695 : decode cL_law 695 = .ok (.iconst 2, 1) := dk_5 (dk_at dksL_law_24 16 rfl rfl)
theorem dL_law_696 : decode cL_law 696 = .ok (.iadd, 1) := dk_96 (dk_at dksL_law_24 17 rfl rfl)
theorem dL_law_697 : decode cL_law 697 = .ok (.iaload, 1) := dk_46 (dk_at dksL_law_24 18 rfl rfl)
theorem dL_law_698 : decode cL_law 698 = .ok (.aload_n 0, 1) := dk_42 (dk_at dksL_law_24 19 rfl rfl)
theorem dL_law_699 : decode cL_law 699 = .ok (.iload 4, 2) := dk_21 4 (dk_at dksL_law_24 20 rfl rfl)
theorem dL_law_701 : decode cL_law 701 = .ok (.iconst 3, 1) := dk_6 (dk_at dksL_law_24 22 rfl rfl)
theorem dL_law_702 : decode cL_law 702 = .ok (.iadd, 1) := dk_96 (dk_at dksL_law_24 23 rfl rfl)
theorem dL_law_703 : decode cL_law 703 = .ok (.iaload, 1) := dk_46 (dk_at dksL_law_25 0 rfl rfl)
theorem dL_law_704 : decode cL_law 704 = .ok (.aload_n 0, 1) := dk_42 (dk_at dksL_law_25 1 rfl rfl)
theorem dL_law_705 : decode cL_law 705 = .ok (.iload 4, 2) := dk_21 4 (dk_at dksL_law_25 2 rfl rfl)
theorem dL_law_707 : decode cL_law 707 = .ok (.iconst 4, 1) := dk_7 (dk_at dksL_law_25 4 rfl rfl)
theorem dL_law_708 : decode cL_law 708 = .ok (.iadd, 1) := dk_96 (dk_at dksL_law_25 5 rfl rfl)
theorem dL_law_709 : decode cL_law 709 = .ok (.iaload, 1) := dk_46 (dk_at dksL_law_25 6 rfl rfl)
theorem dL_law_710 : decode cL_law 710 = .ok (.aload_n 0, 1) := dk_42 (dk_at dksL_law_25 7 rfl rfl)
theorem dL_law_711 : decode cL_law 711 = .ok (.iload 4, 2) := dk_21 4 (dk_at dksL_law_25 8 rfl rfl)
theorem dL_law_713 : decode cL_law 713 = .ok (.iconst 5, 1) := dk_8 (dk_at dksL_law_25 10 rfl rfl)
theorem dL_law_714 : decode cL_law 714 = .ok (.iadd, 1) := dk_96 (dk_at dksL_law_25 11 rfl rfl)
theorem dL_law_715 : decode cL_law 715 = .ok (.iaload, 1) := dk_46 (dk_at dksL_law_25 12 rfl rfl)
theorem dL_law_716 : decode cL_law 716 = .ok (.invokevirtual 141, 3) := dk_182 0 141 (dk_at dksL_law_25 13 rfl rfl)
theorem dL_law_719 : decode cL_law 719 = .ok (.istore 6, 2) := dk_54 6 (dk_at dksL_law_25 16 rfl rfl)
theorem dL_law_721 : decode cL_law 721 = .ok (.aload_n 2, 1) := dk_44 (dk_at dksL_law_25 18 rfl rfl)
theorem dL_law_722 : decode cL_law 722 = .ok (.invokevirtual 121, 3) := dk_182 0 121 (dk_at dksL_law_25 19 rfl rfl)
theorem dL_law_725 : decode cL_law 725 = .ok (.iload 5, 2) := dk_21 5 (dk_at dksL_law_25 22 rfl rfl)
theorem dL_law_727 : decode cL_law 727 = .ok (.if_icmp .eq 5, 3) := dk_159 0 5 (dk_at dksL_law_26 0 rfl rfl)
theorem dL_law_730 : decode cL_law 730 = .ok (.iconst 0, 1) := dk_3 (dk_at dksL_law_26 3 rfl rfl)
theorem dL_law_731 : decode cL_law 731 = .ok (.ireturn, 1) := dk_172 (dk_at dksL_law_26 4 rfl rfl)
theorem dL_law_732 : decode cL_law 732 = .ok (.iload 5, 2) := dk_21 5 (dk_at dksL_law_26 5 rfl rfl)
theorem dL_law_734 : decode cL_law 734 = .ok (.ifCond .ne 15, 3) := dk_154 0 15 (dk_at dksL_law_26 7 rfl rfl)
theorem dL_law_737 : decode cL_law 737 = .ok (.aload_n 3, 1) := dk_45 (dk_at dksL_law_26 10 rfl rfl)
theorem dL_law_738 : decode cL_law 738 = .ok (.iconst 0, 1) := dk_3 (dk_at dksL_law_26 11 rfl rfl)
theorem dL_law_739 : decode cL_law 739 = .ok (.laload, 1) := dk_47 (dk_at dksL_law_26 12 rfl rfl)
theorem dL_law_740 : decode cL_law 740 = .ok (.iload 6, 2) := dk_21 6 (dk_at dksL_law_26 13 rfl rfl)
theorem dL_law_742 : decode cL_law 742 = .ok (.i2l, 1) := dk_133 (dk_at dksL_law_26 15 rfl rfl)
theorem dL_law_743 : decode cL_law 743 = .ok (.lcmp, 1) := dk_148 (dk_at dksL_law_26 16 rfl rfl)
theorem dL_law_744 : decode cL_law 744 = .ok (.ifCond .eq 5, 3) := dk_153 0 5 (dk_at dksL_law_26 17 rfl rfl)
theorem dL_law_747 : decode cL_law 747 = .ok (.iconst 0, 1) := dk_3 (dk_at dksL_law_26 20 rfl rfl)
theorem dL_law_748 : decode cL_law 748 = .ok (.ireturn, 1) := dk_172 (dk_at dksL_law_26 21 rfl rfl)
theorem dL_law_749 : decode cL_law 749 = .ok (.goto 1618, 3) := dk_167 6 82 (dk_at dksL_law_27 0 rfl rfl)
theorem dL_law_752 : decode cL_law 752 = .ok (.aload_n 1, 1) := dk_43 (dk_at dksL_law_27 3 rfl rfl)
theorem dL_law_753 : decode cL_law 753 = .ok (.aload_n 3, 1) := dk_45 (dk_at dksL_law_27 4 rfl rfl)
theorem dL_law_754 : decode cL_law 754 = .ok (.invokestatic 142, 3) := dk_184 0 142 (dk_at dksL_law_27 5 rfl rfl)
theorem dL_law_757 : decode cL_law 757 = .ok (.istore 5, 2) := dk_54 5 (dk_at dksL_law_27 8 rfl rfl)
theorem dL_law_759 : decode cL_law 759 = .ok (.aload_n 2, 1) := dk_44 (dk_at dksL_law_27 10 rfl rfl)
theorem dL_law_760 : decode cL_law 760 = .ok (.invokevirtual 145, 3) := dk_182 0 145 (dk_at dksL_law_27 11 rfl rfl)
theorem dL_law_763 : decode cL_law 763 = .ok (.istore 6, 2) := dk_54 6 (dk_at dksL_law_27 14 rfl rfl)
theorem dL_law_765 : decode cL_law 765 = .ok (.aload_n 2, 1) := dk_44 (dk_at dksL_law_27 16 rfl rfl)
theorem dL_law_766 : decode cL_law 766 = .ok (.invokevirtual 121, 3) := dk_182 0 121 (dk_at dksL_law_27 17 rfl rfl)
theorem dL_law_769 : decode cL_law 769 = .ok (.iload 5, 2) := dk_21 5 (dk_at dksL_law_27 20 rfl rfl)
theorem dL_law_771 : decode cL_law 771 = .ok (.if_icmp .eq 5, 3) := dk_159 0 5 (dk_at dksL_law_28 0 rfl rfl)
theorem dL_law_774 : decode cL_law 774 = .ok (.iconst 0, 1) := dk_3 (dk_at dksL_law_28 3 rfl rfl)
theorem dL_law_775 : decode cL_law 775 = .ok (.ireturn, 1) := dk_172 (dk_at dksL_law_28 4 rfl rfl)
theorem dL_law_776 : decode cL_law 776 = .ok (.iload 5, 2) := dk_21 5 (dk_at dksL_law_28 5 rfl rfl)
theorem dL_law_778 : decode cL_law 778 = .ok (.ifCond .ne 15, 3) := dk_154 0 15 (dk_at dksL_law_28 7 rfl rfl)
theorem dL_law_781 : decode cL_law 781 = .ok (.aload_n 3, 1) := dk_45 (dk_at dksL_law_28 10 rfl rfl)
theorem dL_law_782 : decode cL_law 782 = .ok (.iconst 0, 1) := dk_3 (dk_at dksL_law_28 11 rfl rfl)
theorem dL_law_783 : decode cL_law 783 = .ok (.laload, 1) := dk_47 (dk_at dksL_law_28 12 rfl rfl)
theorem dL_law_784 : decode cL_law 784 = .ok (.iload 6, 2) := dk_21 6 (dk_at dksL_law_28 13 rfl rfl)
theorem dL_law_786 : decode cL_law 786 = .ok (.i2l, 1) := dk_133 (dk_at dksL_law_28 15 rfl rfl)
theorem dL_law_787 : decode cL_law 787 = .ok (.lcmp, 1) := dk_148 (dk_at dksL_law_28 16 rfl rfl)
theorem dL_law_788 : decode cL_law 788 = .ok (.ifCond .eq 5, 3) := dk_153 0 5 (dk_at dksL_law_28 17 rfl rfl)
theorem dL_law_791 : decode cL_law 791 = .ok (.iconst 0, 1) := dk_3 (dk_at dksL_law_28 20 rfl rfl)
theorem dL_law_792 : decode cL_law 792 = .ok (.ireturn, 1) := dk_172 (dk_at dksL_law_28 21 rfl rfl)
theorem dL_law_793 : decode cL_law 793 = .ok (.goto 1574, 3) := dk_167 6 38 (dk_at dksL_law_29 0 rfl rfl)
theorem dL_law_796 : decode cL_law 796 = .ok (.aload_n 1, 1) := dk_43 (dk_at dksL_law_29 3 rfl rfl)
theorem dL_law_797 : decode cL_law 797 = .ok (.aload_n 0, 1) := dk_42 (dk_at dksL_law_29 4 rfl rfl)
theorem dL_law_798 : decode cL_law 798 = .ok (.iload 4, 2) := dk_21 4 (dk_at dksL_law_29 5 rfl rfl)
theorem dL_law_800 : decode cL_law 800 = .ok (.iconst 1, 1) := dk_4 (dk_at dksL_law_29 7 rfl rfl)
theorem dL_law_801 : decode cL_law 801 = .ok (.iadd, 1) := dk_96 (dk_at dksL_law_29 8 rfl rfl)
theorem dL_law_802 : decode cL_law 802 = .ok (.iaload, 1) := dk_46 (dk_at dksL_law_29 9 rfl rfl)
theorem dL_law_803 : decode cL_law 803 = .ok (.aload_n 0, 1) := dk_42 (dk_at dksL_law_29 10 rfl rfl)
theorem dL_law_804 : decode cL_law 804 = .ok (.iload 4, 2) := dk_21 4 (dk_at dksL_law_29 11 rfl rfl)
theorem dL_law_806 : decode cL_law 806 = .ok (.iconst 2, 1) := dk_5 (dk_at dksL_law_29 13 rfl rfl)
theorem dL_law_807 : decode cL_law 807 = .ok (.iadd, 1) := dk_96 (dk_at dksL_law_29 14 rfl rfl)
theorem dL_law_808 : decode cL_law 808 = .ok (.iaload, 1) := dk_46 (dk_at dksL_law_29 15 rfl rfl)
theorem dL_law_809 : decode cL_law 809 = .ok (.aload_n 0, 1) := dk_42 (dk_at dksL_law_29 16 rfl rfl)
theorem dL_law_810 : decode cL_law 810 = .ok (.iload 4, 2) := dk_21 4 (dk_at dksL_law_29 17 rfl rfl)
theorem dL_law_812 : decode cL_law 812 = .ok (.iconst 3, 1) := dk_6 (dk_at dksL_law_29 19 rfl rfl)
theorem dL_law_813 : decode cL_law 813 = .ok (.iadd, 1) := dk_96 (dk_at dksL_law_29 20 rfl rfl)
theorem dL_law_814 : decode cL_law 814 = .ok (.iaload, 1) := dk_46 (dk_at dksL_law_29 21 rfl rfl)
theorem dL_law_815 : decode cL_law 815 = .ok (.aload_n 0, 1) := dk_42 (dk_at dksL_law_29 22 rfl rfl)
theorem dL_law_816 : decode cL_law 816 = .ok (.iload 4, 2) := dk_21 4 (dk_at dksL_law_30 0 rfl rfl)
theorem dL_law_818 : decode cL_law 818 = .ok (.iconst 4, 1) := dk_7 (dk_at dksL_law_30 2 rfl rfl)
theorem dL_law_819 : decode cL_law 819 = .ok (.iadd, 1) := dk_96 (dk_at dksL_law_30 3 rfl rfl)
theorem dL_law_820 : decode cL_law 820 = .ok (.iaload, 1) := dk_46 (dk_at dksL_law_30 4 rfl rfl)
theorem dL_law_821 : decode cL_law 821 = .ok (.ifCond .eq 7, 3) := dk_153 0 7 (dk_at dksL_law_30 5 rfl rfl)
theorem dL_law_824 : decode cL_law 824 = .ok (.iconst 1, 1) := dk_4 (dk_at dksL_law_30 8 rfl rfl)
theorem dL_law_825 : decode cL_law 825 = .ok (.goto 4, 3) := dk_167 0 4 (dk_at dksL_law_30 9 rfl rfl)
theorem dL_law_828 : decode cL_law 828 = .ok (.iconst 0, 1) := dk_3 (dk_at dksL_law_30 12 rfl rfl)
theorem dL_law_829 : decode cL_law 829 = .ok (.aload_n 0, 1) := dk_42 (dk_at dksL_law_30 13 rfl rfl)
theorem dL_law_830 : decode cL_law 830 = .ok (.iload 4, 2) := dk_21 4 (dk_at dksL_law_30 14 rfl rfl)
theorem dL_law_832 : decode cL_law 832 = .ok (.iconst 5, 1) := dk_8 (dk_at dksL_law_30 16 rfl rfl)
theorem dL_law_833 : decode cL_law 833 = .ok (.iadd, 1) := dk_96 (dk_at dksL_law_30 17 rfl rfl)
theorem dL_law_834 : decode cL_law 834 = .ok (.iaload, 1) := dk_46 (dk_at dksL_law_30 18 rfl rfl)
theorem dL_law_835 : decode cL_law 835 = .ok (.aload_n 0, 1) := dk_42 (dk_at dksL_law_30 19 rfl rfl)
theorem dL_law_836 : decode cL_law 836 = .ok (.iload 4, 2) := dk_21 4 (dk_at dksL_law_30 20 rfl rfl)
theorem dL_law_838 : decode cL_law 838 = .ok (.bipush 6, 2) := dk_16 6 (dk_at dksL_law_30 22 rfl rfl)
theorem dL_law_840 : decode cL_law 840 = .ok (.iadd, 1) := dk_96 (dk_at dksL_law_31 0 rfl rfl)
theorem dL_law_841 : decode cL_law 841 = .ok (.iaload, 1) := dk_46 (dk_at dksL_law_31 1 rfl rfl)
theorem dL_law_842 : decode cL_law 842 = .ok (.aload_n 3, 1) := dk_45 (dk_at dksL_law_31 2 rfl rfl)
theorem dL_law_843 : decode cL_law 843 = .ok (.invokestatic 146, 3) := dk_184 0 146 (dk_at dksL_law_31 3 rfl rfl)
theorem dL_law_846 : decode cL_law 846 = .ok (.istore 5, 2) := dk_54 5 (dk_at dksL_law_31 6 rfl rfl)
theorem dL_law_848 : decode cL_law 848 = .ok (.aload_n 2, 1) := dk_44 (dk_at dksL_law_31 8 rfl rfl)
theorem dL_law_849 : decode cL_law 849 = .ok (.aload_n 0, 1) := dk_42 (dk_at dksL_law_31 9 rfl rfl)
theorem dL_law_850 : decode cL_law 850 = .ok (.iload 4, 2) := dk_21 4 (dk_at dksL_law_31 10 rfl rfl)
theorem dL_law_852 : decode cL_law 852 = .ok (.iconst 1, 1) := dk_4 (dk_at dksL_law_31 12 rfl rfl)
theorem dL_law_853 : decode cL_law 853 = .ok (.iadd, 1) := dk_96 (dk_at dksL_law_31 13 rfl rfl)
theorem dL_law_854 : decode cL_law 854 = .ok (.iaload, 1) := dk_46 (dk_at dksL_law_31 14 rfl rfl)
theorem dL_law_855 : decode cL_law 855 = .ok (.aload_n 0, 1) := dk_42 (dk_at dksL_law_31 15 rfl rfl)
theorem dL_law_856 : decode cL_law 856 = .ok (.iload 4, 2) := dk_21 4 (dk_at dksL_law_31 16 rfl rfl)
theorem dL_law_858 : decode cL_law 858 = .ok (.iconst 2, 1) := dk_5 (dk_at dksL_law_31 18 rfl rfl)
theorem dL_law_859 : decode cL_law 859 = .ok (.iadd, 1) := dk_96 (dk_at dksL_law_31 19 rfl rfl)
theorem dL_law_860 : decode cL_law 860 = .ok (.iaload, 1) := dk_46 (dk_at dksL_law_31 20 rfl rfl)
theorem dL_law_861 : decode cL_law 861 = .ok (.aload_n 0, 1) := dk_42 (dk_at dksL_law_31 21 rfl rfl)
theorem dL_law_862 : decode cL_law 862 = .ok (.iload 4, 2) := dk_21 4 (dk_at dksL_law_31 22 rfl rfl)
theorem dL_law_864 : decode cL_law 864 = .ok (.iconst 3, 1) := dk_6 (dk_at dksL_law_32 0 rfl rfl)
theorem dL_law_865 : decode cL_law 865 = .ok (.iadd, 1) := dk_96 (dk_at dksL_law_32 1 rfl rfl)
theorem dL_law_866 : decode cL_law 866 = .ok (.iaload, 1) := dk_46 (dk_at dksL_law_32 2 rfl rfl)
theorem dL_law_867 : decode cL_law 867 = .ok (.aload_n 0, 1) := dk_42 (dk_at dksL_law_32 3 rfl rfl)
theorem dL_law_868 : decode cL_law 868 = .ok (.iload 4, 2) := dk_21 4 (dk_at dksL_law_32 4 rfl rfl)
theorem dL_law_870 : decode cL_law 870 = .ok (.iconst 4, 1) := dk_7 (dk_at dksL_law_32 6 rfl rfl)
theorem dL_law_871 : decode cL_law 871 = .ok (.iadd, 1) := dk_96 (dk_at dksL_law_32 7 rfl rfl)
theorem dL_law_872 : decode cL_law 872 = .ok (.iaload, 1) := dk_46 (dk_at dksL_law_32 8 rfl rfl)
theorem dL_law_873 : decode cL_law 873 = .ok (.ifCond .eq 7, 3) := dk_153 0 7 (dk_at dksL_law_32 9 rfl rfl)
theorem dL_law_876 : decode cL_law 876 = .ok (.iconst 1, 1) := dk_4 (dk_at dksL_law_32 12 rfl rfl)
theorem dL_law_877 : decode cL_law 877 = .ok (.goto 4, 3) := dk_167 0 4 (dk_at dksL_law_32 13 rfl rfl)
theorem dL_law_880 : decode cL_law 880 = .ok (.iconst 0, 1) := dk_3 (dk_at dksL_law_32 16 rfl rfl)
theorem dL_law_881 : decode cL_law 881 = .ok (.aload_n 0, 1) := dk_42 (dk_at dksL_law_32 17 rfl rfl)
theorem dL_law_882 : decode cL_law 882 = .ok (.iload 4, 2) := dk_21 4 (dk_at dksL_law_32 18 rfl rfl)
theorem dL_law_884 : decode cL_law 884 = .ok (.iconst 5, 1) := dk_8 (dk_at dksL_law_32 20 rfl rfl)
theorem dL_law_885 : decode cL_law 885 = .ok (.iadd, 1) := dk_96 (dk_at dksL_law_32 21 rfl rfl)
theorem dL_law_886 : decode cL_law 886 = .ok (.iaload, 1) := dk_46 (dk_at dksL_law_32 22 rfl rfl)
theorem dL_law_887 : decode cL_law 887 = .ok (.aload_n 0, 1) := dk_42 (dk_at dksL_law_32 23 rfl rfl)
theorem dL_law_888 : decode cL_law 888 = .ok (.iload 4, 2) := dk_21 4 (dk_at dksL_law_33 0 rfl rfl)
theorem dL_law_890 : decode cL_law 890 = .ok (.bipush 6, 2) := dk_16 6 (dk_at dksL_law_33 2 rfl rfl)
theorem dL_law_892 : decode cL_law 892 = .ok (.iadd, 1) := dk_96 (dk_at dksL_law_33 4 rfl rfl)
theorem dL_law_893 : decode cL_law 893 = .ok (.iaload, 1) := dk_46 (dk_at dksL_law_33 5 rfl rfl)
theorem dL_law_894 : decode cL_law 894 = .ok (.invokevirtual 148, 3) := dk_182 0 148 (dk_at dksL_law_33 6 rfl rfl)
theorem dL_law_897 : decode cL_law 897 = .ok (.istore 6, 2) := dk_54 6 (dk_at dksL_law_33 9 rfl rfl)
theorem dL_law_899 : decode cL_law 899 = .ok (.aload_n 2, 1) := dk_44 (dk_at dksL_law_33 11 rfl rfl)
theorem dL_law_900 : decode cL_law 900 = .ok (.invokevirtual 121, 3) := dk_182 0 121 (dk_at dksL_law_33 12 rfl rfl)
theorem dL_law_903 : decode cL_law 903 = .ok (.iload 5, 2) := dk_21 5 (dk_at dksL_law_33 15 rfl rfl)
theorem dL_law_905 : decode cL_law 905 = .ok (.if_icmp .eq 5, 3) := dk_159 0 5 (dk_at dksL_law_33 17 rfl rfl)
theorem dL_law_908 : decode cL_law 908 = .ok (.iconst 0, 1) := dk_3 (dk_at dksL_law_33 20 rfl rfl)
theorem dL_law_909 : decode cL_law 909 = .ok (.ireturn, 1) := dk_172 (dk_at dksL_law_33 21 rfl rfl)
theorem dL_law_910 : decode cL_law 910 = .ok (.iload 5, 2) := dk_21 5 (dk_at dksL_law_33 22 rfl rfl)
theorem dL_law_912 : decode cL_law 912 = .ok (.ifCond .ne 15, 3) := dk_154 0 15 (dk_at dksL_law_34 0 rfl rfl)
theorem dL_law_915 : decode cL_law 915 = .ok (.aload_n 3, 1) := dk_45 (dk_at dksL_law_34 3 rfl rfl)
theorem dL_law_916 : decode cL_law 916 = .ok (.iconst 0, 1) := dk_3 (dk_at dksL_law_34 4 rfl rfl)
theorem dL_law_917 : decode cL_law 917 = .ok (.laload, 1) := dk_47 (dk_at dksL_law_34 5 rfl rfl)
theorem dL_law_918 : decode cL_law 918 = .ok (.iload 6, 2) := dk_21 6 (dk_at dksL_law_34 6 rfl rfl)
theorem dL_law_920 : decode cL_law 920 = .ok (.i2l, 1) := dk_133 (dk_at dksL_law_34 8 rfl rfl)
theorem dL_law_921 : decode cL_law 921 = .ok (.lcmp, 1) := dk_148 (dk_at dksL_law_34 9 rfl rfl)
theorem dL_law_922 : decode cL_law 922 = .ok (.ifCond .eq 5, 3) := dk_153 0 5 (dk_at dksL_law_34 10 rfl rfl)
theorem dL_law_925 : decode cL_law 925 = .ok (.iconst 0, 1) := dk_3 (dk_at dksL_law_34 13 rfl rfl)
theorem dL_law_926 : decode cL_law 926 = .ok (.ireturn, 1) := dk_172 (dk_at dksL_law_34 14 rfl rfl)
theorem dL_law_927 : decode cL_law 927 = .ok (.goto 1440, 3) := dk_167 5 160 (dk_at dksL_law_34 15 rfl rfl)
theorem dL_law_930 : decode cL_law 930 = .ok (.aload_n 1, 1) := dk_43 (dk_at dksL_law_34 18 rfl rfl)
theorem dL_law_931 : decode cL_law 931 = .ok (.aload_n 0, 1) := dk_42 (dk_at dksL_law_34 19 rfl rfl)
theorem dL_law_932 : decode cL_law 932 = .ok (.iload 4, 2) := dk_21 4 (dk_at dksL_law_34 20 rfl rfl)
theorem dL_law_934 : decode cL_law 934 = .ok (.iconst 1, 1) := dk_4 (dk_at dksL_law_34 22 rfl rfl)
theorem dL_law_935 : decode cL_law 935 = .ok (.iadd, 1) := dk_96 (dk_at dksL_law_34 23 rfl rfl)
theorem dL_law_936 : decode cL_law 936 = .ok (.iaload, 1) := dk_46 (dk_at dksL_law_35 0 rfl rfl)
theorem dL_law_937 : decode cL_law 937 = .ok (.aload_n 3, 1) := dk_45 (dk_at dksL_law_35 1 rfl rfl)
theorem dL_law_938 : decode cL_law 938 = .ok (.invokestatic 149, 3) := dk_184 0 149 (dk_at dksL_law_35 2 rfl rfl)
theorem dL_law_941 : decode cL_law 941 = .ok (.istore 5, 2) := dk_54 5 (dk_at dksL_law_35 5 rfl rfl)
theorem dL_law_943 : decode cL_law 943 = .ok (.aload_n 2, 1) := dk_44 (dk_at dksL_law_35 7 rfl rfl)
theorem dL_law_944 : decode cL_law 944 = .ok (.aload_n 0, 1) := dk_42 (dk_at dksL_law_35 8 rfl rfl)
theorem dL_law_945 : decode cL_law 945 = .ok (.iload 4, 2) := dk_21 4 (dk_at dksL_law_35 9 rfl rfl)
theorem dL_law_947 : decode cL_law 947 = .ok (.iconst 1, 1) := dk_4 (dk_at dksL_law_35 11 rfl rfl)
theorem dL_law_948 : decode cL_law 948 = .ok (.iadd, 1) := dk_96 (dk_at dksL_law_35 12 rfl rfl)
theorem dL_law_949 : decode cL_law 949 = .ok (.iaload, 1) := dk_46 (dk_at dksL_law_35 13 rfl rfl)
theorem dL_law_950 : decode cL_law 950 = .ok (.invokevirtual 152, 3) := dk_182 0 152 (dk_at dksL_law_35 14 rfl rfl)
theorem dL_law_953 : decode cL_law 953 = .ok (.istore 6, 2) := dk_54 6 (dk_at dksL_law_35 17 rfl rfl)
theorem dL_law_955 : decode cL_law 955 = .ok (.aload_n 2, 1) := dk_44 (dk_at dksL_law_35 19 rfl rfl)
theorem dL_law_956 : decode cL_law 956 = .ok (.invokevirtual 121, 3) := dk_182 0 121 (dk_at dksL_law_35 20 rfl rfl)
theorem dL_law_959 : decode cL_law 959 = .ok (.iload 5, 2) := dk_21 5 (dk_at dksL_law_36 0 rfl rfl)
theorem dL_law_961 : decode cL_law 961 = .ok (.if_icmp .eq 5, 3) := dk_159 0 5 (dk_at dksL_law_36 2 rfl rfl)
theorem dL_law_964 : decode cL_law 964 = .ok (.iconst 0, 1) := dk_3 (dk_at dksL_law_36 5 rfl rfl)
theorem dL_law_965 : decode cL_law 965 = .ok (.ireturn, 1) := dk_172 (dk_at dksL_law_36 6 rfl rfl)
theorem dL_law_966 : decode cL_law 966 = .ok (.iload 5, 2) := dk_21 5 (dk_at dksL_law_36 7 rfl rfl)
theorem dL_law_968 : decode cL_law 968 = .ok (.ifCond .ne 15, 3) := dk_154 0 15 (dk_at dksL_law_36 9 rfl rfl)
theorem dL_law_971 : decode cL_law 971 = .ok (.aload_n 3, 1) := dk_45 (dk_at dksL_law_36 12 rfl rfl)
theorem dL_law_972 : decode cL_law 972 = .ok (.iconst 0, 1) := dk_3 (dk_at dksL_law_36 13 rfl rfl)
theorem dL_law_973 : decode cL_law 973 = .ok (.laload, 1) := dk_47 (dk_at dksL_law_36 14 rfl rfl)
theorem dL_law_974 : decode cL_law 974 = .ok (.iload 6, 2) := dk_21 6 (dk_at dksL_law_36 15 rfl rfl)
theorem dL_law_976 : decode cL_law 976 = .ok (.i2l, 1) := dk_133 (dk_at dksL_law_36 17 rfl rfl)
theorem dL_law_977 : decode cL_law 977 = .ok (.lcmp, 1) := dk_148 (dk_at dksL_law_36 18 rfl rfl)
theorem dL_law_978 : decode cL_law 978 = .ok (.ifCond .eq 5, 3) := dk_153 0 5 (dk_at dksL_law_36 19 rfl rfl)
theorem dL_law_981 : decode cL_law 981 = .ok (.iconst 0, 1) := dk_3 (dk_at dksL_law_36 22 rfl rfl)
theorem dL_law_982 : decode cL_law 982 = .ok (.ireturn, 1) := dk_172 (dk_at dksL_law_36 23 rfl rfl)
theorem dL_law_983 : decode cL_law 983 = .ok (.goto 1384, 3) := dk_167 5 104 (dk_at dksL_law_37 0 rfl rfl)
theorem dL_law_986 : decode cL_law 986 = .ok (.aload_n 1, 1) := dk_43 (dk_at dksL_law_37 3 rfl rfl)
theorem dL_law_987 : decode cL_law 987 = .ok (.aload_n 0, 1) := dk_42 (dk_at dksL_law_37 4 rfl rfl)
theorem dL_law_988 : decode cL_law 988 = .ok (.iload 4, 2) := dk_21 4 (dk_at dksL_law_37 5 rfl rfl)
theorem dL_law_990 : decode cL_law 990 = .ok (.iconst 1, 1) := dk_4 (dk_at dksL_law_37 7 rfl rfl)
theorem dL_law_991 : decode cL_law 991 = .ok (.iadd, 1) := dk_96 (dk_at dksL_law_37 8 rfl rfl)
theorem dL_law_992 : decode cL_law 992 = .ok (.iaload, 1) := dk_46 (dk_at dksL_law_37 9 rfl rfl)
theorem dL_law_993 : decode cL_law 993 = .ok (.aload_n 0, 1) := dk_42 (dk_at dksL_law_37 10 rfl rfl)
theorem dL_law_994 : decode cL_law 994 = .ok (.iload 4, 2) := dk_21 4 (dk_at dksL_law_37 11 rfl rfl)
theorem dL_law_996 : decode cL_law 996 = .ok (.iconst 2, 1) := dk_5 (dk_at dksL_law_37 13 rfl rfl)
theorem dL_law_997 : decode cL_law 997 = .ok (.iadd, 1) := dk_96 (dk_at dksL_law_37 14 rfl rfl)
theorem dL_law_998 : decode cL_law 998 = .ok (.iaload, 1) := dk_46 (dk_at dksL_law_37 15 rfl rfl)
theorem dL_law_999 : decode cL_law 999 = .ok (.aload_n 0, 1) := dk_42 (dk_at dksL_law_37 16 rfl rfl)
theorem dL_law_1000 : decode cL_law 1000 = .ok (.iload 4, 2) := dk_21 4 (dk_at dksL_law_37 17 rfl rfl)
theorem dL_law_1002 : decode cL_law 1002 = .ok (.iconst 3, 1) := dk_6 (dk_at dksL_law_37 19 rfl rfl)
theorem dL_law_1003 : decode cL_law 1003 = .ok (.iadd, 1) := dk_96 (dk_at dksL_law_37 20 rfl rfl)
theorem dL_law_1004 : decode cL_law 1004 = .ok (.iaload, 1) := dk_46 (dk_at dksL_law_37 21 rfl rfl)
theorem dL_law_1005 : decode cL_law 1005 = .ok (.ifCond .eq 7, 3) := dk_153 0 7 (dk_at dksL_law_38 0 rfl rfl)
theorem dL_law_1008 : decode cL_law 1008 = .ok (.iconst 1, 1) := dk_4 (dk_at dksL_law_38 3 rfl rfl)
theorem dL_law_1009 : decode cL_law 1009 = .ok (.goto 4, 3) := dk_167 0 4 (dk_at dksL_law_38 4 rfl rfl)
theorem dL_law_1012 : decode cL_law 1012 = .ok (.iconst 0, 1) := dk_3 (dk_at dksL_law_38 7 rfl rfl)
theorem dL_law_1013 : decode cL_law 1013 = .ok (.aload_n 0, 1) := dk_42 (dk_at dksL_law_38 8 rfl rfl)
theorem dL_law_1014 : decode cL_law 1014 = .ok (.iload 4, 2) := dk_21 4 (dk_at dksL_law_38 9 rfl rfl)
theorem dL_law_1016 : decode cL_law 1016 = .ok (.iconst 4, 1) := dk_7 (dk_at dksL_law_38 11 rfl rfl)
theorem dL_law_1017 : decode cL_law 1017 = .ok (.iadd, 1) := dk_96 (dk_at dksL_law_38 12 rfl rfl)
theorem dL_law_1018 : decode cL_law 1018 = .ok (.iaload, 1) := dk_46 (dk_at dksL_law_38 13 rfl rfl)
theorem dL_law_1019 : decode cL_law 1019 = .ok (.aload_n 0, 1) := dk_42 (dk_at dksL_law_38 14 rfl rfl)
theorem dL_law_1020 : decode cL_law 1020 = .ok (.iload 4, 2) := dk_21 4 (dk_at dksL_law_38 15 rfl rfl)
theorem dL_law_1022 : decode cL_law 1022 = .ok (.iconst 5, 1) := dk_8 (dk_at dksL_law_38 17 rfl rfl)
theorem dL_law_1023 : decode cL_law 1023 = .ok (.iadd, 1) := dk_96 (dk_at dksL_law_38 18 rfl rfl)
theorem dL_law_1024 : decode cL_law 1024 = .ok (.iaload, 1) := dk_46 (dk_at dksL_law_38 19 rfl rfl)
theorem dL_law_1025 : decode cL_law 1025 = .ok (.aload_n 3, 1) := dk_45 (dk_at dksL_law_38 20 rfl rfl)
theorem dL_law_1026 : decode cL_law 1026 = .ok (.invokestatic 153, 3) := dk_184 0 153 (dk_at dksL_law_38 21 rfl rfl)
theorem dL_law_1029 : decode cL_law 1029 = .ok (.istore 5, 2) := dk_54 5 (dk_at dksL_law_39 0 rfl rfl)
theorem dL_law_1031 : decode cL_law 1031 = .ok (.aload_n 2, 1) := dk_44 (dk_at dksL_law_39 2 rfl rfl)
theorem dL_law_1032 : decode cL_law 1032 = .ok (.aload_n 0, 1) := dk_42 (dk_at dksL_law_39 3 rfl rfl)
theorem dL_law_1033 : decode cL_law 1033 = .ok (.iload 4, 2) := dk_21 4 (dk_at dksL_law_39 4 rfl rfl)
theorem dL_law_1035 : decode cL_law 1035 = .ok (.iconst 1, 1) := dk_4 (dk_at dksL_law_39 6 rfl rfl)
theorem dL_law_1036 : decode cL_law 1036 = .ok (.iadd, 1) := dk_96 (dk_at dksL_law_39 7 rfl rfl)
theorem dL_law_1037 : decode cL_law 1037 = .ok (.iaload, 1) := dk_46 (dk_at dksL_law_39 8 rfl rfl)
theorem dL_law_1038 : decode cL_law 1038 = .ok (.aload_n 0, 1) := dk_42 (dk_at dksL_law_39 9 rfl rfl)
theorem dL_law_1039 : decode cL_law 1039 = .ok (.iload 4, 2) := dk_21 4 (dk_at dksL_law_39 10 rfl rfl)
theorem dL_law_1041 : decode cL_law 1041 = .ok (.iconst 2, 1) := dk_5 (dk_at dksL_law_39 12 rfl rfl)
theorem dL_law_1042 : decode cL_law 1042 = .ok (.iadd, 1) := dk_96 (dk_at dksL_law_39 13 rfl rfl)
theorem dL_law_1043 : decode cL_law 1043 = .ok (.iaload, 1) := dk_46 (dk_at dksL_law_39 14 rfl rfl)
theorem dL_law_1044 : decode cL_law 1044 = .ok (.aload_n 0, 1) := dk_42 (dk_at dksL_law_39 15 rfl rfl)
theorem dL_law_1045 : decode cL_law 1045 = .ok (.iload 4, 2) := dk_21 4 (dk_at dksL_law_39 16 rfl rfl)
theorem dL_law_1047 : decode cL_law 1047 = .ok (.iconst 3, 1) := dk_6 (dk_at dksL_law_39 18 rfl rfl)
theorem dL_law_1048 : decode cL_law 1048 = .ok (.iadd, 1) := dk_96 (dk_at dksL_law_39 19 rfl rfl)
theorem dL_law_1049 : decode cL_law 1049 = .ok (.iaload, 1) := dk_46 (dk_at dksL_law_39 20 rfl rfl)
theorem dL_law_1050 : decode cL_law 1050 = .ok (.ifCond .eq 7, 3) := dk_153 0 7 (dk_at dksL_law_39 21 rfl rfl)
theorem dL_law_1053 : decode cL_law 1053 = .ok (.iconst 1, 1) := dk_4 (dk_at dksL_law_40 0 rfl rfl)
theorem dL_law_1054 : decode cL_law 1054 = .ok (.goto 4, 3) := dk_167 0 4 (dk_at dksL_law_40 1 rfl rfl)
theorem dL_law_1057 : decode cL_law 1057 = .ok (.iconst 0, 1) := dk_3 (dk_at dksL_law_40 4 rfl rfl)
theorem dL_law_1058 : decode cL_law 1058 = .ok (.aload_n 0, 1) := dk_42 (dk_at dksL_law_40 5 rfl rfl)
theorem dL_law_1059 : decode cL_law 1059 = .ok (.iload 4, 2) := dk_21 4 (dk_at dksL_law_40 6 rfl rfl)
theorem dL_law_1061 : decode cL_law 1061 = .ok (.iconst 4, 1) := dk_7 (dk_at dksL_law_40 8 rfl rfl)
theorem dL_law_1062 : decode cL_law 1062 = .ok (.iadd, 1) := dk_96 (dk_at dksL_law_40 9 rfl rfl)
theorem dL_law_1063 : decode cL_law 1063 = .ok (.iaload, 1) := dk_46 (dk_at dksL_law_40 10 rfl rfl)
theorem dL_law_1064 : decode cL_law 1064 = .ok (.aload_n 0, 1) := dk_42 (dk_at dksL_law_40 11 rfl rfl)
theorem dL_law_1065 : decode cL_law 1065 = .ok (.iload 4, 2) := dk_21 4 (dk_at dksL_law_40 12 rfl rfl)
theorem dL_law_1067 : decode cL_law 1067 = .ok (.iconst 5, 1) := dk_8 (dk_at dksL_law_40 14 rfl rfl)
theorem dL_law_1068 : decode cL_law 1068 = .ok (.iadd, 1) := dk_96 (dk_at dksL_law_40 15 rfl rfl)
theorem dL_law_1069 : decode cL_law 1069 = .ok (.iaload, 1) := dk_46 (dk_at dksL_law_40 16 rfl rfl)
theorem dL_law_1070 : decode cL_law 1070 = .ok (.invokevirtual 156, 3) := dk_182 0 156 (dk_at dksL_law_40 17 rfl rfl)
theorem dL_law_1073 : decode cL_law 1073 = .ok (.istore 6, 2) := dk_54 6 (dk_at dksL_law_40 20 rfl rfl)
theorem dL_law_1075 : decode cL_law 1075 = .ok (.aload_n 2, 1) := dk_44 (dk_at dksL_law_40 22 rfl rfl)
theorem dL_law_1076 : decode cL_law 1076 = .ok (.invokevirtual 121, 3) := dk_182 0 121 (dk_at dksL_law_41 0 rfl rfl)
theorem dL_law_1079 : decode cL_law 1079 = .ok (.iload 5, 2) := dk_21 5 (dk_at dksL_law_41 3 rfl rfl)
theorem dL_law_1081 : decode cL_law 1081 = .ok (.if_icmp .eq 5, 3) := dk_159 0 5 (dk_at dksL_law_41 5 rfl rfl)
theorem dL_law_1084 : decode cL_law 1084 = .ok (.iconst 0, 1) := dk_3 (dk_at dksL_law_41 8 rfl rfl)
theorem dL_law_1085 : decode cL_law 1085 = .ok (.ireturn, 1) := dk_172 (dk_at dksL_law_41 9 rfl rfl)
theorem dL_law_1086 : decode cL_law 1086 = .ok (.iload 5, 2) := dk_21 5 (dk_at dksL_law_41 10 rfl rfl)
theorem dL_law_1088 : decode cL_law 1088 = .ok (.ifCond .ne 15, 3) := dk_154 0 15 (dk_at dksL_law_41 12 rfl rfl)
theorem dL_law_1091 : decode cL_law 1091 = .ok (.aload_n 3, 1) := dk_45 (dk_at dksL_law_41 15 rfl rfl)
theorem dL_law_1092 : decode cL_law 1092 = .ok (.iconst 0, 1) := dk_3 (dk_at dksL_law_41 16 rfl rfl)
theorem dL_law_1093 : decode cL_law 1093 = .ok (.laload, 1) := dk_47 (dk_at dksL_law_41 17 rfl rfl)
theorem dL_law_1094 : decode cL_law 1094 = .ok (.iload 6, 2) := dk_21 6 (dk_at dksL_law_41 18 rfl rfl)
theorem dL_law_1096 : decode cL_law 1096 = .ok (.i2l, 1) := dk_133 (dk_at dksL_law_41 20 rfl rfl)
theorem dL_law_1097 : decode cL_law 1097 = .ok (.lcmp, 1) := dk_148 (dk_at dksL_law_41 21 rfl rfl)
theorem dL_law_1098 : decode cL_law 1098 = .ok (.ifCond .eq 5, 3) := dk_153 0 5 (dk_at dksL_law_42 0 rfl rfl)
theorem dL_law_1101 : decode cL_law 1101 = .ok (.iconst 0, 1) := dk_3 (dk_at dksL_law_42 3 rfl rfl)
theorem dL_law_1102 : decode cL_law 1102 = .ok (.ireturn, 1) := dk_172 (dk_at dksL_law_42 4 rfl rfl)
theorem dL_law_1103 : decode cL_law 1103 = .ok (.goto 1264, 3) := dk_167 4 240 (dk_at dksL_law_42 5 rfl rfl)
theorem dL_law_1106 : decode cL_law 1106 = .ok (.aload_n 1, 1) := dk_43 (dk_at dksL_law_42 8 rfl rfl)
theorem dL_law_1107 : decode cL_law 1107 = .ok (.aload_n 3, 1) := dk_45 (dk_at dksL_law_42 9 rfl rfl)
theorem dL_law_1108 : decode cL_law 1108 = .ok (.invokestatic 157, 3) := dk_184 0 157 (dk_at dksL_law_42 10 rfl rfl)
theorem dL_law_1111 : decode cL_law 1111 = .ok (.istore 5, 2) := dk_54 5 (dk_at dksL_law_42 13 rfl rfl)
theorem dL_law_1113 : decode cL_law 1113 = .ok (.aload_n 2, 1) := dk_44 (dk_at dksL_law_42 15 rfl rfl)
theorem dL_law_1114 : decode cL_law 1114 = .ok (.invokevirtual 159, 3) := dk_182 0 159 (dk_at dksL_law_42 16 rfl rfl)
theorem dL_law_1117 : decode cL_law 1117 = .ok (.istore 6, 2) := dk_54 6 (dk_at dksL_law_42 19 rfl rfl)
theorem dL_law_1119 : decode cL_law 1119 = .ok (.aload_n 2, 1) := dk_44 (dk_at dksL_law_42 21 rfl rfl)
theorem dL_law_1120 : decode cL_law 1120 = .ok (.invokevirtual 121, 3) := dk_182 0 121 (dk_at dksL_law_43 0 rfl rfl)
theorem dL_law_1123 : decode cL_law 1123 = .ok (.iload 5, 2) := dk_21 5 (dk_at dksL_law_43 3 rfl rfl)
theorem dL_law_1125 : decode cL_law 1125 = .ok (.if_icmp .eq 5, 3) := dk_159 0 5 (dk_at dksL_law_43 5 rfl rfl)
theorem dL_law_1128 : decode cL_law 1128 = .ok (.iconst 0, 1) := dk_3 (dk_at dksL_law_43 8 rfl rfl)
theorem dL_law_1129 : decode cL_law 1129 = .ok (.ireturn, 1) := dk_172 (dk_at dksL_law_43 9 rfl rfl)
theorem dL_law_1130 : decode cL_law 1130 = .ok (.iload 5, 2) := dk_21 5 (dk_at dksL_law_43 10 rfl rfl)
theorem dL_law_1132 : decode cL_law 1132 = .ok (.ifCond .ne 15, 3) := dk_154 0 15 (dk_at dksL_law_43 12 rfl rfl)
theorem dL_law_1135 : decode cL_law 1135 = .ok (.aload_n 3, 1) := dk_45 (dk_at dksL_law_43 15 rfl rfl)
theorem dL_law_1136 : decode cL_law 1136 = .ok (.iconst 0, 1) := dk_3 (dk_at dksL_law_43 16 rfl rfl)
theorem dL_law_1137 : decode cL_law 1137 = .ok (.laload, 1) := dk_47 (dk_at dksL_law_43 17 rfl rfl)
theorem dL_law_1138 : decode cL_law 1138 = .ok (.iload 6, 2) := dk_21 6 (dk_at dksL_law_43 18 rfl rfl)
theorem dL_law_1140 : decode cL_law 1140 = .ok (.i2l, 1) := dk_133 (dk_at dksL_law_43 20 rfl rfl)
theorem dL_law_1141 : decode cL_law 1141 = .ok (.lcmp, 1) := dk_148 (dk_at dksL_law_43 21 rfl rfl)
theorem dL_law_1142 : decode cL_law 1142 = .ok (.ifCond .eq 5, 3) := dk_153 0 5 (dk_at dksL_law_44 0 rfl rfl)
theorem dL_law_1145 : decode cL_law 1145 = .ok (.iconst 0, 1) := dk_3 (dk_at dksL_law_44 3 rfl rfl)
theorem dL_law_1146 : decode cL_law 1146 = .ok (.ireturn, 1) := dk_172 (dk_at dksL_law_44 4 rfl rfl)
theorem dL_law_1147 : decode cL_law 1147 = .ok (.goto 1220, 3) := dk_167 4 196 (dk_at dksL_law_44 5 rfl rfl)
theorem dL_law_1150 : decode cL_law 1150 = .ok (.aload_n 1, 1) := dk_43 (dk_at dksL_law_44 8 rfl rfl)
theorem dL_law_1151 : decode cL_law 1151 = .ok (.aload_n 0, 1) := dk_42 (dk_at dksL_law_44 9 rfl rfl)
theorem dL_law_1152 : decode cL_law 1152 = .ok (.iload 4, 2) := dk_21 4 (dk_at dksL_law_44 10 rfl rfl)
theorem dL_law_1154 : decode cL_law 1154 = .ok (.iconst 1, 1) := dk_4 (dk_at dksL_law_44 12 rfl rfl)
theorem dL_law_1155 : decode cL_law 1155 = .ok (.iadd, 1) := dk_96 (dk_at dksL_law_44 13 rfl rfl)
theorem dL_law_1156 : decode cL_law 1156 = .ok (.iaload, 1) := dk_46 (dk_at dksL_law_44 14 rfl rfl)
theorem dL_law_1157 : decode cL_law 1157 = .ok (.aload_n 0, 1) := dk_42 (dk_at dksL_law_44 15 rfl rfl)
theorem dL_law_1158 : decode cL_law 1158 = .ok (.iload 4, 2) := dk_21 4 (dk_at dksL_law_44 16 rfl rfl)
theorem dL_law_1160 : decode cL_law 1160 = .ok (.iconst 2, 1) := dk_5 (dk_at dksL_law_44 18 rfl rfl)
theorem dL_law_1161 : decode cL_law 1161 = .ok (.iadd, 1) := dk_96 (dk_at dksL_law_44 19 rfl rfl)
theorem dL_law_1162 : decode cL_law 1162 = .ok (.iaload, 1) := dk_46 (dk_at dksL_law_44 20 rfl rfl)
theorem dL_law_1163 : decode cL_law 1163 = .ok (.aload_n 0, 1) := dk_42 (dk_at dksL_law_44 21 rfl rfl)
theorem dL_law_1164 : decode cL_law 1164 = .ok (.iload 4, 2) := dk_21 4 (dk_at dksL_law_44 22 rfl rfl)
theorem dL_law_1166 : decode cL_law 1166 = .ok (.iconst 3, 1) := dk_6 (dk_at dksL_law_45 0 rfl rfl)
theorem dL_law_1167 : decode cL_law 1167 = .ok (.iadd, 1) := dk_96 (dk_at dksL_law_45 1 rfl rfl)
theorem dL_law_1168 : decode cL_law 1168 = .ok (.iaload, 1) := dk_46 (dk_at dksL_law_45 2 rfl rfl)
theorem dL_law_1169 : decode cL_law 1169 = .ok (.aload_n 0, 1) := dk_42 (dk_at dksL_law_45 3 rfl rfl)
theorem dL_law_1170 : decode cL_law 1170 = .ok (.iload 4, 2) := dk_21 4 (dk_at dksL_law_45 4 rfl rfl)
theorem dL_law_1172 : decode cL_law 1172 = .ok (.iconst 4, 1) := dk_7 (dk_at dksL_law_45 6 rfl rfl)
theorem dL_law_1173 : decode cL_law 1173 = .ok (.iadd, 1) := dk_96 (dk_at dksL_law_45 7 rfl rfl)
theorem dL_law_1174 : decode cL_law 1174 = .ok (.iaload, 1) := dk_46 (dk_at dksL_law_45 8 rfl rfl)
theorem dL_law_1175 : decode cL_law 1175 = .ok (.aload_n 0, 1) := dk_42 (dk_at dksL_law_45 9 rfl rfl)
theorem dL_law_1176 : decode cL_law 1176 = .ok (.iload 4, 2) := dk_21 4 (dk_at dksL_law_45 10 rfl rfl)
theorem dL_law_1178 : decode cL_law 1178 = .ok (.iconst 5, 1) := dk_8 (dk_at dksL_law_45 12 rfl rfl)
theorem dL_law_1179 : decode cL_law 1179 = .ok (.iadd, 1) := dk_96 (dk_at dksL_law_45 13 rfl rfl)
theorem dL_law_1180 : decode cL_law 1180 = .ok (.iaload, 1) := dk_46 (dk_at dksL_law_45 14 rfl rfl)
theorem dL_law_1181 : decode cL_law 1181 = .ok (.aload_n 3, 1) := dk_45 (dk_at dksL_law_45 15 rfl rfl)
theorem dL_law_1182 : decode cL_law 1182 = .ok (.invokestatic 160, 3) := dk_184 0 160 (dk_at dksL_law_45 16 rfl rfl)
theorem dL_law_1185 : decode cL_law 1185 = .ok (.istore 5, 2) := dk_54 5 (dk_at dksL_law_45 19 rfl rfl)
theorem dL_law_1187 : decode cL_law 1187 = .ok (.aload_n 2, 1) := dk_44 (dk_at dksL_law_45 21 rfl rfl)
theorem dL_law_1188 : decode cL_law 1188 = .ok (.aload_n 0, 1) := dk_42 (dk_at dksL_law_45 22 rfl rfl)
theorem dL_law_1189 : decode cL_law 1189 = .ok (.iload 4, 2) := dk_21 4 (dk_at dksL_law_46 0 rfl rfl)
theorem dL_law_1191 : decode cL_law 1191 = .ok (.iconst 1, 1) := dk_4 (dk_at dksL_law_46 2 rfl rfl)
theorem dL_law_1192 : decode cL_law 1192 = .ok (.iadd, 1) := dk_96 (dk_at dksL_law_46 3 rfl rfl)
theorem dL_law_1193 : decode cL_law 1193 = .ok (.iaload, 1) := dk_46 (dk_at dksL_law_46 4 rfl rfl)
theorem dL_law_1194 : decode cL_law 1194 = .ok (.aload_n 0, 1) := dk_42 (dk_at dksL_law_46 5 rfl rfl)
theorem dL_law_1195 : decode cL_law 1195 = .ok (.iload 4, 2) := dk_21 4 (dk_at dksL_law_46 6 rfl rfl)
theorem dL_law_1197 : decode cL_law 1197 = .ok (.iconst 2, 1) := dk_5 (dk_at dksL_law_46 8 rfl rfl)
theorem dL_law_1198 : decode cL_law 1198 = .ok (.iadd, 1) := dk_96 (dk_at dksL_law_46 9 rfl rfl)
theorem dL_law_1199 : decode cL_law 1199 = .ok (.iaload, 1) := dk_46 (dk_at dksL_law_46 10 rfl rfl)
theorem dL_law_1200 : decode cL_law 1200 = .ok (.aload_n 0, 1) := dk_42 (dk_at dksL_law_46 11 rfl rfl)
theorem dL_law_1201 : decode cL_law 1201 = .ok (.iload 4, 2) := dk_21 4 (dk_at dksL_law_46 12 rfl rfl)
theorem dL_law_1203 : decode cL_law 1203 = .ok (.iconst 3, 1) := dk_6 (dk_at dksL_law_46 14 rfl rfl)
theorem dL_law_1204 : decode cL_law 1204 = .ok (.iadd, 1) := dk_96 (dk_at dksL_law_46 15 rfl rfl)
theorem dL_law_1205 : decode cL_law 1205 = .ok (.iaload, 1) := dk_46 (dk_at dksL_law_46 16 rfl rfl)
theorem dL_law_1206 : decode cL_law 1206 = .ok (.aload_n 0, 1) := dk_42 (dk_at dksL_law_46 17 rfl rfl)
theorem dL_law_1207 : decode cL_law 1207 = .ok (.iload 4, 2) := dk_21 4 (dk_at dksL_law_46 18 rfl rfl)
theorem dL_law_1209 : decode cL_law 1209 = .ok (.iconst 4, 1) := dk_7 (dk_at dksL_law_46 20 rfl rfl)
theorem dL_law_1210 : decode cL_law 1210 = .ok (.iadd, 1) := dk_96 (dk_at dksL_law_46 21 rfl rfl)
theorem dL_law_1211 : decode cL_law 1211 = .ok (.iaload, 1) := dk_46 (dk_at dksL_law_46 22 rfl rfl)
theorem dL_law_1212 : decode cL_law 1212 = .ok (.aload_n 0, 1) := dk_42 (dk_at dksL_law_46 23 rfl rfl)
theorem dL_law_1213 : decode cL_law 1213 = .ok (.iload 4, 2) := dk_21 4 (dk_at dksL_law_47 0 rfl rfl)
theorem dL_law_1215 : decode cL_law 1215 = .ok (.iconst 5, 1) := dk_8 (dk_at dksL_law_47 2 rfl rfl)
theorem dL_law_1216 : decode cL_law 1216 = .ok (.iadd, 1) := dk_96 (dk_at dksL_law_47 3 rfl rfl)
theorem dL_law_1217 : decode cL_law 1217 = .ok (.iaload, 1) := dk_46 (dk_at dksL_law_47 4 rfl rfl)
theorem dL_law_1218 : decode cL_law 1218 = .ok (.invokevirtual 162, 3) := dk_182 0 162 (dk_at dksL_law_47 5 rfl rfl)
theorem dL_law_1221 : decode cL_law 1221 = .ok (.istore 6, 2) := dk_54 6 (dk_at dksL_law_47 8 rfl rfl)
theorem dL_law_1223 : decode cL_law 1223 = .ok (.aload_n 2, 1) := dk_44 (dk_at dksL_law_47 10 rfl rfl)
theorem dL_law_1224 : decode cL_law 1224 = .ok (.invokevirtual 121, 3) := dk_182 0 121 (dk_at dksL_law_47 11 rfl rfl)
theorem dL_law_1227 : decode cL_law 1227 = .ok (.iload 5, 2) := dk_21 5 (dk_at dksL_law_47 14 rfl rfl)
theorem dL_law_1229 : decode cL_law 1229 = .ok (.if_icmp .eq 5, 3) := dk_159 0 5 (dk_at dksL_law_47 16 rfl rfl)
theorem dL_law_1232 : decode cL_law 1232 = .ok (.iconst 0, 1) := dk_3 (dk_at dksL_law_47 19 rfl rfl)
theorem dL_law_1233 : decode cL_law 1233 = .ok (.ireturn, 1) := dk_172 (dk_at dksL_law_47 20 rfl rfl)
theorem dL_law_1234 : decode cL_law 1234 = .ok (.iload 5, 2) := dk_21 5 (dk_at dksL_law_47 21 rfl rfl)
theorem dL_law_1236 : decode cL_law 1236 = .ok (.ifCond .ne 15, 3) := dk_154 0 15 (dk_at dksL_law_48 0 rfl rfl)
theorem dL_law_1239 : decode cL_law 1239 = .ok (.aload_n 3, 1) := dk_45 (dk_at dksL_law_48 3 rfl rfl)
theorem dL_law_1240 : decode cL_law 1240 = .ok (.iconst 0, 1) := dk_3 (dk_at dksL_law_48 4 rfl rfl)
theorem dL_law_1241 : decode cL_law 1241 = .ok (.laload, 1) := dk_47 (dk_at dksL_law_48 5 rfl rfl)
theorem dL_law_1242 : decode cL_law 1242 = .ok (.iload 6, 2) := dk_21 6 (dk_at dksL_law_48 6 rfl rfl)
theorem dL_law_1244 : decode cL_law 1244 = .ok (.i2l, 1) := dk_133 (dk_at dksL_law_48 8 rfl rfl)
theorem dL_law_1245 : decode cL_law 1245 = .ok (.lcmp, 1) := dk_148 (dk_at dksL_law_48 9 rfl rfl)
theorem dL_law_1246 : decode cL_law 1246 = .ok (.ifCond .eq 5, 3) := dk_153 0 5 (dk_at dksL_law_48 10 rfl rfl)
theorem dL_law_1249 : decode cL_law 1249 = .ok (.iconst 0, 1) := dk_3 (dk_at dksL_law_48 13 rfl rfl)
theorem dL_law_1250 : decode cL_law 1250 = .ok (.ireturn, 1) := dk_172 (dk_at dksL_law_48 14 rfl rfl)
theorem dL_law_1251 : decode cL_law 1251 = .ok (.goto 1116, 3) := dk_167 4 92 (dk_at dksL_law_48 15 rfl rfl)
theorem dL_law_1254 : decode cL_law 1254 = .ok (.aload_n 1, 1) := dk_43 (dk_at dksL_law_48 18 rfl rfl)
theorem dL_law_1255 : decode cL_law 1255 = .ok (.aload_n 0, 1) := dk_42 (dk_at dksL_law_48 19 rfl rfl)
theorem dL_law_1256 : decode cL_law 1256 = .ok (.iload 4, 2) := dk_21 4 (dk_at dksL_law_48 20 rfl rfl)
theorem dL_law_1258 : decode cL_law 1258 = .ok (.iconst 1, 1) := dk_4 (dk_at dksL_law_48 22 rfl rfl)
theorem dL_law_1259 : decode cL_law 1259 = .ok (.iadd, 1) := dk_96 (dk_at dksL_law_48 23 rfl rfl)
theorem dL_law_1260 : decode cL_law 1260 = .ok (.iaload, 1) := dk_46 (dk_at dksL_law_49 0 rfl rfl)
theorem dL_law_1261 : decode cL_law 1261 = .ok (.aload_n 3, 1) := dk_45 (dk_at dksL_law_49 1 rfl rfl)
theorem dL_law_1262 : decode cL_law 1262 = .ok (.invokestatic 163, 3) := dk_184 0 163 (dk_at dksL_law_49 2 rfl rfl)
theorem dL_law_1265 : decode cL_law 1265 = .ok (.istore 5, 2) := dk_54 5 (dk_at dksL_law_49 5 rfl rfl)
theorem dL_law_1267 : decode cL_law 1267 = .ok (.aload_n 2, 1) := dk_44 (dk_at dksL_law_49 7 rfl rfl)
theorem dL_law_1268 : decode cL_law 1268 = .ok (.aload_n 0, 1) := dk_42 (dk_at dksL_law_49 8 rfl rfl)
theorem dL_law_1269 : decode cL_law 1269 = .ok (.iload 4, 2) := dk_21 4 (dk_at dksL_law_49 9 rfl rfl)
theorem dL_law_1271 : decode cL_law 1271 = .ok (.iconst 1, 1) := dk_4 (dk_at dksL_law_49 11 rfl rfl)
theorem dL_law_1272 : decode cL_law 1272 = .ok (.iadd, 1) := dk_96 (dk_at dksL_law_49 12 rfl rfl)
theorem dL_law_1273 : decode cL_law 1273 = .ok (.iaload, 1) := dk_46 (dk_at dksL_law_49 13 rfl rfl)
theorem dL_law_1274 : decode cL_law 1274 = .ok (.invokevirtual 165, 3) := dk_182 0 165 (dk_at dksL_law_49 14 rfl rfl)
theorem dL_law_1277 : decode cL_law 1277 = .ok (.istore 6, 2) := dk_54 6 (dk_at dksL_law_49 17 rfl rfl)
theorem dL_law_1279 : decode cL_law 1279 = .ok (.aload_n 2, 1) := dk_44 (dk_at dksL_law_49 19 rfl rfl)
theorem dL_law_1280 : decode cL_law 1280 = .ok (.invokevirtual 121, 3) := dk_182 0 121 (dk_at dksL_law_49 20 rfl rfl)
theorem dL_law_1283 : decode cL_law 1283 = .ok (.iload 5, 2) := dk_21 5 (dk_at dksL_law_50 0 rfl rfl)
theorem dL_law_1285 : decode cL_law 1285 = .ok (.if_icmp .eq 5, 3) := dk_159 0 5 (dk_at dksL_law_50 2 rfl rfl)
theorem dL_law_1288 : decode cL_law 1288 = .ok (.iconst 0, 1) := dk_3 (dk_at dksL_law_50 5 rfl rfl)
theorem dL_law_1289 : decode cL_law 1289 = .ok (.ireturn, 1) := dk_172 (dk_at dksL_law_50 6 rfl rfl)
theorem dL_law_1290 : decode cL_law 1290 = .ok (.iload 5, 2) := dk_21 5 (dk_at dksL_law_50 7 rfl rfl)
theorem dL_law_1292 : decode cL_law 1292 = .ok (.ifCond .ne 15, 3) := dk_154 0 15 (dk_at dksL_law_50 9 rfl rfl)
theorem dL_law_1295 : decode cL_law 1295 = .ok (.aload_n 3, 1) := dk_45 (dk_at dksL_law_50 12 rfl rfl)
theorem dL_law_1296 : decode cL_law 1296 = .ok (.iconst 0, 1) := dk_3 (dk_at dksL_law_50 13 rfl rfl)
theorem dL_law_1297 : decode cL_law 1297 = .ok (.laload, 1) := dk_47 (dk_at dksL_law_50 14 rfl rfl)
theorem dL_law_1298 : decode cL_law 1298 = .ok (.iload 6, 2) := dk_21 6 (dk_at dksL_law_50 15 rfl rfl)
theorem dL_law_1300 : decode cL_law 1300 = .ok (.i2l, 1) := dk_133 (dk_at dksL_law_50 17 rfl rfl)
theorem dL_law_1301 : decode cL_law 1301 = .ok (.lcmp, 1) := dk_148 (dk_at dksL_law_50 18 rfl rfl)
theorem dL_law_1302 : decode cL_law 1302 = .ok (.ifCond .eq 5, 3) := dk_153 0 5 (dk_at dksL_law_50 19 rfl rfl)
theorem dL_law_1305 : decode cL_law 1305 = .ok (.iconst 0, 1) := dk_3 (dk_at dksL_law_50 22 rfl rfl)
theorem dL_law_1306 : decode cL_law 1306 = .ok (.ireturn, 1) := dk_172 (dk_at dksL_law_50 23 rfl rfl)
theorem dL_law_1307 : decode cL_law 1307 = .ok (.goto 1060, 3) := dk_167 4 36 (dk_at dksL_law_51 0 rfl rfl)
theorem dL_law_1310 : decode cL_law 1310 = .ok (.aload_n 1, 1) := dk_43 (dk_at dksL_law_51 3 rfl rfl)
theorem dL_law_1311 : decode cL_law 1311 = .ok (.invokevirtual 166, 3) := dk_182 0 166 (dk_at dksL_law_51 4 rfl rfl)
theorem dL_law_1314 : decode cL_law 1314 = .ok (.aload_n 2, 1) := dk_44 (dk_at dksL_law_51 7 rfl rfl)
theorem dL_law_1315 : decode cL_law 1315 = .ok (.invokevirtual 169, 3) := dk_182 0 169 (dk_at dksL_law_51 8 rfl rfl)
theorem dL_law_1318 : decode cL_law 1318 = .ok (.if_icmp .eq 1049, 3) := dk_159 4 25 (dk_at dksL_law_51 11 rfl rfl)
theorem dL_law_1321 : decode cL_law 1321 = .ok (.iconst 0, 1) := dk_3 (dk_at dksL_law_51 14 rfl rfl)
theorem dL_law_1322 : decode cL_law 1322 = .ok (.ireturn, 1) := dk_172 (dk_at dksL_law_51 15 rfl rfl)
theorem dL_law_1323 : decode cL_law 1323 = .ok (.aload_n 1, 1) := dk_43 (dk_at dksL_law_51 16 rfl rfl)
theorem dL_law_1324 : decode cL_law 1324 = .ok (.invokevirtual 170, 3) := dk_182 0 170 (dk_at dksL_law_51 17 rfl rfl)
theorem dL_law_1327 : decode cL_law 1327 = .ok (.aload_n 2, 1) := dk_44 (dk_at dksL_law_51 20 rfl rfl)
theorem dL_law_1328 : decode cL_law 1328 = .ok (.invokevirtual 173, 3) := dk_182 0 173 (dk_at dksL_law_51 21 rfl rfl)
theorem dL_law_1331 : decode cL_law 1331 = .ok (.if_icmp .eq 1036, 3) := dk_159 4 12 (dk_at dksL_law_52 0 rfl rfl)
theorem dL_law_1334 : decode cL_law 1334 = .ok (.iconst 0, 1) := dk_3 (dk_at dksL_law_52 3 rfl rfl)
theorem dL_law_1335 : decode cL_law 1335 = .ok (.ireturn, 1) := dk_172 (dk_at dksL_law_52 4 rfl rfl)
theorem dL_law_1336 : decode cL_law 1336 = .ok (.aload_n 1, 1) := dk_43 (dk_at dksL_law_52 5 rfl rfl)
theorem dL_law_1337 : decode cL_law 1337 = .ok (.aload_n 0, 1) := dk_42 (dk_at dksL_law_52 6 rfl rfl)
theorem dL_law_1338 : decode cL_law 1338 = .ok (.iload 4, 2) := dk_21 4 (dk_at dksL_law_52 7 rfl rfl)
theorem dL_law_1340 : decode cL_law 1340 = .ok (.iconst 1, 1) := dk_4 (dk_at dksL_law_52 9 rfl rfl)
theorem dL_law_1341 : decode cL_law 1341 = .ok (.iadd, 1) := dk_96 (dk_at dksL_law_52 10 rfl rfl)
theorem dL_law_1342 : decode cL_law 1342 = .ok (.iaload, 1) := dk_46 (dk_at dksL_law_52 11 rfl rfl)
theorem dL_law_1343 : decode cL_law 1343 = .ok (.aload_n 0, 1) := dk_42 (dk_at dksL_law_52 12 rfl rfl)
theorem dL_law_1344 : decode cL_law 1344 = .ok (.iload 4, 2) := dk_21 4 (dk_at dksL_law_52 13 rfl rfl)
theorem dL_law_1346 : decode cL_law 1346 = .ok (.iconst 2, 1) := dk_5 (dk_at dksL_law_52 15 rfl rfl)
theorem dL_law_1347 : decode cL_law 1347 = .ok (.iadd, 1) := dk_96 (dk_at dksL_law_52 16 rfl rfl)
theorem dL_law_1348 : decode cL_law 1348 = .ok (.iaload, 1) := dk_46 (dk_at dksL_law_52 17 rfl rfl)
theorem dL_law_1349 : decode cL_law 1349 = .ok (.aload_n 3, 1) := dk_45 (dk_at dksL_law_52 18 rfl rfl)
theorem dL_law_1350 : decode cL_law 1350 = .ok (.invokestatic 174, 3) := dk_184 0 174 (dk_at dksL_law_52 19 rfl rfl)
theorem dL_law_1353 : decode cL_law 1353 = .ok (.istore 5, 2) := dk_54 5 (dk_at dksL_law_52 22 rfl rfl)
theorem dL_law_1355 : decode cL_law 1355 = .ok (.aload_n 2, 1) := dk_44 (dk_at dksL_law_53 0 rfl rfl)
theorem dL_law_1356 : decode cL_law 1356 = .ok (.aload_n 0, 1) := dk_42 (dk_at dksL_law_53 1 rfl rfl)
theorem dL_law_1357 : decode cL_law 1357 = .ok (.iload 4, 2) := dk_21 4 (dk_at dksL_law_53 2 rfl rfl)
theorem dL_law_1359 : decode cL_law 1359 = .ok (.iconst 1, 1) := dk_4 (dk_at dksL_law_53 4 rfl rfl)
theorem dL_law_1360 : decode cL_law 1360 = .ok (.iadd, 1) := dk_96 (dk_at dksL_law_53 5 rfl rfl)
theorem dL_law_1361 : decode cL_law 1361 = .ok (.iaload, 1) := dk_46 (dk_at dksL_law_53 6 rfl rfl)
theorem dL_law_1362 : decode cL_law 1362 = .ok (.aload_n 0, 1) := dk_42 (dk_at dksL_law_53 7 rfl rfl)
theorem dL_law_1363 : decode cL_law 1363 = .ok (.iload 4, 2) := dk_21 4 (dk_at dksL_law_53 8 rfl rfl)
theorem dL_law_1365 : decode cL_law 1365 = .ok (.iconst 2, 1) := dk_5 (dk_at dksL_law_53 10 rfl rfl)
theorem dL_law_1366 : decode cL_law 1366 = .ok (.iadd, 1) := dk_96 (dk_at dksL_law_53 11 rfl rfl)
theorem dL_law_1367 : decode cL_law 1367 = .ok (.iaload, 1) := dk_46 (dk_at dksL_law_53 12 rfl rfl)
theorem dL_law_1368 : decode cL_law 1368 = .ok (.invokevirtual 176, 3) := dk_182 0 176 (dk_at dksL_law_53 13 rfl rfl)
theorem dL_law_1371 : decode cL_law 1371 = .ok (.istore 6, 2) := dk_54 6 (dk_at dksL_law_53 16 rfl rfl)
theorem dL_law_1373 : decode cL_law 1373 = .ok (.aload_n 2, 1) := dk_44 (dk_at dksL_law_53 18 rfl rfl)
theorem dL_law_1374 : decode cL_law 1374 = .ok (.invokevirtual 121, 3) := dk_182 0 121 (dk_at dksL_law_53 19 rfl rfl)
theorem dL_law_1377 : decode cL_law 1377 = .ok (.iload 5, 2) := dk_21 5 (dk_at dksL_law_53 22 rfl rfl)
theorem dL_law_1379 : decode cL_law 1379 = .ok (.if_icmp .eq 5, 3) := dk_159 0 5 (dk_at dksL_law_54 0 rfl rfl)
theorem dL_law_1382 : decode cL_law 1382 = .ok (.iconst 0, 1) := dk_3 (dk_at dksL_law_54 3 rfl rfl)
theorem dL_law_1383 : decode cL_law 1383 = .ok (.ireturn, 1) := dk_172 (dk_at dksL_law_54 4 rfl rfl)
theorem dL_law_1384 : decode cL_law 1384 = .ok (.iload 5, 2) := dk_21 5 (dk_at dksL_law_54 5 rfl rfl)
theorem dL_law_1386 : decode cL_law 1386 = .ok (.ifCond .ne 15, 3) := dk_154 0 15 (dk_at dksL_law_54 7 rfl rfl)
theorem dL_law_1389 : decode cL_law 1389 = .ok (.aload_n 3, 1) := dk_45 (dk_at dksL_law_54 10 rfl rfl)
theorem dL_law_1390 : decode cL_law 1390 = .ok (.iconst 0, 1) := dk_3 (dk_at dksL_law_54 11 rfl rfl)
theorem dL_law_1391 : decode cL_law 1391 = .ok (.laload, 1) := dk_47 (dk_at dksL_law_54 12 rfl rfl)
theorem dL_law_1392 : decode cL_law 1392 = .ok (.iload 6, 2) := dk_21 6 (dk_at dksL_law_54 13 rfl rfl)
theorem dL_law_1394 : decode cL_law 1394 = .ok (.i2l, 1) := dk_133 (dk_at dksL_law_54 15 rfl rfl)
theorem dL_law_1395 : decode cL_law 1395 = .ok (.lcmp, 1) := dk_148 (dk_at dksL_law_54 16 rfl rfl)
theorem dL_law_1396 : decode cL_law 1396 = .ok (.ifCond .eq 5, 3) := dk_153 0 5 (dk_at dksL_law_54 17 rfl rfl)
theorem dL_law_1399 : decode cL_law 1399 = .ok (.iconst 0, 1) := dk_3 (dk_at dksL_law_54 20 rfl rfl)
theorem dL_law_1400 : decode cL_law 1400 = .ok (.ireturn, 1) := dk_172 (dk_at dksL_law_54 21 rfl rfl)
theorem dL_law_1401 : decode cL_law 1401 = .ok (.goto 966, 3) := dk_167 3 198 (dk_at dksL_law_55 0 rfl rfl)
theorem dL_law_1404 : decode cL_law 1404 = .ok (.aload_n 1, 1) := dk_43 (dk_at dksL_law_55 3 rfl rfl)
theorem dL_law_1405 : decode cL_law 1405 = .ok (.aload_n 0, 1) := dk_42 (dk_at dksL_law_55 4 rfl rfl)
theorem dL_law_1406 : decode cL_law 1406 = .ok (.iload 4, 2) := dk_21 4 (dk_at dksL_law_55 5 rfl rfl)
theorem dL_law_1408 : decode cL_law 1408 = .ok (.iconst 1, 1) := dk_4 (dk_at dksL_law_55 7 rfl rfl)
theorem dL_law_1409 : decode cL_law 1409 = .ok (.iadd, 1) := dk_96 (dk_at dksL_law_55 8 rfl rfl)
theorem dL_law_1410 : decode cL_law 1410 = .ok (.iaload, 1) := dk_46 (dk_at dksL_law_55 9 rfl rfl)
theorem dL_law_1411 : decode cL_law 1411 = .ok (.aload_n 0, 1) := dk_42 (dk_at dksL_law_55 10 rfl rfl)
theorem dL_law_1412 : decode cL_law 1412 = .ok (.iload 4, 2) := dk_21 4 (dk_at dksL_law_55 11 rfl rfl)
theorem dL_law_1414 : decode cL_law 1414 = .ok (.iconst 2, 1) := dk_5 (dk_at dksL_law_55 13 rfl rfl)
theorem dL_law_1415 : decode cL_law 1415 = .ok (.iadd, 1) := dk_96 (dk_at dksL_law_55 14 rfl rfl)
theorem dL_law_1416 : decode cL_law 1416 = .ok (.iaload, 1) := dk_46 (dk_at dksL_law_55 15 rfl rfl)
theorem dL_law_1417 : decode cL_law 1417 = .ok (.aload_n 3, 1) := dk_45 (dk_at dksL_law_55 16 rfl rfl)
theorem dL_law_1418 : decode cL_law 1418 = .ok (.invokestatic 177, 3) := dk_184 0 177 (dk_at dksL_law_55 17 rfl rfl)
theorem dL_law_1421 : decode cL_law 1421 = .ok (.istore 5, 2) := dk_54 5 (dk_at dksL_law_55 20 rfl rfl)
theorem dL_law_1423 : decode cL_law 1423 = .ok (.aload_n 2, 1) := dk_44 (dk_at dksL_law_55 22 rfl rfl)
theorem dL_law_1424 : decode cL_law 1424 = .ok (.aload_n 0, 1) := dk_42 (dk_at dksL_law_55 23 rfl rfl)
theorem dL_law_1425 : decode cL_law 1425 = .ok (.iload 4, 2) := dk_21 4 (dk_at dksL_law_56 0 rfl rfl)
theorem dL_law_1427 : decode cL_law 1427 = .ok (.iconst 1, 1) := dk_4 (dk_at dksL_law_56 2 rfl rfl)
theorem dL_law_1428 : decode cL_law 1428 = .ok (.iadd, 1) := dk_96 (dk_at dksL_law_56 3 rfl rfl)
theorem dL_law_1429 : decode cL_law 1429 = .ok (.iaload, 1) := dk_46 (dk_at dksL_law_56 4 rfl rfl)
theorem dL_law_1430 : decode cL_law 1430 = .ok (.aload_n 0, 1) := dk_42 (dk_at dksL_law_56 5 rfl rfl)
theorem dL_law_1431 : decode cL_law 1431 = .ok (.iload 4, 2) := dk_21 4 (dk_at dksL_law_56 6 rfl rfl)
theorem dL_law_1433 : decode cL_law 1433 = .ok (.iconst 2, 1) := dk_5 (dk_at dksL_law_56 8 rfl rfl)
theorem dL_law_1434 : decode cL_law 1434 = .ok (.iadd, 1) := dk_96 (dk_at dksL_law_56 9 rfl rfl)
theorem dL_law_1435 : decode cL_law 1435 = .ok (.iaload, 1) := dk_46 (dk_at dksL_law_56 10 rfl rfl)
theorem dL_law_1436 : decode cL_law 1436 = .ok (.invokevirtual 179, 3) := dk_182 0 179 (dk_at dksL_law_56 11 rfl rfl)
theorem dL_law_1439 : decode cL_law 1439 = .ok (.istore 6, 2) := dk_54 6 (dk_at dksL_law_56 14 rfl rfl)
theorem dL_law_1441 : decode cL_law 1441 = .ok (.aload_n 2, 1) := dk_44 (dk_at dksL_law_56 16 rfl rfl)
theorem dL_law_1442 : decode cL_law 1442 = .ok (.invokevirtual 121, 3) := dk_182 0 121 (dk_at dksL_law_56 17 rfl rfl)
theorem dL_law_1445 : decode cL_law 1445 = .ok (.iload 5, 2) := dk_21 5 (dk_at dksL_law_56 20 rfl rfl)
theorem dL_law_1447 : decode cL_law 1447 = .ok (.if_icmp .eq 5, 3) := dk_159 0 5 (dk_at dksL_law_57 0 rfl rfl)
theorem dL_law_1450 : decode cL_law 1450 = .ok (.iconst 0, 1) := dk_3 (dk_at dksL_law_57 3 rfl rfl)
theorem dL_law_1451 : decode cL_law 1451 = .ok (.ireturn, 1) := dk_172 (dk_at dksL_law_57 4 rfl rfl)
theorem dL_law_1452 : decode cL_law 1452 = .ok (.iload 5, 2) := dk_21 5 (dk_at dksL_law_57 5 rfl rfl)
theorem dL_law_1454 : decode cL_law 1454 = .ok (.ifCond .ne 15, 3) := dk_154 0 15 (dk_at dksL_law_57 7 rfl rfl)
theorem dL_law_1457 : decode cL_law 1457 = .ok (.aload_n 3, 1) := dk_45 (dk_at dksL_law_57 10 rfl rfl)
theorem dL_law_1458 : decode cL_law 1458 = .ok (.iconst 0, 1) := dk_3 (dk_at dksL_law_57 11 rfl rfl)
theorem dL_law_1459 : decode cL_law 1459 = .ok (.laload, 1) := dk_47 (dk_at dksL_law_57 12 rfl rfl)
theorem dL_law_1460 : decode cL_law 1460 = .ok (.iload 6, 2) := dk_21 6 (dk_at dksL_law_57 13 rfl rfl)
theorem dL_law_1462 : decode cL_law 1462 = .ok (.i2l, 1) := dk_133 (dk_at dksL_law_57 15 rfl rfl)
theorem dL_law_1463 : decode cL_law 1463 = .ok (.lcmp, 1) := dk_148 (dk_at dksL_law_57 16 rfl rfl)
theorem dL_law_1464 : decode cL_law 1464 = .ok (.ifCond .eq 5, 3) := dk_153 0 5 (dk_at dksL_law_57 17 rfl rfl)
theorem dL_law_1467 : decode cL_law 1467 = .ok (.iconst 0, 1) := dk_3 (dk_at dksL_law_57 20 rfl rfl)
theorem dL_law_1468 : decode cL_law 1468 = .ok (.ireturn, 1) := dk_172 (dk_at dksL_law_57 21 rfl rfl)
theorem dL_law_1469 : decode cL_law 1469 = .ok (.goto 898, 3) := dk_167 3 130 (dk_at dksL_law_58 0 rfl rfl)
theorem dL_law_1472 : decode cL_law 1472 = .ok (.aload_n 1, 1) := dk_43 (dk_at dksL_law_58 3 rfl rfl)
theorem dL_law_1473 : decode cL_law 1473 = .ok (.aload_n 0, 1) := dk_42 (dk_at dksL_law_58 4 rfl rfl)
theorem dL_law_1474 : decode cL_law 1474 = .ok (.iload 4, 2) := dk_21 4 (dk_at dksL_law_58 5 rfl rfl)
theorem dL_law_1476 : decode cL_law 1476 = .ok (.iconst 1, 1) := dk_4 (dk_at dksL_law_58 7 rfl rfl)
theorem dL_law_1477 : decode cL_law 1477 = .ok (.iadd, 1) := dk_96 (dk_at dksL_law_58 8 rfl rfl)
theorem dL_law_1478 : decode cL_law 1478 = .ok (.iaload, 1) := dk_46 (dk_at dksL_law_58 9 rfl rfl)
theorem dL_law_1479 : decode cL_law 1479 = .ok (.aload_n 0, 1) := dk_42 (dk_at dksL_law_58 10 rfl rfl)
theorem dL_law_1480 : decode cL_law 1480 = .ok (.iload 4, 2) := dk_21 4 (dk_at dksL_law_58 11 rfl rfl)
theorem dL_law_1482 : decode cL_law 1482 = .ok (.iconst 2, 1) := dk_5 (dk_at dksL_law_58 13 rfl rfl)
theorem dL_law_1483 : decode cL_law 1483 = .ok (.iadd, 1) := dk_96 (dk_at dksL_law_58 14 rfl rfl)
theorem dL_law_1484 : decode cL_law 1484 = .ok (.iaload, 1) := dk_46 (dk_at dksL_law_58 15 rfl rfl)
theorem dL_law_1485 : decode cL_law 1485 = .ok (.aload_n 3, 1) := dk_45 (dk_at dksL_law_58 16 rfl rfl)
theorem dL_law_1486 : decode cL_law 1486 = .ok (.invokestatic 180, 3) := dk_184 0 180 (dk_at dksL_law_58 17 rfl rfl)
theorem dL_law_1489 : decode cL_law 1489 = .ok (.istore 5, 2) := dk_54 5 (dk_at dksL_law_58 20 rfl rfl)
theorem dL_law_1491 : decode cL_law 1491 = .ok (.aload_n 2, 1) := dk_44 (dk_at dksL_law_58 22 rfl rfl)
theorem dL_law_1492 : decode cL_law 1492 = .ok (.aload_n 0, 1) := dk_42 (dk_at dksL_law_58 23 rfl rfl)
theorem dL_law_1493 : decode cL_law 1493 = .ok (.iload 4, 2) := dk_21 4 (dk_at dksL_law_59 0 rfl rfl)
theorem dL_law_1495 : decode cL_law 1495 = .ok (.iconst 1, 1) := dk_4 (dk_at dksL_law_59 2 rfl rfl)
theorem dL_law_1496 : decode cL_law 1496 = .ok (.iadd, 1) := dk_96 (dk_at dksL_law_59 3 rfl rfl)
theorem dL_law_1497 : decode cL_law 1497 = .ok (.iaload, 1) := dk_46 (dk_at dksL_law_59 4 rfl rfl)
theorem dL_law_1498 : decode cL_law 1498 = .ok (.aload_n 0, 1) := dk_42 (dk_at dksL_law_59 5 rfl rfl)
theorem dL_law_1499 : decode cL_law 1499 = .ok (.iload 4, 2) := dk_21 4 (dk_at dksL_law_59 6 rfl rfl)
theorem dL_law_1501 : decode cL_law 1501 = .ok (.iconst 2, 1) := dk_5 (dk_at dksL_law_59 8 rfl rfl)
theorem dL_law_1502 : decode cL_law 1502 = .ok (.iadd, 1) := dk_96 (dk_at dksL_law_59 9 rfl rfl)
theorem dL_law_1503 : decode cL_law 1503 = .ok (.iaload, 1) := dk_46 (dk_at dksL_law_59 10 rfl rfl)
theorem dL_law_1504 : decode cL_law 1504 = .ok (.invokevirtual 182, 3) := dk_182 0 182 (dk_at dksL_law_59 11 rfl rfl)
theorem dL_law_1507 : decode cL_law 1507 = .ok (.istore 6, 2) := dk_54 6 (dk_at dksL_law_59 14 rfl rfl)
theorem dL_law_1509 : decode cL_law 1509 = .ok (.aload_n 2, 1) := dk_44 (dk_at dksL_law_59 16 rfl rfl)
theorem dL_law_1510 : decode cL_law 1510 = .ok (.invokevirtual 121, 3) := dk_182 0 121 (dk_at dksL_law_59 17 rfl rfl)
theorem dL_law_1513 : decode cL_law 1513 = .ok (.iload 5, 2) := dk_21 5 (dk_at dksL_law_59 20 rfl rfl)
theorem dL_law_1515 : decode cL_law 1515 = .ok (.if_icmp .eq 5, 3) := dk_159 0 5 (dk_at dksL_law_60 0 rfl rfl)
theorem dL_law_1518 : decode cL_law 1518 = .ok (.iconst 0, 1) := dk_3 (dk_at dksL_law_60 3 rfl rfl)
theorem dL_law_1519 : decode cL_law 1519 = .ok (.ireturn, 1) := dk_172 (dk_at dksL_law_60 4 rfl rfl)
theorem dL_law_1520 : decode cL_law 1520 = .ok (.iload 5, 2) := dk_21 5 (dk_at dksL_law_60 5 rfl rfl)
theorem dL_law_1522 : decode cL_law 1522 = .ok (.ifCond .ne 15, 3) := dk_154 0 15 (dk_at dksL_law_60 7 rfl rfl)
theorem dL_law_1525 : decode cL_law 1525 = .ok (.aload_n 3, 1) := dk_45 (dk_at dksL_law_60 10 rfl rfl)
theorem dL_law_1526 : decode cL_law 1526 = .ok (.iconst 0, 1) := dk_3 (dk_at dksL_law_60 11 rfl rfl)
theorem dL_law_1527 : decode cL_law 1527 = .ok (.laload, 1) := dk_47 (dk_at dksL_law_60 12 rfl rfl)
theorem dL_law_1528 : decode cL_law 1528 = .ok (.iload 6, 2) := dk_21 6 (dk_at dksL_law_60 13 rfl rfl)
theorem dL_law_1530 : decode cL_law 1530 = .ok (.i2l, 1) := dk_133 (dk_at dksL_law_60 15 rfl rfl)
theorem dL_law_1531 : decode cL_law 1531 = .ok (.lcmp, 1) := dk_148 (dk_at dksL_law_60 16 rfl rfl)
theorem dL_law_1532 : decode cL_law 1532 = .ok (.ifCond .eq 5, 3) := dk_153 0 5 (dk_at dksL_law_60 17 rfl rfl)
theorem dL_law_1535 : decode cL_law 1535 = .ok (.iconst 0, 1) := dk_3 (dk_at dksL_law_60 20 rfl rfl)
theorem dL_law_1536 : decode cL_law 1536 = .ok (.ireturn, 1) := dk_172 (dk_at dksL_law_60 21 rfl rfl)
theorem dL_law_1537 : decode cL_law 1537 = .ok (.goto 830, 3) := dk_167 3 62 (dk_at dksL_law_61 0 rfl rfl)
theorem dL_law_1540 : decode cL_law 1540 = .ok (.aload_n 1, 1) := dk_43 (dk_at dksL_law_61 3 rfl rfl)
theorem dL_law_1541 : decode cL_law 1541 = .ok (.aload_n 0, 1) := dk_42 (dk_at dksL_law_61 4 rfl rfl)
theorem dL_law_1542 : decode cL_law 1542 = .ok (.iload 4, 2) := dk_21 4 (dk_at dksL_law_61 5 rfl rfl)
theorem dL_law_1544 : decode cL_law 1544 = .ok (.iconst 1, 1) := dk_4 (dk_at dksL_law_61 7 rfl rfl)
theorem dL_law_1545 : decode cL_law 1545 = .ok (.iadd, 1) := dk_96 (dk_at dksL_law_61 8 rfl rfl)
theorem dL_law_1546 : decode cL_law 1546 = .ok (.iaload, 1) := dk_46 (dk_at dksL_law_61 9 rfl rfl)
theorem dL_law_1547 : decode cL_law 1547 = .ok (.aload_n 3, 1) := dk_45 (dk_at dksL_law_61 10 rfl rfl)
theorem dL_law_1548 : decode cL_law 1548 = .ok (.invokestatic 183, 3) := dk_184 0 183 (dk_at dksL_law_61 11 rfl rfl)
theorem dL_law_1551 : decode cL_law 1551 = .ok (.istore 5, 2) := dk_54 5 (dk_at dksL_law_61 14 rfl rfl)
theorem dL_law_1553 : decode cL_law 1553 = .ok (.aload_n 2, 1) := dk_44 (dk_at dksL_law_61 16 rfl rfl)
theorem dL_law_1554 : decode cL_law 1554 = .ok (.aload_n 0, 1) := dk_42 (dk_at dksL_law_61 17 rfl rfl)
theorem dL_law_1555 : decode cL_law 1555 = .ok (.iload 4, 2) := dk_21 4 (dk_at dksL_law_61 18 rfl rfl)
theorem dL_law_1557 : decode cL_law 1557 = .ok (.iconst 1, 1) := dk_4 (dk_at dksL_law_61 20 rfl rfl)
theorem dL_law_1558 : decode cL_law 1558 = .ok (.iadd, 1) := dk_96 (dk_at dksL_law_61 21 rfl rfl)
theorem dL_law_1559 : decode cL_law 1559 = .ok (.iaload, 1) := dk_46 (dk_at dksL_law_61 22 rfl rfl)
theorem dL_law_1560 : decode cL_law 1560 = .ok (.invokevirtual 185, 3) := dk_182 0 185 (dk_at dksL_law_62 0 rfl rfl)
theorem dL_law_1563 : decode cL_law 1563 = .ok (.istore 6, 2) := dk_54 6 (dk_at dksL_law_62 3 rfl rfl)
theorem dL_law_1565 : decode cL_law 1565 = .ok (.aload_n 2, 1) := dk_44 (dk_at dksL_law_62 5 rfl rfl)
theorem dL_law_1566 : decode cL_law 1566 = .ok (.invokevirtual 121, 3) := dk_182 0 121 (dk_at dksL_law_62 6 rfl rfl)
theorem dL_law_1569 : decode cL_law 1569 = .ok (.iload 5, 2) := dk_21 5 (dk_at dksL_law_62 9 rfl rfl)
theorem dL_law_1571 : decode cL_law 1571 = .ok (.if_icmp .eq 5, 3) := dk_159 0 5 (dk_at dksL_law_62 11 rfl rfl)
theorem dL_law_1574 : decode cL_law 1574 = .ok (.iconst 0, 1) := dk_3 (dk_at dksL_law_62 14 rfl rfl)
theorem dL_law_1575 : decode cL_law 1575 = .ok (.ireturn, 1) := dk_172 (dk_at dksL_law_62 15 rfl rfl)
theorem dL_law_1576 : decode cL_law 1576 = .ok (.iload 5, 2) := dk_21 5 (dk_at dksL_law_62 16 rfl rfl)
theorem dL_law_1578 : decode cL_law 1578 = .ok (.ifCond .ne 15, 3) := dk_154 0 15 (dk_at dksL_law_62 18 rfl rfl)
theorem dL_law_1581 : decode cL_law 1581 = .ok (.aload_n 3, 1) := dk_45 (dk_at dksL_law_62 21 rfl rfl)
theorem dL_law_1582 : decode cL_law 1582 = .ok (.iconst 0, 1) := dk_3 (dk_at dksL_law_62 22 rfl rfl)
theorem dL_law_1583 : decode cL_law 1583 = .ok (.laload, 1) := dk_47 (dk_at dksL_law_62 23 rfl rfl)
theorem dL_law_1584 : decode cL_law 1584 = .ok (.iload 6, 2) := dk_21 6 (dk_at dksL_law_63 0 rfl rfl)
theorem dL_law_1586 : decode cL_law 1586 = .ok (.i2l, 1) := dk_133 (dk_at dksL_law_63 2 rfl rfl)
theorem dL_law_1587 : decode cL_law 1587 = .ok (.lcmp, 1) := dk_148 (dk_at dksL_law_63 3 rfl rfl)
theorem dL_law_1588 : decode cL_law 1588 = .ok (.ifCond .eq 5, 3) := dk_153 0 5 (dk_at dksL_law_63 4 rfl rfl)
theorem dL_law_1591 : decode cL_law 1591 = .ok (.iconst 0, 1) := dk_3 (dk_at dksL_law_63 7 rfl rfl)
theorem dL_law_1592 : decode cL_law 1592 = .ok (.ireturn, 1) := dk_172 (dk_at dksL_law_63 8 rfl rfl)
theorem dL_law_1593 : decode cL_law 1593 = .ok (.goto 774, 3) := dk_167 3 6 (dk_at dksL_law_63 9 rfl rfl)
theorem dL_law_1596 : decode cL_law 1596 = .ok (.aload_n 1, 1) := dk_43 (dk_at dksL_law_63 12 rfl rfl)
theorem dL_law_1597 : decode cL_law 1597 = .ok (.aload_n 0, 1) := dk_42 (dk_at dksL_law_63 13 rfl rfl)
theorem dL_law_1598 : decode cL_law 1598 = .ok (.iload 4, 2) := dk_21 4 (dk_at dksL_law_63 14 rfl rfl)
theorem dL_law_1600 : decode cL_law 1600 = .ok (.iconst 1, 1) := dk_4 (dk_at dksL_law_63 16 rfl rfl)
theorem dL_law_1601 : decode cL_law 1601 = .ok (.iadd, 1) := dk_96 (dk_at dksL_law_63 17 rfl rfl)
theorem dL_law_1602 : decode cL_law 1602 = .ok (.iaload, 1) := dk_46 (dk_at dksL_law_63 18 rfl rfl)
theorem dL_law_1603 : decode cL_law 1603 = .ok (.aload_n 3, 1) := dk_45 (dk_at dksL_law_63 19 rfl rfl)
theorem dL_law_1604 : decode cL_law 1604 = .ok (.invokestatic 186, 3) := dk_184 0 186 (dk_at dksL_law_63 20 rfl rfl)
theorem dL_law_1607 : decode cL_law 1607 = .ok (.istore 5, 2) := dk_54 5 (dk_at dksL_law_64 0 rfl rfl)
theorem dL_law_1609 : decode cL_law 1609 = .ok (.aload_n 2, 1) := dk_44 (dk_at dksL_law_64 2 rfl rfl)
theorem dL_law_1610 : decode cL_law 1610 = .ok (.aload_n 0, 1) := dk_42 (dk_at dksL_law_64 3 rfl rfl)
theorem dL_law_1611 : decode cL_law 1611 = .ok (.iload 4, 2) := dk_21 4 (dk_at dksL_law_64 4 rfl rfl)
theorem dL_law_1613 : decode cL_law 1613 = .ok (.iconst 1, 1) := dk_4 (dk_at dksL_law_64 6 rfl rfl)
theorem dL_law_1614 : decode cL_law 1614 = .ok (.iadd, 1) := dk_96 (dk_at dksL_law_64 7 rfl rfl)
theorem dL_law_1615 : decode cL_law 1615 = .ok (.iaload, 1) := dk_46 (dk_at dksL_law_64 8 rfl rfl)
theorem dL_law_1616 : decode cL_law 1616 = .ok (.invokevirtual 188, 3) := dk_182 0 188 (dk_at dksL_law_64 9 rfl rfl)
theorem dL_law_1619 : decode cL_law 1619 = .ok (.istore 6, 2) := dk_54 6 (dk_at dksL_law_64 12 rfl rfl)
theorem dL_law_1621 : decode cL_law 1621 = .ok (.aload_n 2, 1) := dk_44 (dk_at dksL_law_64 14 rfl rfl)
theorem dL_law_1622 : decode cL_law 1622 = .ok (.invokevirtual 121, 3) := dk_182 0 121 (dk_at dksL_law_64 15 rfl rfl)
theorem dL_law_1625 : decode cL_law 1625 = .ok (.iload 5, 2) := dk_21 5 (dk_at dksL_law_64 18 rfl rfl)
theorem dL_law_1627 : decode cL_law 1627 = .ok (.if_icmp .eq 5, 3) := dk_159 0 5 (dk_at dksL_law_64 20 rfl rfl)
theorem dL_law_1630 : decode cL_law 1630 = .ok (.iconst 0, 1) := dk_3 (dk_at dksL_law_64 23 rfl rfl)
theorem dL_law_1631 : decode cL_law 1631 = .ok (.ireturn, 1) := dk_172 (dk_at dksL_law_65 0 rfl rfl)
theorem dL_law_1632 : decode cL_law 1632 = .ok (.iload 5, 2) := dk_21 5 (dk_at dksL_law_65 1 rfl rfl)
theorem dL_law_1634 : decode cL_law 1634 = .ok (.ifCond .ne 22, 3) := dk_154 0 22 (dk_at dksL_law_65 3 rfl rfl)
theorem dL_law_1637 : decode cL_law 1637 = .ok (.aload_n 3, 1) := dk_45 (dk_at dksL_law_65 6 rfl rfl)
theorem dL_law_1638 : decode cL_law 1638 = .ok (.iconst 0, 1) := dk_3 (dk_at dksL_law_65 7 rfl rfl)
theorem dL_law_1639 : decode cL_law 1639 = .ok (.laload, 1) := dk_47 (dk_at dksL_law_65 8 rfl rfl)
theorem dL_law_1640 : decode cL_law 1640 = .ok (.iload 6, 2) := dk_21 6 (dk_at dksL_law_65 9 rfl rfl)
theorem dL_law_1642 : decode cL_law 1642 = .ok (.ifCond .eq 7, 3) := dk_153 0 7 (dk_at dksL_law_65 11 rfl rfl)
theorem dL_law_1645 : decode cL_law 1645 = .ok (.lconst 1, 1) := dk_10 (dk_at dksL_law_65 14 rfl rfl)
theorem dL_law_1646 : decode cL_law 1646 = .ok (.goto 4, 3) := dk_167 0 4 (dk_at dksL_law_65 15 rfl rfl)
theorem dL_law_1649 : decode cL_law 1649 = .ok (.lconst 0, 1) := dk_9 (dk_at dksL_law_65 18 rfl rfl)
theorem dL_law_1650 : decode cL_law 1650 = .ok (.lcmp, 1) := dk_148 (dk_at dksL_law_65 19 rfl rfl)
theorem dL_law_1651 : decode cL_law 1651 = .ok (.ifCond .eq 5, 3) := dk_153 0 5 (dk_at dksL_law_65 20 rfl rfl)
theorem dL_law_1654 : decode cL_law 1654 = .ok (.iconst 0, 1) := dk_3 (dk_at dksL_law_65 23 rfl rfl)
theorem dL_law_1655 : decode cL_law 1655 = .ok (.ireturn, 1) := dk_172 (dk_at dksL_law_66 0 rfl rfl)
theorem dL_law_1656 : decode cL_law 1656 = .ok (.goto 711, 3) := dk_167 2 199 (dk_at dksL_law_66 1 rfl rfl)
theorem dL_law_1659 : decode cL_law 1659 = .ok (.aload_n 1, 1) := dk_43 (dk_at dksL_law_66 4 rfl rfl)
theorem dL_law_1660 : decode cL_law 1660 = .ok (.aload_n 0, 1) := dk_42 (dk_at dksL_law_66 5 rfl rfl)
theorem dL_law_1661 : decode cL_law 1661 = .ok (.iload 4, 2) := dk_21 4 (dk_at dksL_law_66 6 rfl rfl)
theorem dL_law_1663 : decode cL_law 1663 = .ok (.iconst 1, 1) := dk_4 (dk_at dksL_law_66 8 rfl rfl)
theorem dL_law_1664 : decode cL_law 1664 = .ok (.iadd, 1) := dk_96 (dk_at dksL_law_66 9 rfl rfl)
theorem dL_law_1665 : decode cL_law 1665 = .ok (.iaload, 1) := dk_46 (dk_at dksL_law_66 10 rfl rfl)
theorem dL_law_1666 : decode cL_law 1666 = .ok (.aload_n 3, 1) := dk_45 (dk_at dksL_law_66 11 rfl rfl)
theorem dL_law_1667 : decode cL_law 1667 = .ok (.invokestatic 189, 3) := dk_184 0 189 (dk_at dksL_law_66 12 rfl rfl)
theorem dL_law_1670 : decode cL_law 1670 = .ok (.istore 5, 2) := dk_54 5 (dk_at dksL_law_66 15 rfl rfl)
theorem dL_law_1672 : decode cL_law 1672 = .ok (.aload_n 2, 1) := dk_44 (dk_at dksL_law_66 17 rfl rfl)
theorem dL_law_1673 : decode cL_law 1673 = .ok (.aload_n 0, 1) := dk_42 (dk_at dksL_law_66 18 rfl rfl)
theorem dL_law_1674 : decode cL_law 1674 = .ok (.iload 4, 2) := dk_21 4 (dk_at dksL_law_66 19 rfl rfl)
theorem dL_law_1676 : decode cL_law 1676 = .ok (.iconst 1, 1) := dk_4 (dk_at dksL_law_66 21 rfl rfl)
theorem dL_law_1677 : decode cL_law 1677 = .ok (.iadd, 1) := dk_96 (dk_at dksL_law_66 22 rfl rfl)
theorem dL_law_1678 : decode cL_law 1678 = .ok (.iaload, 1) := dk_46 (dk_at dksL_law_66 23 rfl rfl)
theorem dL_law_1679 : decode cL_law 1679 = .ok (.invokevirtual 191, 3) := dk_182 0 191 (dk_at dksL_law_67 0 rfl rfl)
theorem dL_law_1682 : decode cL_law 1682 = .ok (.istore 6, 2) := dk_54 6 (dk_at dksL_law_67 3 rfl rfl)
theorem dL_law_1684 : decode cL_law 1684 = .ok (.aload_n 2, 1) := dk_44 (dk_at dksL_law_67 5 rfl rfl)
theorem dL_law_1685 : decode cL_law 1685 = .ok (.invokevirtual 121, 3) := dk_182 0 121 (dk_at dksL_law_67 6 rfl rfl)
theorem dL_law_1688 : decode cL_law 1688 = .ok (.iload 5, 2) := dk_21 5 (dk_at dksL_law_67 9 rfl rfl)
theorem dL_law_1690 : decode cL_law 1690 = .ok (.if_icmp .eq 5, 3) := dk_159 0 5 (dk_at dksL_law_67 11 rfl rfl)
theorem dL_law_1693 : decode cL_law 1693 = .ok (.iconst 0, 1) := dk_3 (dk_at dksL_law_67 14 rfl rfl)
theorem dL_law_1694 : decode cL_law 1694 = .ok (.ireturn, 1) := dk_172 (dk_at dksL_law_67 15 rfl rfl)
theorem dL_law_1695 : decode cL_law 1695 = .ok (.iload 5, 2) := dk_21 5 (dk_at dksL_law_67 16 rfl rfl)
theorem dL_law_1697 : decode cL_law 1697 = .ok (.ifCond .ne 15, 3) := dk_154 0 15 (dk_at dksL_law_67 18 rfl rfl)
theorem dL_law_1700 : decode cL_law 1700 = .ok (.aload_n 3, 1) := dk_45 (dk_at dksL_law_67 21 rfl rfl)
theorem dL_law_1701 : decode cL_law 1701 = .ok (.iconst 0, 1) := dk_3 (dk_at dksL_law_67 22 rfl rfl)
theorem dL_law_1702 : decode cL_law 1702 = .ok (.laload, 1) := dk_47 (dk_at dksL_law_67 23 rfl rfl)
theorem dL_law_1703 : decode cL_law 1703 = .ok (.iload 6, 2) := dk_21 6 (dk_at dksL_law_68 0 rfl rfl)
theorem dL_law_1705 : decode cL_law 1705 = .ok (.i2l, 1) := dk_133 (dk_at dksL_law_68 2 rfl rfl)
theorem dL_law_1706 : decode cL_law 1706 = .ok (.lcmp, 1) := dk_148 (dk_at dksL_law_68 3 rfl rfl)
theorem dL_law_1707 : decode cL_law 1707 = .ok (.ifCond .eq 5, 3) := dk_153 0 5 (dk_at dksL_law_68 4 rfl rfl)
theorem dL_law_1710 : decode cL_law 1710 = .ok (.iconst 0, 1) := dk_3 (dk_at dksL_law_68 7 rfl rfl)
theorem dL_law_1711 : decode cL_law 1711 = .ok (.ireturn, 1) := dk_172 (dk_at dksL_law_68 8 rfl rfl)
theorem dL_law_1712 : decode cL_law 1712 = .ok (.goto 655, 3) := dk_167 2 143 (dk_at dksL_law_68 9 rfl rfl)
theorem dL_law_1715 : decode cL_law 1715 = .ok (.aload_n 1, 1) := dk_43 (dk_at dksL_law_68 12 rfl rfl)
theorem dL_law_1716 : decode cL_law 1716 = .ok (.aload_n 3, 1) := dk_45 (dk_at dksL_law_68 13 rfl rfl)
theorem dL_law_1717 : decode cL_law 1717 = .ok (.invokestatic 192, 3) := dk_184 0 192 (dk_at dksL_law_68 14 rfl rfl)
theorem dL_law_1720 : decode cL_law 1720 = .ok (.istore 5, 2) := dk_54 5 (dk_at dksL_law_68 17 rfl rfl)
theorem dL_law_1722 : decode cL_law 1722 = .ok (.aload_n 2, 1) := dk_44 (dk_at dksL_law_68 19 rfl rfl)
theorem dL_law_1723 : decode cL_law 1723 = .ok (.invokevirtual 194, 3) := dk_182 0 194 (dk_at dksL_law_68 20 rfl rfl)
theorem dL_law_1726 : decode cL_law 1726 = .ok (.istore 6, 2) := dk_54 6 (dk_at dksL_law_69 0 rfl rfl)
theorem dL_law_1728 : decode cL_law 1728 = .ok (.aload_n 2, 1) := dk_44 (dk_at dksL_law_69 2 rfl rfl)
theorem dL_law_1729 : decode cL_law 1729 = .ok (.invokevirtual 121, 3) := dk_182 0 121 (dk_at dksL_law_69 3 rfl rfl)
theorem dL_law_1732 : decode cL_law 1732 = .ok (.iload 5, 2) := dk_21 5 (dk_at dksL_law_69 6 rfl rfl)
theorem dL_law_1734 : decode cL_law 1734 = .ok (.if_icmp .eq 5, 3) := dk_159 0 5 (dk_at dksL_law_69 8 rfl rfl)
theorem dL_law_1737 : decode cL_law 1737 = .ok (.iconst 0, 1) := dk_3 (dk_at dksL_law_69 11 rfl rfl)
theorem dL_law_1738 : decode cL_law 1738 = .ok (.ireturn, 1) := dk_172 (dk_at dksL_law_69 12 rfl rfl)
theorem dL_law_1739 : decode cL_law 1739 = .ok (.iload 5, 2) := dk_21 5 (dk_at dksL_law_69 13 rfl rfl)
theorem dL_law_1741 : decode cL_law 1741 = .ok (.ifCond .ne 15, 3) := dk_154 0 15 (dk_at dksL_law_69 15 rfl rfl)
theorem dL_law_1744 : decode cL_law 1744 = .ok (.aload_n 3, 1) := dk_45 (dk_at dksL_law_69 18 rfl rfl)
theorem dL_law_1745 : decode cL_law 1745 = .ok (.iconst 0, 1) := dk_3 (dk_at dksL_law_69 19 rfl rfl)
theorem dL_law_1746 : decode cL_law 1746 = .ok (.laload, 1) := dk_47 (dk_at dksL_law_69 20 rfl rfl)
theorem dL_law_1747 : decode cL_law 1747 = .ok (.iload 6, 2) := dk_21 6 (dk_at dksL_law_69 21 rfl rfl)
theorem dL_law_1749 : decode cL_law 1749 = .ok (.i2l, 1) := dk_133 (dk_at dksL_law_69 23 rfl rfl)
theorem dL_law_1750 : decode cL_law 1750 = .ok (.lcmp, 1) := dk_148 (dk_at dksL_law_70 0 rfl rfl)
theorem dL_law_1751 : decode cL_law 1751 = .ok (.ifCond .eq 5, 3) := dk_153 0 5 (dk_at dksL_law_70 1 rfl rfl)
theorem dL_law_1754 : decode cL_law 1754 = .ok (.iconst 0, 1) := dk_3 (dk_at dksL_law_70 4 rfl rfl)
theorem dL_law_1755 : decode cL_law 1755 = .ok (.ireturn, 1) := dk_172 (dk_at dksL_law_70 5 rfl rfl)
theorem dL_law_1756 : decode cL_law 1756 = .ok (.goto 611, 3) := dk_167 2 99 (dk_at dksL_law_70 6 rfl rfl)
theorem dL_law_1759 : decode cL_law 1759 = .ok (.aload_n 1, 1) := dk_43 (dk_at dksL_law_70 9 rfl rfl)
theorem dL_law_1760 : decode cL_law 1760 = .ok (.aload_n 0, 1) := dk_42 (dk_at dksL_law_70 10 rfl rfl)
theorem dL_law_1761 : decode cL_law 1761 = .ok (.iload 4, 2) := dk_21 4 (dk_at dksL_law_70 11 rfl rfl)
theorem dL_law_1763 : decode cL_law 1763 = .ok (.iconst 1, 1) := dk_4 (dk_at dksL_law_70 13 rfl rfl)
theorem dL_law_1764 : decode cL_law 1764 = .ok (.iadd, 1) := dk_96 (dk_at dksL_law_70 14 rfl rfl)
theorem dL_law_1765 : decode cL_law 1765 = .ok (.iaload, 1) := dk_46 (dk_at dksL_law_70 15 rfl rfl)
theorem dL_law_1766 : decode cL_law 1766 = .ok (.aload_n 3, 1) := dk_45 (dk_at dksL_law_70 16 rfl rfl)
theorem dL_law_1767 : decode cL_law 1767 = .ok (.invokestatic 195, 3) := dk_184 0 195 (dk_at dksL_law_70 17 rfl rfl)
theorem dL_law_1770 : decode cL_law 1770 = .ok (.istore 5, 2) := dk_54 5 (dk_at dksL_law_70 20 rfl rfl)
theorem dL_law_1772 : decode cL_law 1772 = .ok (.aload_n 2, 1) := dk_44 (dk_at dksL_law_70 22 rfl rfl)
theorem dL_law_1773 : decode cL_law 1773 = .ok (.aload_n 0, 1) := dk_42 (dk_at dksL_law_70 23 rfl rfl)
theorem dL_law_1774 : decode cL_law 1774 = .ok (.iload 4, 2) := dk_21 4 (dk_at dksL_law_71 0 rfl rfl)
theorem dL_law_1776 : decode cL_law 1776 = .ok (.iconst 1, 1) := dk_4 (dk_at dksL_law_71 2 rfl rfl)
theorem dL_law_1777 : decode cL_law 1777 = .ok (.iadd, 1) := dk_96 (dk_at dksL_law_71 3 rfl rfl)
theorem dL_law_1778 : decode cL_law 1778 = .ok (.iaload, 1) := dk_46 (dk_at dksL_law_71 4 rfl rfl)
theorem dL_law_1779 : decode cL_law 1779 = .ok (.invokevirtual 197, 3) := dk_182 0 197 (dk_at dksL_law_71 5 rfl rfl)
theorem dL_law_1782 : decode cL_law 1782 = .ok (.istore 6, 2) := dk_54 6 (dk_at dksL_law_71 8 rfl rfl)
theorem dL_law_1784 : decode cL_law 1784 = .ok (.aload_n 2, 1) := dk_44 (dk_at dksL_law_71 10 rfl rfl)
theorem dL_law_1785 : decode cL_law 1785 = .ok (.invokevirtual 121, 3) := dk_182 0 121 (dk_at dksL_law_71 11 rfl rfl)
theorem dL_law_1788 : decode cL_law 1788 = .ok (.iload 5, 2) := dk_21 5 (dk_at dksL_law_71 14 rfl rfl)
theorem dL_law_1790 : decode cL_law 1790 = .ok (.if_icmp .eq 5, 3) := dk_159 0 5 (dk_at dksL_law_71 16 rfl rfl)
theorem dL_law_1793 : decode cL_law 1793 = .ok (.iconst 0, 1) := dk_3 (dk_at dksL_law_71 19 rfl rfl)
theorem dL_law_1794 : decode cL_law 1794 = .ok (.ireturn, 1) := dk_172 (dk_at dksL_law_71 20 rfl rfl)
theorem dL_law_1795 : decode cL_law 1795 = .ok (.iload 5, 2) := dk_21 5 (dk_at dksL_law_71 21 rfl rfl)
theorem dL_law_1797 : decode cL_law 1797 = .ok (.ifCond .ne 15, 3) := dk_154 0 15 (dk_at dksL_law_72 0 rfl rfl)
theorem dL_law_1800 : decode cL_law 1800 = .ok (.aload_n 3, 1) := dk_45 (dk_at dksL_law_72 3 rfl rfl)
theorem dL_law_1801 : decode cL_law 1801 = .ok (.iconst 0, 1) := dk_3 (dk_at dksL_law_72 4 rfl rfl)
theorem dL_law_1802 : decode cL_law 1802 = .ok (.laload, 1) := dk_47 (dk_at dksL_law_72 5 rfl rfl)
theorem dL_law_1803 : decode cL_law 1803 = .ok (.iload 6, 2) := dk_21 6 (dk_at dksL_law_72 6 rfl rfl)
theorem dL_law_1805 : decode cL_law 1805 = .ok (.i2l, 1) := dk_133 (dk_at dksL_law_72 8 rfl rfl)
theorem dL_law_1806 : decode cL_law 1806 = .ok (.lcmp, 1) := dk_148 (dk_at dksL_law_72 9 rfl rfl)
theorem dL_law_1807 : decode cL_law 1807 = .ok (.ifCond .eq 5, 3) := dk_153 0 5 (dk_at dksL_law_72 10 rfl rfl)
theorem dL_law_1810 : decode cL_law 1810 = .ok (.iconst 0, 1) := dk_3 (dk_at dksL_law_72 13 rfl rfl)
theorem dL_law_1811 : decode cL_law 1811 = .ok (.ireturn, 1) := dk_172 (dk_at dksL_law_72 14 rfl rfl)
theorem dL_law_1812 : decode cL_law 1812 = .ok (.goto 555, 3) := dk_167 2 43 (dk_at dksL_law_72 15 rfl rfl)
theorem dL_law_1815 : decode cL_law 1815 = .ok (.aload_n 1, 1) := dk_43 (dk_at dksL_law_72 18 rfl rfl)
theorem dL_law_1816 : decode cL_law 1816 = .ok (.aload_n 0, 1) := dk_42 (dk_at dksL_law_72 19 rfl rfl)
theorem dL_law_1817 : decode cL_law 1817 = .ok (.iload 4, 2) := dk_21 4 (dk_at dksL_law_72 20 rfl rfl)
theorem dL_law_1819 : decode cL_law 1819 = .ok (.iconst 1, 1) := dk_4 (dk_at dksL_law_72 22 rfl rfl)
theorem dL_law_1820 : decode cL_law 1820 = .ok (.iadd, 1) := dk_96 (dk_at dksL_law_72 23 rfl rfl)
theorem dL_law_1821 : decode cL_law 1821 = .ok (.iaload, 1) := dk_46 (dk_at dksL_law_73 0 rfl rfl)
theorem dL_law_1822 : decode cL_law 1822 = .ok (.aload_n 3, 1) := dk_45 (dk_at dksL_law_73 1 rfl rfl)
theorem dL_law_1823 : decode cL_law 1823 = .ok (.invokestatic 198, 3) := dk_184 0 198 (dk_at dksL_law_73 2 rfl rfl)
theorem dL_law_1826 : decode cL_law 1826 = .ok (.istore 5, 2) := dk_54 5 (dk_at dksL_law_73 5 rfl rfl)
theorem dL_law_1828 : decode cL_law 1828 = .ok (.aload_n 2, 1) := dk_44 (dk_at dksL_law_73 7 rfl rfl)
theorem dL_law_1829 : decode cL_law 1829 = .ok (.aload_n 0, 1) := dk_42 (dk_at dksL_law_73 8 rfl rfl)
theorem dL_law_1830 : decode cL_law 1830 = .ok (.iload 4, 2) := dk_21 4 (dk_at dksL_law_73 9 rfl rfl)
theorem dL_law_1832 : decode cL_law 1832 = .ok (.iconst 1, 1) := dk_4 (dk_at dksL_law_73 11 rfl rfl)
theorem dL_law_1833 : decode cL_law 1833 = .ok (.iadd, 1) := dk_96 (dk_at dksL_law_73 12 rfl rfl)
theorem dL_law_1834 : decode cL_law 1834 = .ok (.iaload, 1) := dk_46 (dk_at dksL_law_73 13 rfl rfl)
theorem dL_law_1835 : decode cL_law 1835 = .ok (.invokevirtual 200, 3) := dk_182 0 200 (dk_at dksL_law_73 14 rfl rfl)
theorem dL_law_1838 : decode cL_law 1838 = .ok (.istore 6, 2) := dk_54 6 (dk_at dksL_law_73 17 rfl rfl)
theorem dL_law_1840 : decode cL_law 1840 = .ok (.aload_n 2, 1) := dk_44 (dk_at dksL_law_73 19 rfl rfl)
theorem dL_law_1841 : decode cL_law 1841 = .ok (.invokevirtual 121, 3) := dk_182 0 121 (dk_at dksL_law_73 20 rfl rfl)
theorem dL_law_1844 : decode cL_law 1844 = .ok (.iload 5, 2) := dk_21 5 (dk_at dksL_law_74 0 rfl rfl)
theorem dL_law_1846 : decode cL_law 1846 = .ok (.if_icmp .eq 5, 3) := dk_159 0 5 (dk_at dksL_law_74 2 rfl rfl)
theorem dL_law_1849 : decode cL_law 1849 = .ok (.iconst 0, 1) := dk_3 (dk_at dksL_law_74 5 rfl rfl)
theorem dL_law_1850 : decode cL_law 1850 = .ok (.ireturn, 1) := dk_172 (dk_at dksL_law_74 6 rfl rfl)
theorem dL_law_1851 : decode cL_law 1851 = .ok (.iload 5, 2) := dk_21 5 (dk_at dksL_law_74 7 rfl rfl)
theorem dL_law_1853 : decode cL_law 1853 = .ok (.ifCond .ne 15, 3) := dk_154 0 15 (dk_at dksL_law_74 9 rfl rfl)
theorem dL_law_1856 : decode cL_law 1856 = .ok (.aload_n 3, 1) := dk_45 (dk_at dksL_law_74 12 rfl rfl)
theorem dL_law_1857 : decode cL_law 1857 = .ok (.iconst 0, 1) := dk_3 (dk_at dksL_law_74 13 rfl rfl)
theorem dL_law_1858 : decode cL_law 1858 = .ok (.laload, 1) := dk_47 (dk_at dksL_law_74 14 rfl rfl)
theorem dL_law_1859 : decode cL_law 1859 = .ok (.iload 6, 2) := dk_21 6 (dk_at dksL_law_74 15 rfl rfl)
theorem dL_law_1861 : decode cL_law 1861 = .ok (.i2l, 1) := dk_133 (dk_at dksL_law_74 17 rfl rfl)
theorem dL_law_1862 : decode cL_law 1862 = .ok (.lcmp, 1) := dk_148 (dk_at dksL_law_74 18 rfl rfl)
theorem dL_law_1863 : decode cL_law 1863 = .ok (.ifCond .eq 5, 3) := dk_153 0 5 (dk_at dksL_law_74 19 rfl rfl)
theorem dL_law_1866 : decode cL_law 1866 = .ok (.iconst 0, 1) := dk_3 (dk_at dksL_law_74 22 rfl rfl)
theorem dL_law_1867 : decode cL_law 1867 = .ok (.ireturn, 1) := dk_172 (dk_at dksL_law_74 23 rfl rfl)
theorem dL_law_1868 : decode cL_law 1868 = .ok (.goto 499, 3) := dk_167 1 243 (dk_at dksL_law_75 0 rfl rfl)
theorem dL_law_1871 : decode cL_law 1871 = .ok (.aload_n 1, 1) := dk_43 (dk_at dksL_law_75 3 rfl rfl)
theorem dL_law_1872 : decode cL_law 1872 = .ok (.aload_n 0, 1) := dk_42 (dk_at dksL_law_75 4 rfl rfl)
theorem dL_law_1873 : decode cL_law 1873 = .ok (.iload 4, 2) := dk_21 4 (dk_at dksL_law_75 5 rfl rfl)
theorem dL_law_1875 : decode cL_law 1875 = .ok (.iconst 1, 1) := dk_4 (dk_at dksL_law_75 7 rfl rfl)
theorem dL_law_1876 : decode cL_law 1876 = .ok (.iadd, 1) := dk_96 (dk_at dksL_law_75 8 rfl rfl)
theorem dL_law_1877 : decode cL_law 1877 = .ok (.iaload, 1) := dk_46 (dk_at dksL_law_75 9 rfl rfl)
theorem dL_law_1878 : decode cL_law 1878 = .ok (.aload_n 0, 1) := dk_42 (dk_at dksL_law_75 10 rfl rfl)
theorem dL_law_1879 : decode cL_law 1879 = .ok (.iload 4, 2) := dk_21 4 (dk_at dksL_law_75 11 rfl rfl)
theorem dL_law_1881 : decode cL_law 1881 = .ok (.iconst 2, 1) := dk_5 (dk_at dksL_law_75 13 rfl rfl)
theorem dL_law_1882 : decode cL_law 1882 = .ok (.iadd, 1) := dk_96 (dk_at dksL_law_75 14 rfl rfl)
theorem dL_law_1883 : decode cL_law 1883 = .ok (.iaload, 1) := dk_46 (dk_at dksL_law_75 15 rfl rfl)
theorem dL_law_1884 : decode cL_law 1884 = .ok (.aload_n 0, 1) := dk_42 (dk_at dksL_law_75 16 rfl rfl)
theorem dL_law_1885 : decode cL_law 1885 = .ok (.iload 4, 2) := dk_21 4 (dk_at dksL_law_75 17 rfl rfl)
theorem dL_law_1887 : decode cL_law 1887 = .ok (.iconst 3, 1) := dk_6 (dk_at dksL_law_75 19 rfl rfl)
theorem dL_law_1888 : decode cL_law 1888 = .ok (.iadd, 1) := dk_96 (dk_at dksL_law_75 20 rfl rfl)
theorem dL_law_1889 : decode cL_law 1889 = .ok (.iaload, 1) := dk_46 (dk_at dksL_law_75 21 rfl rfl)
theorem dL_law_1890 : decode cL_law 1890 = .ok (.aload_n 0, 1) := dk_42 (dk_at dksL_law_75 22 rfl rfl)
theorem dL_law_1891 : decode cL_law 1891 = .ok (.iload 4, 2) := dk_21 4 (dk_at dksL_law_76 0 rfl rfl)
theorem dL_law_1893 : decode cL_law 1893 = .ok (.iconst 4, 1) := dk_7 (dk_at dksL_law_76 2 rfl rfl)
theorem dL_law_1894 : decode cL_law 1894 = .ok (.iadd, 1) := dk_96 (dk_at dksL_law_76 3 rfl rfl)
theorem dL_law_1895 : decode cL_law 1895 = .ok (.iaload, 1) := dk_46 (dk_at dksL_law_76 4 rfl rfl)
theorem dL_law_1896 : decode cL_law 1896 = .ok (.aload_n 3, 1) := dk_45 (dk_at dksL_law_76 5 rfl rfl)
theorem dL_law_1897 : decode cL_law 1897 = .ok (.invokestatic 201, 3) := dk_184 0 201 (dk_at dksL_law_76 6 rfl rfl)
theorem dL_law_1900 : decode cL_law 1900 = .ok (.istore 5, 2) := dk_54 5 (dk_at dksL_law_76 9 rfl rfl)
theorem dL_law_1902 : decode cL_law 1902 = .ok (.aload_n 2, 1) := dk_44 (dk_at dksL_law_76 11 rfl rfl)
theorem dL_law_1903 : decode cL_law 1903 = .ok (.aload_n 0, 1) := dk_42 (dk_at dksL_law_76 12 rfl rfl)
theorem dL_law_1904 : decode cL_law 1904 = .ok (.iload 4, 2) := dk_21 4 (dk_at dksL_law_76 13 rfl rfl)
theorem dL_law_1906 : decode cL_law 1906 = .ok (.iconst 1, 1) := dk_4 (dk_at dksL_law_76 15 rfl rfl)
theorem dL_law_1907 : decode cL_law 1907 = .ok (.iadd, 1) := dk_96 (dk_at dksL_law_76 16 rfl rfl)
theorem dL_law_1908 : decode cL_law 1908 = .ok (.iaload, 1) := dk_46 (dk_at dksL_law_76 17 rfl rfl)
theorem dL_law_1909 : decode cL_law 1909 = .ok (.aload_n 0, 1) := dk_42 (dk_at dksL_law_76 18 rfl rfl)
theorem dL_law_1910 : decode cL_law 1910 = .ok (.iload 4, 2) := dk_21 4 (dk_at dksL_law_76 19 rfl rfl)
theorem dL_law_1912 : decode cL_law 1912 = .ok (.iconst 2, 1) := dk_5 (dk_at dksL_law_76 21 rfl rfl)
theorem dL_law_1913 : decode cL_law 1913 = .ok (.iadd, 1) := dk_96 (dk_at dksL_law_76 22 rfl rfl)
theorem dL_law_1914 : decode cL_law 1914 = .ok (.iaload, 1) := dk_46 (dk_at dksL_law_76 23 rfl rfl)
theorem dL_law_1915 : decode cL_law 1915 = .ok (.aload_n 0, 1) := dk_42 (dk_at dksL_law_77 0 rfl rfl)
theorem dL_law_1916 : decode cL_law 1916 = .ok (.iload 4, 2) := dk_21 4 (dk_at dksL_law_77 1 rfl rfl)
theorem dL_law_1918 : decode cL_law 1918 = .ok (.iconst 3, 1) := dk_6 (dk_at dksL_law_77 3 rfl rfl)
theorem dL_law_1919 : decode cL_law 1919 = .ok (.iadd, 1) := dk_96 (dk_at dksL_law_77 4 rfl rfl)
theorem dL_law_1920 : decode cL_law 1920 = .ok (.iaload, 1) := dk_46 (dk_at dksL_law_77 5 rfl rfl)
theorem dL_law_1921 : decode cL_law 1921 = .ok (.aload_n 0, 1) := dk_42 (dk_at dksL_law_77 6 rfl rfl)
theorem dL_law_1922 : decode cL_law 1922 = .ok (.iload 4, 2) := dk_21 4 (dk_at dksL_law_77 7 rfl rfl)
theorem dL_law_1924 : decode cL_law 1924 = .ok (.iconst 4, 1) := dk_7 (dk_at dksL_law_77 9 rfl rfl)
theorem dL_law_1925 : decode cL_law 1925 = .ok (.iadd, 1) := dk_96 (dk_at dksL_law_77 10 rfl rfl)
theorem dL_law_1926 : decode cL_law 1926 = .ok (.iaload, 1) := dk_46 (dk_at dksL_law_77 11 rfl rfl)
theorem dL_law_1927 : decode cL_law 1927 = .ok (.invokevirtual 204, 3) := dk_182 0 204 (dk_at dksL_law_77 12 rfl rfl)
theorem dL_law_1930 : decode cL_law 1930 = .ok (.istore 6, 2) := dk_54 6 (dk_at dksL_law_77 15 rfl rfl)
theorem dL_law_1932 : decode cL_law 1932 = .ok (.aload_n 2, 1) := dk_44 (dk_at dksL_law_77 17 rfl rfl)
theorem dL_law_1933 : decode cL_law 1933 = .ok (.invokevirtual 121, 3) := dk_182 0 121 (dk_at dksL_law_77 18 rfl rfl)
theorem dL_law_1936 : decode cL_law 1936 = .ok (.iload 5, 2) := dk_21 5 (dk_at dksL_law_77 21 rfl rfl)
theorem dL_law_1938 : decode cL_law 1938 = .ok (.if_icmp .eq 5, 3) := dk_159 0 5 (dk_at dksL_law_78 0 rfl rfl)
theorem dL_law_1941 : decode cL_law 1941 = .ok (.iconst 0, 1) := dk_3 (dk_at dksL_law_78 3 rfl rfl)
theorem dL_law_1942 : decode cL_law 1942 = .ok (.ireturn, 1) := dk_172 (dk_at dksL_law_78 4 rfl rfl)
theorem dL_law_1943 : decode cL_law 1943 = .ok (.iload 5, 2) := dk_21 5 (dk_at dksL_law_78 5 rfl rfl)
theorem dL_law_1945 : decode cL_law 1945 = .ok (.ifCond .ne 15, 3) := dk_154 0 15 (dk_at dksL_law_78 7 rfl rfl)
theorem dL_law_1948 : decode cL_law 1948 = .ok (.aload_n 3, 1) := dk_45 (dk_at dksL_law_78 10 rfl rfl)
theorem dL_law_1949 : decode cL_law 1949 = .ok (.iconst 0, 1) := dk_3 (dk_at dksL_law_78 11 rfl rfl)
theorem dL_law_1950 : decode cL_law 1950 = .ok (.laload, 1) := dk_47 (dk_at dksL_law_78 12 rfl rfl)
theorem dL_law_1951 : decode cL_law 1951 = .ok (.iload 6, 2) := dk_21 6 (dk_at dksL_law_78 13 rfl rfl)
theorem dL_law_1953 : decode cL_law 1953 = .ok (.i2l, 1) := dk_133 (dk_at dksL_law_78 15 rfl rfl)
theorem dL_law_1954 : decode cL_law 1954 = .ok (.lcmp, 1) := dk_148 (dk_at dksL_law_78 16 rfl rfl)
theorem dL_law_1955 : decode cL_law 1955 = .ok (.ifCond .eq 5, 3) := dk_153 0 5 (dk_at dksL_law_78 17 rfl rfl)
theorem dL_law_1958 : decode cL_law 1958 = .ok (.iconst 0, 1) := dk_3 (dk_at dksL_law_78 20 rfl rfl)
theorem dL_law_1959 : decode cL_law 1959 = .ok (.ireturn, 1) := dk_172 (dk_at dksL_law_78 21 rfl rfl)
theorem dL_law_1960 : decode cL_law 1960 = .ok (.goto 407, 3) := dk_167 1 151 (dk_at dksL_law_79 0 rfl rfl)
theorem dL_law_1963 : decode cL_law 1963 = .ok (.aload_n 1, 1) := dk_43 (dk_at dksL_law_79 3 rfl rfl)
theorem dL_law_1964 : decode cL_law 1964 = .ok (.aload_n 0, 1) := dk_42 (dk_at dksL_law_79 4 rfl rfl)
theorem dL_law_1965 : decode cL_law 1965 = .ok (.iload 4, 2) := dk_21 4 (dk_at dksL_law_79 5 rfl rfl)
theorem dL_law_1967 : decode cL_law 1967 = .ok (.iconst 1, 1) := dk_4 (dk_at dksL_law_79 7 rfl rfl)
theorem dL_law_1968 : decode cL_law 1968 = .ok (.iadd, 1) := dk_96 (dk_at dksL_law_79 8 rfl rfl)
theorem dL_law_1969 : decode cL_law 1969 = .ok (.iaload, 1) := dk_46 (dk_at dksL_law_79 9 rfl rfl)
theorem dL_law_1970 : decode cL_law 1970 = .ok (.aload_n 0, 1) := dk_42 (dk_at dksL_law_79 10 rfl rfl)
theorem dL_law_1971 : decode cL_law 1971 = .ok (.iload 4, 2) := dk_21 4 (dk_at dksL_law_79 11 rfl rfl)
theorem dL_law_1973 : decode cL_law 1973 = .ok (.iconst 2, 1) := dk_5 (dk_at dksL_law_79 13 rfl rfl)
theorem dL_law_1974 : decode cL_law 1974 = .ok (.iadd, 1) := dk_96 (dk_at dksL_law_79 14 rfl rfl)
theorem dL_law_1975 : decode cL_law 1975 = .ok (.iaload, 1) := dk_46 (dk_at dksL_law_79 15 rfl rfl)
theorem dL_law_1976 : decode cL_law 1976 = .ok (.aload_n 3, 1) := dk_45 (dk_at dksL_law_79 16 rfl rfl)
theorem dL_law_1977 : decode cL_law 1977 = .ok (.invokestatic 205, 3) := dk_184 0 205 (dk_at dksL_law_79 17 rfl rfl)
theorem dL_law_1980 : decode cL_law 1980 = .ok (.istore 5, 2) := dk_54 5 (dk_at dksL_law_79 20 rfl rfl)
theorem dL_law_1982 : decode cL_law 1982 = .ok (.aload_n 2, 1) := dk_44 (dk_at dksL_law_79 22 rfl rfl)
theorem dL_law_1983 : decode cL_law 1983 = .ok (.aload_n 0, 1) := dk_42 (dk_at dksL_law_79 23 rfl rfl)
theorem dL_law_1984 : decode cL_law 1984 = .ok (.iload 4, 2) := dk_21 4 (dk_at dksL_law_80 0 rfl rfl)
theorem dL_law_1986 : decode cL_law 1986 = .ok (.iconst 1, 1) := dk_4 (dk_at dksL_law_80 2 rfl rfl)
theorem dL_law_1987 : decode cL_law 1987 = .ok (.iadd, 1) := dk_96 (dk_at dksL_law_80 3 rfl rfl)
theorem dL_law_1988 : decode cL_law 1988 = .ok (.iaload, 1) := dk_46 (dk_at dksL_law_80 4 rfl rfl)
theorem dL_law_1989 : decode cL_law 1989 = .ok (.aload_n 0, 1) := dk_42 (dk_at dksL_law_80 5 rfl rfl)
theorem dL_law_1990 : decode cL_law 1990 = .ok (.iload 4, 2) := dk_21 4 (dk_at dksL_law_80 6 rfl rfl)
theorem dL_law_1992 : decode cL_law 1992 = .ok (.iconst 2, 1) := dk_5 (dk_at dksL_law_80 8 rfl rfl)
theorem dL_law_1993 : decode cL_law 1993 = .ok (.iadd, 1) := dk_96 (dk_at dksL_law_80 9 rfl rfl)
theorem dL_law_1994 : decode cL_law 1994 = .ok (.iaload, 1) := dk_46 (dk_at dksL_law_80 10 rfl rfl)
theorem dL_law_1995 : decode cL_law 1995 = .ok (.invokevirtual 207, 3) := dk_182 0 207 (dk_at dksL_law_80 11 rfl rfl)
theorem dL_law_1998 : decode cL_law 1998 = .ok (.istore 6, 2) := dk_54 6 (dk_at dksL_law_80 14 rfl rfl)
theorem dL_law_2000 : decode cL_law 2000 = .ok (.aload_n 2, 1) := dk_44 (dk_at dksL_law_80 16 rfl rfl)
theorem dL_law_2001 : decode cL_law 2001 = .ok (.invokevirtual 121, 3) := dk_182 0 121 (dk_at dksL_law_80 17 rfl rfl)
theorem dL_law_2004 : decode cL_law 2004 = .ok (.iload 5, 2) := dk_21 5 (dk_at dksL_law_80 20 rfl rfl)
theorem dL_law_2006 : decode cL_law 2006 = .ok (.if_icmp .eq 5, 3) := dk_159 0 5 (dk_at dksL_law_81 0 rfl rfl)
theorem dL_law_2009 : decode cL_law 2009 = .ok (.iconst 0, 1) := dk_3 (dk_at dksL_law_81 3 rfl rfl)
theorem dL_law_2010 : decode cL_law 2010 = .ok (.ireturn, 1) := dk_172 (dk_at dksL_law_81 4 rfl rfl)
theorem dL_law_2011 : decode cL_law 2011 = .ok (.iload 5, 2) := dk_21 5 (dk_at dksL_law_81 5 rfl rfl)
theorem dL_law_2013 : decode cL_law 2013 = .ok (.ifCond .ne 15, 3) := dk_154 0 15 (dk_at dksL_law_81 7 rfl rfl)
theorem dL_law_2016 : decode cL_law 2016 = .ok (.aload_n 3, 1) := dk_45 (dk_at dksL_law_81 10 rfl rfl)
theorem dL_law_2017 : decode cL_law 2017 = .ok (.iconst 0, 1) := dk_3 (dk_at dksL_law_81 11 rfl rfl)
theorem dL_law_2018 : decode cL_law 2018 = .ok (.laload, 1) := dk_47 (dk_at dksL_law_81 12 rfl rfl)
theorem dL_law_2019 : decode cL_law 2019 = .ok (.iload 6, 2) := dk_21 6 (dk_at dksL_law_81 13 rfl rfl)
theorem dL_law_2021 : decode cL_law 2021 = .ok (.i2l, 1) := dk_133 (dk_at dksL_law_81 15 rfl rfl)
theorem dL_law_2022 : decode cL_law 2022 = .ok (.lcmp, 1) := dk_148 (dk_at dksL_law_81 16 rfl rfl)
theorem dL_law_2023 : decode cL_law 2023 = .ok (.ifCond .eq 5, 3) := dk_153 0 5 (dk_at dksL_law_81 17 rfl rfl)
theorem dL_law_2026 : decode cL_law 2026 = .ok (.iconst 0, 1) := dk_3 (dk_at dksL_law_81 20 rfl rfl)
theorem dL_law_2027 : decode cL_law 2027 = .ok (.ireturn, 1) := dk_172 (dk_at dksL_law_81 21 rfl rfl)
theorem dL_law_2028 : decode cL_law 2028 = .ok (.goto 339, 3) := dk_167 1 83 (dk_at dksL_law_82 0 rfl rfl)
theorem dL_law_2031 : decode cL_law 2031 = .ok (.aload_n 1, 1) := dk_43 (dk_at dksL_law_82 3 rfl rfl)
theorem dL_law_2032 : decode cL_law 2032 = .ok (.aload_n 0, 1) := dk_42 (dk_at dksL_law_82 4 rfl rfl)
theorem dL_law_2033 : decode cL_law 2033 = .ok (.iload 4, 2) := dk_21 4 (dk_at dksL_law_82 5 rfl rfl)
theorem dL_law_2035 : decode cL_law 2035 = .ok (.iconst 1, 1) := dk_4 (dk_at dksL_law_82 7 rfl rfl)
theorem dL_law_2036 : decode cL_law 2036 = .ok (.iadd, 1) := dk_96 (dk_at dksL_law_82 8 rfl rfl)
theorem dL_law_2037 : decode cL_law 2037 = .ok (.iaload, 1) := dk_46 (dk_at dksL_law_82 9 rfl rfl)
theorem dL_law_2038 : decode cL_law 2038 = .ok (.aload_n 0, 1) := dk_42 (dk_at dksL_law_82 10 rfl rfl)
theorem dL_law_2039 : decode cL_law 2039 = .ok (.iload 4, 2) := dk_21 4 (dk_at dksL_law_82 11 rfl rfl)
theorem dL_law_2041 : decode cL_law 2041 = .ok (.iconst 2, 1) := dk_5 (dk_at dksL_law_82 13 rfl rfl)
theorem dL_law_2042 : decode cL_law 2042 = .ok (.iadd, 1) := dk_96 (dk_at dksL_law_82 14 rfl rfl)
theorem dL_law_2043 : decode cL_law 2043 = .ok (.iaload, 1) := dk_46 (dk_at dksL_law_82 15 rfl rfl)
theorem dL_law_2044 : decode cL_law 2044 = .ok (.aload_n 3, 1) := dk_45 (dk_at dksL_law_82 16 rfl rfl)
theorem dL_law_2045 : decode cL_law 2045 = .ok (.invokestatic 208, 3) := dk_184 0 208 (dk_at dksL_law_82 17 rfl rfl)
theorem dL_law_2048 : decode cL_law 2048 = .ok (.istore 5, 2) := dk_54 5 (dk_at dksL_law_82 20 rfl rfl)
theorem dL_law_2050 : decode cL_law 2050 = .ok (.aload_n 2, 1) := dk_44 (dk_at dksL_law_82 22 rfl rfl)
theorem dL_law_2051 : decode cL_law 2051 = .ok (.aload_n 0, 1) := dk_42 (dk_at dksL_law_82 23 rfl rfl)
theorem dL_law_2052 : decode cL_law 2052 = .ok (.iload 4, 2) := dk_21 4 (dk_at dksL_law_83 0 rfl rfl)
theorem dL_law_2054 : decode cL_law 2054 = .ok (.iconst 1, 1) := dk_4 (dk_at dksL_law_83 2 rfl rfl)
theorem dL_law_2055 : decode cL_law 2055 = .ok (.iadd, 1) := dk_96 (dk_at dksL_law_83 3 rfl rfl)
theorem dL_law_2056 : decode cL_law 2056 = .ok (.iaload, 1) := dk_46 (dk_at dksL_law_83 4 rfl rfl)
theorem dL_law_2057 : decode cL_law 2057 = .ok (.aload_n 0, 1) := dk_42 (dk_at dksL_law_83 5 rfl rfl)
theorem dL_law_2058 : decode cL_law 2058 = .ok (.iload 4, 2) := dk_21 4 (dk_at dksL_law_83 6 rfl rfl)
theorem dL_law_2060 : decode cL_law 2060 = .ok (.iconst 2, 1) := dk_5 (dk_at dksL_law_83 8 rfl rfl)
theorem dL_law_2061 : decode cL_law 2061 = .ok (.iadd, 1) := dk_96 (dk_at dksL_law_83 9 rfl rfl)
theorem dL_law_2062 : decode cL_law 2062 = .ok (.iaload, 1) := dk_46 (dk_at dksL_law_83 10 rfl rfl)
theorem dL_law_2063 : decode cL_law 2063 = .ok (.invokevirtual 210, 3) := dk_182 0 210 (dk_at dksL_law_83 11 rfl rfl)
theorem dL_law_2066 : decode cL_law 2066 = .ok (.istore 6, 2) := dk_54 6 (dk_at dksL_law_83 14 rfl rfl)
theorem dL_law_2068 : decode cL_law 2068 = .ok (.aload_n 2, 1) := dk_44 (dk_at dksL_law_83 16 rfl rfl)
theorem dL_law_2069 : decode cL_law 2069 = .ok (.invokevirtual 121, 3) := dk_182 0 121 (dk_at dksL_law_83 17 rfl rfl)
theorem dL_law_2072 : decode cL_law 2072 = .ok (.iload 5, 2) := dk_21 5 (dk_at dksL_law_83 20 rfl rfl)
theorem dL_law_2074 : decode cL_law 2074 = .ok (.if_icmp .eq 5, 3) := dk_159 0 5 (dk_at dksL_law_84 0 rfl rfl)
theorem dL_law_2077 : decode cL_law 2077 = .ok (.iconst 0, 1) := dk_3 (dk_at dksL_law_84 3 rfl rfl)
theorem dL_law_2078 : decode cL_law 2078 = .ok (.ireturn, 1) := dk_172 (dk_at dksL_law_84 4 rfl rfl)
theorem dL_law_2079 : decode cL_law 2079 = .ok (.iload 5, 2) := dk_21 5 (dk_at dksL_law_84 5 rfl rfl)
theorem dL_law_2081 : decode cL_law 2081 = .ok (.ifCond .ne 15, 3) := dk_154 0 15 (dk_at dksL_law_84 7 rfl rfl)
theorem dL_law_2084 : decode cL_law 2084 = .ok (.aload_n 3, 1) := dk_45 (dk_at dksL_law_84 10 rfl rfl)
theorem dL_law_2085 : decode cL_law 2085 = .ok (.iconst 0, 1) := dk_3 (dk_at dksL_law_84 11 rfl rfl)
theorem dL_law_2086 : decode cL_law 2086 = .ok (.laload, 1) := dk_47 (dk_at dksL_law_84 12 rfl rfl)
theorem dL_law_2087 : decode cL_law 2087 = .ok (.iload 6, 2) := dk_21 6 (dk_at dksL_law_84 13 rfl rfl)
theorem dL_law_2089 : decode cL_law 2089 = .ok (.i2l, 1) := dk_133 (dk_at dksL_law_84 15 rfl rfl)
theorem dL_law_2090 : decode cL_law 2090 = .ok (.lcmp, 1) := dk_148 (dk_at dksL_law_84 16 rfl rfl)
theorem dL_law_2091 : decode cL_law 2091 = .ok (.ifCond .eq 5, 3) := dk_153 0 5 (dk_at dksL_law_84 17 rfl rfl)
theorem dL_law_2094 : decode cL_law 2094 = .ok (.iconst 0, 1) := dk_3 (dk_at dksL_law_84 20 rfl rfl)
theorem dL_law_2095 : decode cL_law 2095 = .ok (.ireturn, 1) := dk_172 (dk_at dksL_law_84 21 rfl rfl)
theorem dL_law_2096 : decode cL_law 2096 = .ok (.goto 271, 3) := dk_167 1 15 (dk_at dksL_law_85 0 rfl rfl)
theorem dL_law_2099 : decode cL_law 2099 = .ok (.aload_n 1, 1) := dk_43 (dk_at dksL_law_85 3 rfl rfl)
theorem dL_law_2100 : decode cL_law 2100 = .ok (.aload_n 0, 1) := dk_42 (dk_at dksL_law_85 4 rfl rfl)
theorem dL_law_2101 : decode cL_law 2101 = .ok (.iload 4, 2) := dk_21 4 (dk_at dksL_law_85 5 rfl rfl)
theorem dL_law_2103 : decode cL_law 2103 = .ok (.iconst 1, 1) := dk_4 (dk_at dksL_law_85 7 rfl rfl)
theorem dL_law_2104 : decode cL_law 2104 = .ok (.iadd, 1) := dk_96 (dk_at dksL_law_85 8 rfl rfl)
theorem dL_law_2105 : decode cL_law 2105 = .ok (.iaload, 1) := dk_46 (dk_at dksL_law_85 9 rfl rfl)
theorem dL_law_2106 : decode cL_law 2106 = .ok (.aload_n 0, 1) := dk_42 (dk_at dksL_law_85 10 rfl rfl)
theorem dL_law_2107 : decode cL_law 2107 = .ok (.iload 4, 2) := dk_21 4 (dk_at dksL_law_85 11 rfl rfl)
theorem dL_law_2109 : decode cL_law 2109 = .ok (.iconst 2, 1) := dk_5 (dk_at dksL_law_85 13 rfl rfl)
theorem dL_law_2110 : decode cL_law 2110 = .ok (.iadd, 1) := dk_96 (dk_at dksL_law_85 14 rfl rfl)
theorem dL_law_2111 : decode cL_law 2111 = .ok (.iaload, 1) := dk_46 (dk_at dksL_law_85 15 rfl rfl)
theorem dL_law_2112 : decode cL_law 2112 = .ok (.aload_n 3, 1) := dk_45 (dk_at dksL_law_85 16 rfl rfl)
theorem dL_law_2113 : decode cL_law 2113 = .ok (.invokestatic 211, 3) := dk_184 0 211 (dk_at dksL_law_85 17 rfl rfl)
theorem dL_law_2116 : decode cL_law 2116 = .ok (.istore 5, 2) := dk_54 5 (dk_at dksL_law_85 20 rfl rfl)
theorem dL_law_2118 : decode cL_law 2118 = .ok (.aload_n 2, 1) := dk_44 (dk_at dksL_law_85 22 rfl rfl)
theorem dL_law_2119 : decode cL_law 2119 = .ok (.aload_n 0, 1) := dk_42 (dk_at dksL_law_85 23 rfl rfl)
theorem dL_law_2120 : decode cL_law 2120 = .ok (.iload 4, 2) := dk_21 4 (dk_at dksL_law_86 0 rfl rfl)
theorem dL_law_2122 : decode cL_law 2122 = .ok (.iconst 1, 1) := dk_4 (dk_at dksL_law_86 2 rfl rfl)
theorem dL_law_2123 : decode cL_law 2123 = .ok (.iadd, 1) := dk_96 (dk_at dksL_law_86 3 rfl rfl)
theorem dL_law_2124 : decode cL_law 2124 = .ok (.iaload, 1) := dk_46 (dk_at dksL_law_86 4 rfl rfl)
theorem dL_law_2125 : decode cL_law 2125 = .ok (.aload_n 0, 1) := dk_42 (dk_at dksL_law_86 5 rfl rfl)
theorem dL_law_2126 : decode cL_law 2126 = .ok (.iload 4, 2) := dk_21 4 (dk_at dksL_law_86 6 rfl rfl)
theorem dL_law_2128 : decode cL_law 2128 = .ok (.iconst 2, 1) := dk_5 (dk_at dksL_law_86 8 rfl rfl)
theorem dL_law_2129 : decode cL_law 2129 = .ok (.iadd, 1) := dk_96 (dk_at dksL_law_86 9 rfl rfl)
theorem dL_law_2130 : decode cL_law 2130 = .ok (.iaload, 1) := dk_46 (dk_at dksL_law_86 10 rfl rfl)
theorem dL_law_2131 : decode cL_law 2131 = .ok (.invokevirtual 213, 3) := dk_182 0 213 (dk_at dksL_law_86 11 rfl rfl)
theorem dL_law_2134 : decode cL_law 2134 = .ok (.istore 6, 2) := dk_54 6 (dk_at dksL_law_86 14 rfl rfl)
theorem dL_law_2136 : decode cL_law 2136 = .ok (.aload_n 2, 1) := dk_44 (dk_at dksL_law_86 16 rfl rfl)
theorem dL_law_2137 : decode cL_law 2137 = .ok (.invokevirtual 121, 3) := dk_182 0 121 (dk_at dksL_law_86 17 rfl rfl)
theorem dL_law_2140 : decode cL_law 2140 = .ok (.iload 5, 2) := dk_21 5 (dk_at dksL_law_86 20 rfl rfl)
theorem dL_law_2142 : decode cL_law 2142 = .ok (.if_icmp .eq 5, 3) := dk_159 0 5 (dk_at dksL_law_87 0 rfl rfl)
theorem dL_law_2145 : decode cL_law 2145 = .ok (.iconst 0, 1) := dk_3 (dk_at dksL_law_87 3 rfl rfl)
theorem dL_law_2146 : decode cL_law 2146 = .ok (.ireturn, 1) := dk_172 (dk_at dksL_law_87 4 rfl rfl)
theorem dL_law_2147 : decode cL_law 2147 = .ok (.iload 5, 2) := dk_21 5 (dk_at dksL_law_87 5 rfl rfl)
theorem dL_law_2149 : decode cL_law 2149 = .ok (.ifCond .ne 15, 3) := dk_154 0 15 (dk_at dksL_law_87 7 rfl rfl)
theorem dL_law_2152 : decode cL_law 2152 = .ok (.aload_n 3, 1) := dk_45 (dk_at dksL_law_87 10 rfl rfl)
theorem dL_law_2153 : decode cL_law 2153 = .ok (.iconst 0, 1) := dk_3 (dk_at dksL_law_87 11 rfl rfl)
theorem dL_law_2154 : decode cL_law 2154 = .ok (.laload, 1) := dk_47 (dk_at dksL_law_87 12 rfl rfl)
theorem dL_law_2155 : decode cL_law 2155 = .ok (.iload 6, 2) := dk_21 6 (dk_at dksL_law_87 13 rfl rfl)
theorem dL_law_2157 : decode cL_law 2157 = .ok (.i2l, 1) := dk_133 (dk_at dksL_law_87 15 rfl rfl)
theorem dL_law_2158 : decode cL_law 2158 = .ok (.lcmp, 1) := dk_148 (dk_at dksL_law_87 16 rfl rfl)
theorem dL_law_2159 : decode cL_law 2159 = .ok (.ifCond .eq 5, 3) := dk_153 0 5 (dk_at dksL_law_87 17 rfl rfl)
theorem dL_law_2162 : decode cL_law 2162 = .ok (.iconst 0, 1) := dk_3 (dk_at dksL_law_87 20 rfl rfl)
theorem dL_law_2163 : decode cL_law 2163 = .ok (.ireturn, 1) := dk_172 (dk_at dksL_law_87 21 rfl rfl)
theorem dL_law_2164 : decode cL_law 2164 = .ok (.goto 203, 3) := dk_167 0 203 (dk_at dksL_law_88 0 rfl rfl)
theorem dL_law_2167 : decode cL_law 2167 = .ok (.aload_n 1, 1) := dk_43 (dk_at dksL_law_88 3 rfl rfl)
theorem dL_law_2168 : decode cL_law 2168 = .ok (.aload_n 0, 1) := dk_42 (dk_at dksL_law_88 4 rfl rfl)
theorem dL_law_2169 : decode cL_law 2169 = .ok (.iload 4, 2) := dk_21 4 (dk_at dksL_law_88 5 rfl rfl)
theorem dL_law_2171 : decode cL_law 2171 = .ok (.iconst 1, 1) := dk_4 (dk_at dksL_law_88 7 rfl rfl)
theorem dL_law_2172 : decode cL_law 2172 = .ok (.iadd, 1) := dk_96 (dk_at dksL_law_88 8 rfl rfl)
theorem dL_law_2173 : decode cL_law 2173 = .ok (.iaload, 1) := dk_46 (dk_at dksL_law_88 9 rfl rfl)
theorem dL_law_2174 : decode cL_law 2174 = .ok (.aload_n 0, 1) := dk_42 (dk_at dksL_law_88 10 rfl rfl)
theorem dL_law_2175 : decode cL_law 2175 = .ok (.iload 4, 2) := dk_21 4 (dk_at dksL_law_88 11 rfl rfl)
theorem dL_law_2177 : decode cL_law 2177 = .ok (.iconst 2, 1) := dk_5 (dk_at dksL_law_88 13 rfl rfl)
theorem dL_law_2178 : decode cL_law 2178 = .ok (.iadd, 1) := dk_96 (dk_at dksL_law_88 14 rfl rfl)
theorem dL_law_2179 : decode cL_law 2179 = .ok (.iaload, 1) := dk_46 (dk_at dksL_law_88 15 rfl rfl)
theorem dL_law_2180 : decode cL_law 2180 = .ok (.aload_n 3, 1) := dk_45 (dk_at dksL_law_88 16 rfl rfl)
theorem dL_law_2181 : decode cL_law 2181 = .ok (.invokestatic 214, 3) := dk_184 0 214 (dk_at dksL_law_88 17 rfl rfl)
theorem dL_law_2184 : decode cL_law 2184 = .ok (.istore 5, 2) := dk_54 5 (dk_at dksL_law_88 20 rfl rfl)
theorem dL_law_2186 : decode cL_law 2186 = .ok (.aload_n 2, 1) := dk_44 (dk_at dksL_law_88 22 rfl rfl)
theorem dL_law_2187 : decode cL_law 2187 = .ok (.aload_n 0, 1) := dk_42 (dk_at dksL_law_88 23 rfl rfl)
theorem dL_law_2188 : decode cL_law 2188 = .ok (.iload 4, 2) := dk_21 4 (dk_at dksL_law_89 0 rfl rfl)
theorem dL_law_2190 : decode cL_law 2190 = .ok (.iconst 1, 1) := dk_4 (dk_at dksL_law_89 2 rfl rfl)
theorem dL_law_2191 : decode cL_law 2191 = .ok (.iadd, 1) := dk_96 (dk_at dksL_law_89 3 rfl rfl)
theorem dL_law_2192 : decode cL_law 2192 = .ok (.iaload, 1) := dk_46 (dk_at dksL_law_89 4 rfl rfl)
theorem dL_law_2193 : decode cL_law 2193 = .ok (.aload_n 0, 1) := dk_42 (dk_at dksL_law_89 5 rfl rfl)
theorem dL_law_2194 : decode cL_law 2194 = .ok (.iload 4, 2) := dk_21 4 (dk_at dksL_law_89 6 rfl rfl)
theorem dL_law_2196 : decode cL_law 2196 = .ok (.iconst 2, 1) := dk_5 (dk_at dksL_law_89 8 rfl rfl)
theorem dL_law_2197 : decode cL_law 2197 = .ok (.iadd, 1) := dk_96 (dk_at dksL_law_89 9 rfl rfl)
theorem dL_law_2198 : decode cL_law 2198 = .ok (.iaload, 1) := dk_46 (dk_at dksL_law_89 10 rfl rfl)
theorem dL_law_2199 : decode cL_law 2199 = .ok (.invokevirtual 216, 3) := dk_182 0 216 (dk_at dksL_law_89 11 rfl rfl)
theorem dL_law_2202 : decode cL_law 2202 = .ok (.istore 6, 2) := dk_54 6 (dk_at dksL_law_89 14 rfl rfl)
theorem dL_law_2204 : decode cL_law 2204 = .ok (.aload_n 2, 1) := dk_44 (dk_at dksL_law_89 16 rfl rfl)
theorem dL_law_2205 : decode cL_law 2205 = .ok (.invokevirtual 121, 3) := dk_182 0 121 (dk_at dksL_law_89 17 rfl rfl)
theorem dL_law_2208 : decode cL_law 2208 = .ok (.iload 5, 2) := dk_21 5 (dk_at dksL_law_89 20 rfl rfl)
theorem dL_law_2210 : decode cL_law 2210 = .ok (.if_icmp .eq 5, 3) := dk_159 0 5 (dk_at dksL_law_90 0 rfl rfl)
theorem dL_law_2213 : decode cL_law 2213 = .ok (.iconst 0, 1) := dk_3 (dk_at dksL_law_90 3 rfl rfl)
theorem dL_law_2214 : decode cL_law 2214 = .ok (.ireturn, 1) := dk_172 (dk_at dksL_law_90 4 rfl rfl)
theorem dL_law_2215 : decode cL_law 2215 = .ok (.iload 5, 2) := dk_21 5 (dk_at dksL_law_90 5 rfl rfl)
theorem dL_law_2217 : decode cL_law 2217 = .ok (.ifCond .ne 15, 3) := dk_154 0 15 (dk_at dksL_law_90 7 rfl rfl)
theorem dL_law_2220 : decode cL_law 2220 = .ok (.aload_n 3, 1) := dk_45 (dk_at dksL_law_90 10 rfl rfl)
theorem dL_law_2221 : decode cL_law 2221 = .ok (.iconst 0, 1) := dk_3 (dk_at dksL_law_90 11 rfl rfl)
theorem dL_law_2222 : decode cL_law 2222 = .ok (.laload, 1) := dk_47 (dk_at dksL_law_90 12 rfl rfl)
theorem dL_law_2223 : decode cL_law 2223 = .ok (.iload 6, 2) := dk_21 6 (dk_at dksL_law_90 13 rfl rfl)
theorem dL_law_2225 : decode cL_law 2225 = .ok (.i2l, 1) := dk_133 (dk_at dksL_law_90 15 rfl rfl)
theorem dL_law_2226 : decode cL_law 2226 = .ok (.lcmp, 1) := dk_148 (dk_at dksL_law_90 16 rfl rfl)
theorem dL_law_2227 : decode cL_law 2227 = .ok (.ifCond .eq 5, 3) := dk_153 0 5 (dk_at dksL_law_90 17 rfl rfl)
theorem dL_law_2230 : decode cL_law 2230 = .ok (.iconst 0, 1) := dk_3 (dk_at dksL_law_90 20 rfl rfl)
theorem dL_law_2231 : decode cL_law 2231 = .ok (.ireturn, 1) := dk_172 (dk_at dksL_law_90 21 rfl rfl)
theorem dL_law_2232 : decode cL_law 2232 = .ok (.goto 135, 3) := dk_167 0 135 (dk_at dksL_law_91 0 rfl rfl)
theorem dL_law_2235 : decode cL_law 2235 = .ok (.aload_n 1, 1) := dk_43 (dk_at dksL_law_91 3 rfl rfl)
theorem dL_law_2236 : decode cL_law 2236 = .ok (.aload_n 0, 1) := dk_42 (dk_at dksL_law_91 4 rfl rfl)
theorem dL_law_2237 : decode cL_law 2237 = .ok (.iload 4, 2) := dk_21 4 (dk_at dksL_law_91 5 rfl rfl)
theorem dL_law_2239 : decode cL_law 2239 = .ok (.iconst 1, 1) := dk_4 (dk_at dksL_law_91 7 rfl rfl)
theorem dL_law_2240 : decode cL_law 2240 = .ok (.iadd, 1) := dk_96 (dk_at dksL_law_91 8 rfl rfl)
theorem dL_law_2241 : decode cL_law 2241 = .ok (.iaload, 1) := dk_46 (dk_at dksL_law_91 9 rfl rfl)
theorem dL_law_2242 : decode cL_law 2242 = .ok (.aload_n 3, 1) := dk_45 (dk_at dksL_law_91 10 rfl rfl)
theorem dL_law_2243 : decode cL_law 2243 = .ok (.invokestatic 217, 3) := dk_184 0 217 (dk_at dksL_law_91 11 rfl rfl)
theorem dL_law_2246 : decode cL_law 2246 = .ok (.istore 5, 2) := dk_54 5 (dk_at dksL_law_91 14 rfl rfl)
theorem dL_law_2248 : decode cL_law 2248 = .ok (.aload_n 2, 1) := dk_44 (dk_at dksL_law_91 16 rfl rfl)
theorem dL_law_2249 : decode cL_law 2249 = .ok (.aload_n 0, 1) := dk_42 (dk_at dksL_law_91 17 rfl rfl)
theorem dL_law_2250 : decode cL_law 2250 = .ok (.iload 4, 2) := dk_21 4 (dk_at dksL_law_91 18 rfl rfl)
theorem dL_law_2252 : decode cL_law 2252 = .ok (.iconst 1, 1) := dk_4 (dk_at dksL_law_91 20 rfl rfl)
theorem dL_law_2253 : decode cL_law 2253 = .ok (.iadd, 1) := dk_96 (dk_at dksL_law_91 21 rfl rfl)
theorem dL_law_2254 : decode cL_law 2254 = .ok (.iaload, 1) := dk_46 (dk_at dksL_law_91 22 rfl rfl)
theorem dL_law_2255 : decode cL_law 2255 = .ok (.invokevirtual 219, 3) := dk_182 0 219 (dk_at dksL_law_92 0 rfl rfl)
theorem dL_law_2258 : decode cL_law 2258 = .ok (.istore 6, 2) := dk_54 6 (dk_at dksL_law_92 3 rfl rfl)
theorem dL_law_2260 : decode cL_law 2260 = .ok (.aload_n 2, 1) := dk_44 (dk_at dksL_law_92 5 rfl rfl)
theorem dL_law_2261 : decode cL_law 2261 = .ok (.invokevirtual 121, 3) := dk_182 0 121 (dk_at dksL_law_92 6 rfl rfl)
theorem dL_law_2264 : decode cL_law 2264 = .ok (.iload 5, 2) := dk_21 5 (dk_at dksL_law_92 9 rfl rfl)
theorem dL_law_2266 : decode cL_law 2266 = .ok (.if_icmp .eq 5, 3) := dk_159 0 5 (dk_at dksL_law_92 11 rfl rfl)
theorem dL_law_2269 : decode cL_law 2269 = .ok (.iconst 0, 1) := dk_3 (dk_at dksL_law_92 14 rfl rfl)
theorem dL_law_2270 : decode cL_law 2270 = .ok (.ireturn, 1) := dk_172 (dk_at dksL_law_92 15 rfl rfl)
theorem dL_law_2271 : decode cL_law 2271 = .ok (.iload 5, 2) := dk_21 5 (dk_at dksL_law_92 16 rfl rfl)
theorem dL_law_2273 : decode cL_law 2273 = .ok (.ifCond .ne 15, 3) := dk_154 0 15 (dk_at dksL_law_92 18 rfl rfl)
theorem dL_law_2276 : decode cL_law 2276 = .ok (.aload_n 3, 1) := dk_45 (dk_at dksL_law_92 21 rfl rfl)
theorem dL_law_2277 : decode cL_law 2277 = .ok (.iconst 0, 1) := dk_3 (dk_at dksL_law_92 22 rfl rfl)
theorem dL_law_2278 : decode cL_law 2278 = .ok (.laload, 1) := dk_47 (dk_at dksL_law_92 23 rfl rfl)
theorem dL_law_2279 : decode cL_law 2279 = .ok (.iload 6, 2) := dk_21 6 (dk_at dksL_law_93 0 rfl rfl)
theorem dL_law_2281 : decode cL_law 2281 = .ok (.i2l, 1) := dk_133 (dk_at dksL_law_93 2 rfl rfl)
theorem dL_law_2282 : decode cL_law 2282 = .ok (.lcmp, 1) := dk_148 (dk_at dksL_law_93 3 rfl rfl)
theorem dL_law_2283 : decode cL_law 2283 = .ok (.ifCond .eq 5, 3) := dk_153 0 5 (dk_at dksL_law_93 4 rfl rfl)
theorem dL_law_2286 : decode cL_law 2286 = .ok (.iconst 0, 1) := dk_3 (dk_at dksL_law_93 7 rfl rfl)
theorem dL_law_2287 : decode cL_law 2287 = .ok (.ireturn, 1) := dk_172 (dk_at dksL_law_93 8 rfl rfl)
theorem dL_law_2288 : decode cL_law 2288 = .ok (.goto 79, 3) := dk_167 0 79 (dk_at dksL_law_93 9 rfl rfl)
theorem dL_law_2291 : decode cL_law 2291 = .ok (.aload_n 1, 1) := dk_43 (dk_at dksL_law_93 12 rfl rfl)
theorem dL_law_2292 : decode cL_law 2292 = .ok (.aload_n 0, 1) := dk_42 (dk_at dksL_law_93 13 rfl rfl)
theorem dL_law_2293 : decode cL_law 2293 = .ok (.iload 4, 2) := dk_21 4 (dk_at dksL_law_93 14 rfl rfl)
theorem dL_law_2295 : decode cL_law 2295 = .ok (.iconst 1, 1) := dk_4 (dk_at dksL_law_93 16 rfl rfl)
theorem dL_law_2296 : decode cL_law 2296 = .ok (.iadd, 1) := dk_96 (dk_at dksL_law_93 17 rfl rfl)
theorem dL_law_2297 : decode cL_law 2297 = .ok (.iaload, 1) := dk_46 (dk_at dksL_law_93 18 rfl rfl)
theorem dL_law_2298 : decode cL_law 2298 = .ok (.aload_n 3, 1) := dk_45 (dk_at dksL_law_93 19 rfl rfl)
theorem dL_law_2299 : decode cL_law 2299 = .ok (.invokestatic 220, 3) := dk_184 0 220 (dk_at dksL_law_93 20 rfl rfl)
theorem dL_law_2302 : decode cL_law 2302 = .ok (.istore 5, 2) := dk_54 5 (dk_at dksL_law_94 0 rfl rfl)
theorem dL_law_2304 : decode cL_law 2304 = .ok (.aload_n 2, 1) := dk_44 (dk_at dksL_law_94 2 rfl rfl)
theorem dL_law_2305 : decode cL_law 2305 = .ok (.aload_n 0, 1) := dk_42 (dk_at dksL_law_94 3 rfl rfl)
theorem dL_law_2306 : decode cL_law 2306 = .ok (.iload 4, 2) := dk_21 4 (dk_at dksL_law_94 4 rfl rfl)
theorem dL_law_2308 : decode cL_law 2308 = .ok (.iconst 1, 1) := dk_4 (dk_at dksL_law_94 6 rfl rfl)
theorem dL_law_2309 : decode cL_law 2309 = .ok (.iadd, 1) := dk_96 (dk_at dksL_law_94 7 rfl rfl)
theorem dL_law_2310 : decode cL_law 2310 = .ok (.iaload, 1) := dk_46 (dk_at dksL_law_94 8 rfl rfl)
theorem dL_law_2311 : decode cL_law 2311 = .ok (.invokevirtual 222, 3) := dk_182 0 222 (dk_at dksL_law_94 9 rfl rfl)
theorem dL_law_2314 : decode cL_law 2314 = .ok (.istore 6, 2) := dk_54 6 (dk_at dksL_law_94 12 rfl rfl)
theorem dL_law_2316 : decode cL_law 2316 = .ok (.aload_n 2, 1) := dk_44 (dk_at dksL_law_94 14 rfl rfl)
theorem dL_law_2317 : decode cL_law 2317 = .ok (.invokevirtual 121, 3) := dk_182 0 121 (dk_at dksL_law_94 15 rfl rfl)
theorem dL_law_2320 : decode cL_law 2320 = .ok (.iload 5, 2) := dk_21 5 (dk_at dksL_law_94 18 rfl rfl)
theorem dL_law_2322 : decode cL_law 2322 = .ok (.if_icmp .eq 5, 3) := dk_159 0 5 (dk_at dksL_law_94 20 rfl rfl)
theorem dL_law_2325 : decode cL_law 2325 = .ok (.iconst 0, 1) := dk_3 (dk_at dksL_law_94 23 rfl rfl)
theorem dL_law_2326 : decode cL_law 2326 = .ok (.ireturn, 1) := dk_172 (dk_at dksL_law_95 0 rfl rfl)
theorem dL_law_2327 : decode cL_law 2327 = .ok (.iload 5, 2) := dk_21 5 (dk_at dksL_law_95 1 rfl rfl)
theorem dL_law_2329 : decode cL_law 2329 = .ok (.ifCond .ne 22, 3) := dk_154 0 22 (dk_at dksL_law_95 3 rfl rfl)
theorem dL_law_2332 : decode cL_law 2332 = .ok (.aload_n 3, 1) := dk_45 (dk_at dksL_law_95 6 rfl rfl)
theorem dL_law_2333 : decode cL_law 2333 = .ok (.iconst 0, 1) := dk_3 (dk_at dksL_law_95 7 rfl rfl)
theorem dL_law_2334 : decode cL_law 2334 = .ok (.laload, 1) := dk_47 (dk_at dksL_law_95 8 rfl rfl)
theorem dL_law_2335 : decode cL_law 2335 = .ok (.iload 6, 2) := dk_21 6 (dk_at dksL_law_95 9 rfl rfl)
theorem dL_law_2337 : decode cL_law 2337 = .ok (.ifCond .eq 7, 3) := dk_153 0 7 (dk_at dksL_law_95 11 rfl rfl)
theorem dL_law_2340 : decode cL_law 2340 = .ok (.lconst 1, 1) := dk_10 (dk_at dksL_law_95 14 rfl rfl)
theorem dL_law_2341 : decode cL_law 2341 = .ok (.goto 4, 3) := dk_167 0 4 (dk_at dksL_law_95 15 rfl rfl)
theorem dL_law_2344 : decode cL_law 2344 = .ok (.lconst 0, 1) := dk_9 (dk_at dksL_law_95 18 rfl rfl)
theorem dL_law_2345 : decode cL_law 2345 = .ok (.lcmp, 1) := dk_148 (dk_at dksL_law_95 19 rfl rfl)
theorem dL_law_2346 : decode cL_law 2346 = .ok (.ifCond .eq 5, 3) := dk_153 0 5 (dk_at dksL_law_95 20 rfl rfl)
theorem dL_law_2349 : decode cL_law 2349 = .ok (.iconst 0, 1) := dk_3 (dk_at dksL_law_95 23 rfl rfl)
theorem dL_law_2350 : decode cL_law 2350 = .ok (.ireturn, 1) := dk_172 (dk_at dksL_law_96 0 rfl rfl)
theorem dL_law_2351 : decode cL_law 2351 = .ok (.goto 16, 3) := dk_167 0 16 (dk_at dksL_law_96 1 rfl rfl)
theorem dL_law_2354 : decode cL_law 2354 = .ok (.aload_n 1, 1) := dk_43 (dk_at dksL_law_96 4 rfl rfl)
theorem dL_law_2355 : decode cL_law 2355 = .ok (.invokevirtual 223, 3) := dk_182 0 223 (dk_at dksL_law_96 5 rfl rfl)
theorem dL_law_2358 : decode cL_law 2358 = .ok (.aload_n 2, 1) := dk_44 (dk_at dksL_law_96 8 rfl rfl)
theorem dL_law_2359 : decode cL_law 2359 = .ok (.invokevirtual 226, 3) := dk_182 0 226 (dk_at dksL_law_96 9 rfl rfl)
theorem dL_law_2362 : decode cL_law 2362 = .ok (.if_icmp .eq 5, 3) := dk_159 0 5 (dk_at dksL_law_96 12 rfl rfl)
theorem dL_law_2365 : decode cL_law 2365 = .ok (.iconst 0, 1) := dk_3 (dk_at dksL_law_96 15 rfl rfl)
theorem dL_law_2366 : decode cL_law 2366 = .ok (.ireturn, 1) := dk_172 (dk_at dksL_law_96 16 rfl rfl)
theorem dL_law_2367 : decode cL_law 2367 = .ok (.iinc 4 7, 3) := dk_132 4 7 (dk_at dksL_law_96 17 rfl rfl)
theorem dL_law_2370 : decode cL_law 2370 = .ok (.goto (-2347), 3) := dk_167 246 213 (dk_at dksL_law_96 20 rfl rfl)
theorem dL_law_2373 : decode cL_law 2373 = .ok (.iconst 1, 1) := dk_4 (dk_at dksL_law_96 23 rfl rfl)
theorem dL_law_2374 : decode cL_law 2374 = .ok (.ireturn, 1) := dk_172 (dk_at dksL_law_97 0 rfl rfl)
