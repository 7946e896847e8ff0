/-! GridMarketModel -/
set_option maxRecDepth 100000
def RX3 : String := "GridMarketModel"
def TX3 : u_T := fun k => match k with
  | 0 => ("GridMarketModel", "day", "I", false)
  | 1 => ("GridMarketModel", "cleared", "I", false)
  | 2 => ("GridMarketModel", "limits", "[I", true)
  | 3 => ("GridMarketModel", "accounts", "[I", true)
  | 4 => ("GridMarketModel", "deposits", "[I", true)
  | 5 => ("GridMarketModel", "failed", "[I", true)
  | 6 => ("GridMarketModel", "house", "I", false)
  | 7 => ("GridMarketModel", "bids", "I", false)
  | 8 => ("GridMarketModel", "bidFirms", "[I", true)
  | 9 => ("GridMarketModel", "bidZones", "[I", true)
  | 10 => ("GridMarketModel", "bidHours", "[I", true)
  | 11 => ("GridMarketModel", "bidBuys", "[I", true)
  | 12 => ("GridMarketModel", "bidPrices", "[I", true)
  | 13 => ("GridMarketModel", "bidUnits", "[I", true)
  | 14 => ("GridMarketModel", "bidTaken", "[I", true)
  | 15 => ("GridMarketModel", "used", "[I", true)
  | 16 => ("GridMarketModel", "blocks", "I", false)
  | 17 => ("GridMarketModel", "blockFirms", "[I", true)
  | 18 => ("GridMarketModel", "blockZones", "[I", true)
  | 19 => ("GridMarketModel", "blockHours", "[I", true)
  | 20 => ("GridMarketModel", "blockBuys", "[I", true)
  | 21 => ("GridMarketModel", "blockPrices", "[I", true)
  | 22 => ("GridMarketModel", "blockUnits", "[I", true)
  | 23 => ("GridMarketModel", "links", "[I", true)
  | 24 => ("GridMarketModel", "groups", "[I", true)
  | 25 => ("GridMarketModel", "taken", "I", false)
  | 26 => ("GridMarketModel", "asks", "I", false)
  | 27 => ("GridMarketModel", "askFirms", "[I", true)
  | 28 => ("GridMarketModel", "askFroms", "[I", true)
  | 29 => ("GridMarketModel", "askTos", "[I", true)
  | 30 => ("GridMarketModel", "askUnits", "[I", true)
  | 31 => ("GridMarketModel", "askPrices", "[I", true)
  | 32 => ("GridMarketModel", "askGiven", "[I", true)
  | 33 => ("GridMarketModel", "offers", "I", false)
  | 34 => ("GridMarketModel", "offerFirms", "[I", true)
  | 35 => ("GridMarketModel", "offerZones", "[I", true)
  | 36 => ("GridMarketModel", "offerHours", "[I", true)
  | 37 => ("GridMarketModel", "offerBuys", "[I", true)
  | 38 => ("GridMarketModel", "offerPrices", "[I", true)
  | 39 => ("GridMarketModel", "offerLeft", "[I", true)
  | 40 => ("GridMarketModel", "looked", "[I", true)
  | 41 => ("GridMarketModel", "aids", "[I", true)
  | 42 => ("GridMarketModel", "aidFirms", "[I", true)
  | 43 => ("GridMarketModel", "aidHours", "[I", true)
  | 44 => ("GridMarketModel", "aidMore", "[I", true)
  | 45 => ("GridMarketModel", "aidPrices", "[I", true)
  | 46 => ("GridMarketModel", "aidUnits", "[I", true)
  | 47 => ("GridMarketModel", "aidUsed", "[I", true)
  | 48 => ("GridMarketModel", "prices", "[I", true)
  | 49 => ("GridMarketModel", "plans", "[I", true)
  | 50 => ("GridMarketModel", "readings", "[I", true)
  | 51 => ("GridMarketModel", "areRead", "[I", true)
  | 52 => ("GridMarketModel", "brings", "[I", true)
  | 53 => ("GridMarketModel", "gave", "[I", true)
  | 54 => ("GridMarketModel", "runs", "[I", true)
  | 55 => ("GridMarketModel", "nets", "[I", true)
  | 56 => ("GridMarketModel", "costs", "[I", true)
  | 57 => ("GridMarketModel", "values", "[I", true)
  | 58 => ("GridMarketModel", "sells", "I", false)
  | 59 => ("GridMarketModel", "buys", "I", false)
  | 60 => ("GridMarketModel", "worths", "[I", true)
  | 61 => ("GridMarketModel", "bought", "[I", true)
  | 62 => ("GridMarketModel", "bases", "[I", true)
  | 63 => ("GridMarketModel", "setNets", "[I", true)
  | 64 => ("GridMarketModel", "setPrices", "[I", true)
  | 65 => ("GridMarketModel", "bestFirst", "I", false)
  | 66 => ("GridMarketModel", "bestSecond", "I", false)
  | _ => ("GridMarketModel", "thrown", "I", false)
def tyX3 : Nat → FieldType := fun k => match k with
  | 0 => .int
  | 1 => .int
  | 2 => .array .int
  | 3 => .array .int
  | 4 => .array .int
  | 5 => .array .int
  | 6 => .int
  | 7 => .int
  | 8 => .array .int
  | 9 => .array .int
  | 10 => .array .int
  | 11 => .array .int
  | 12 => .array .int
  | 13 => .array .int
  | 14 => .array .int
  | 15 => .array .int
  | 16 => .int
  | 17 => .array .int
  | 18 => .array .int
  | 19 => .array .int
  | 20 => .array .int
  | 21 => .array .int
  | 22 => .array .int
  | 23 => .array .int
  | 24 => .array .int
  | 25 => .int
  | 26 => .int
  | 27 => .array .int
  | 28 => .array .int
  | 29 => .array .int
  | 30 => .array .int
  | 31 => .array .int
  | 32 => .array .int
  | 33 => .int
  | 34 => .array .int
  | 35 => .array .int
  | 36 => .array .int
  | 37 => .array .int
  | 38 => .array .int
  | 39 => .array .int
  | 40 => .array .int
  | 41 => .array .int
  | 42 => .array .int
  | 43 => .array .int
  | 44 => .array .int
  | 45 => .array .int
  | 46 => .array .int
  | 47 => .array .int
  | 48 => .array .int
  | 49 => .array .int
  | 50 => .array .int
  | 51 => .array .int
  | 52 => .array .int
  | 53 => .array .int
  | 54 => .array .int
  | 55 => .array .int
  | 56 => .array .int
  | 57 => .array .int
  | 58 => .int
  | 59 => .int
  | 60 => .array .int
  | 61 => .array .int
  | 62 => .array .int
  | 63 => .array .int
  | 64 => .array .int
  | 65 => .int
  | 66 => .int
  | _ => .int
abbrev wsX30 : List Cond := u_ws RX3 TX3 68
set_option maxRecDepth 100000 in
theorem nmX3 : ∀ a, a < 68 → ∀ b, b < 68 → a ≠ b → (TX3 a).2.1 ≠ (TX3 b).2.1 := by decide +kernel
set_option maxRecDepth 100000 in
theorem tyX3_ok : ∀ k, k < 68 → parseFieldDescriptor (TX3 k).2.2.1 = some (tyX3 k) := by decide +kernel
abbrev cX3_init : ByteArray := prog_15_method_1_code
def yX3_init : MethodName := ⟨RX3, "<init>", "()V"⟩
def dkwX3_init_19 : List UInt8 := [6, 162, 0, 16, 42, 180, 0, 7, 27, 8, 79, 132, 1, 1, 167, 255, 241, 177]
abbrev dktX3_init_19 : List UInt8 := dkwX3_init_19 ++ []
def dkwX3_init_18 : List UInt8 := [188, 10, 181, 0, 166, 42, 16, 12, 188, 10, 181, 0, 169, 42, 16, 12, 188, 10, 181, 0, 172, 3, 60, 27]
abbrev dktX3_init_18 : List UInt8 := dkwX3_init_18 ++ dktX3_init_19
def dkwX3_init_17 : List UInt8 := [181, 0, 157, 42, 17, 7, 140, 188, 10, 181, 0, 160, 42, 17, 7, 140, 188, 10, 181, 0, 163, 42, 16, 12]
abbrev dktX3_init_17 : List UInt8 := dkwX3_init_17 ++ dktX3_init_18
def dkwX3_init_16 : List UInt8 := [16, 12, 188, 10, 181, 0, 151, 42, 17, 1, 145, 188, 10, 181, 0, 154, 42, 17, 1, 145, 188, 10]
abbrev dktX3_init_16 : List UInt8 := dkwX3_init_16 ++ dktX3_init_17
def dkwX3_init_15 : List UInt8 := [16, 60, 188, 10, 181, 0, 142, 42, 16, 60, 188, 10, 181, 0, 145, 42, 16, 10, 188, 10, 181, 0, 148, 42]
abbrev dktX3_init_15 : List UInt8 := dkwX3_init_15 ++ dktX3_init_16
def dkwX3_init_14 : List UInt8 := [188, 10, 181, 0, 133, 42, 17, 2, 208, 188, 10, 181, 0, 136, 42, 17, 2, 208, 188, 10, 181, 0, 139, 42]
abbrev dktX3_init_14 : List UInt8 := dkwX3_init_14 ++ dktX3_init_15
def dkwX3_init_13 : List UInt8 := [181, 0, 124, 42, 17, 1, 44, 188, 10, 181, 0, 127, 42, 16, 120, 188, 10, 181, 0, 130, 42, 17, 2, 208]
abbrev dktX3_init_13 : List UInt8 := dkwX3_init_13 ++ dktX3_init_14
def dkwX3_init_12 : List UInt8 := [17, 1, 44, 188, 10, 181, 0, 118, 42, 17, 1, 44, 188, 10, 181, 0, 121, 42, 17, 1, 44, 188, 10]
abbrev dktX3_init_12 : List UInt8 := dkwX3_init_12 ++ dktX3_init_13
def dkwX3_init_11 : List UInt8 := [188, 10, 181, 0, 109, 42, 17, 1, 44, 188, 10, 181, 0, 112, 42, 17, 1, 44, 188, 10, 181, 0, 115, 42]
abbrev dktX3_init_11 : List UInt8 := dkwX3_init_11 ++ dktX3_init_12
def dkwX3_init_10 : List UInt8 := [188, 10, 181, 0, 100, 42, 16, 60, 188, 10, 181, 0, 103, 42, 16, 60, 188, 10, 181, 0, 106, 42, 16, 10]
abbrev dktX3_init_10 : List UInt8 := dkwX3_init_10 ++ dktX3_init_11
def dkwX3_init_9 : List UInt8 := [188, 10, 181, 0, 91, 42, 16, 60, 188, 10, 181, 0, 94, 42, 16, 60, 188, 10, 181, 0, 97, 42, 16, 60]
abbrev dktX3_init_9 : List UInt8 := dkwX3_init_9 ++ dktX3_init_10
def dkwX3_init_8 : List UInt8 := [188, 10, 181, 0, 82, 42, 16, 20, 188, 10, 181, 0, 85, 42, 16, 60, 188, 10, 181, 0, 88, 42, 16, 60]
abbrev dktX3_init_8 : List UInt8 := dkwX3_init_8 ++ dktX3_init_9
def dkwX3_init_7 : List UInt8 := [188, 10, 181, 0, 73, 42, 16, 20, 188, 10, 181, 0, 76, 42, 16, 20, 188, 10, 181, 0, 79, 42, 16, 20]
abbrev dktX3_init_7 : List UInt8 := dkwX3_init_7 ++ dktX3_init_8
def dkwX3_init_6 : List UInt8 := [188, 10, 181, 0, 64, 42, 8, 188, 10, 181, 0, 67, 42, 16, 20, 188, 10, 181, 0, 70, 42, 16, 20]
abbrev dktX3_init_6 : List UInt8 := dkwX3_init_6 ++ dktX3_init_7
def dkwX3_init_5 : List UInt8 := [42, 8, 188, 10, 181, 0, 55, 42, 8, 188, 10, 181, 0, 58, 42, 8, 188, 10, 181, 0, 61, 42, 8]
abbrev dktX3_init_5 : List UInt8 := dkwX3_init_5 ++ dktX3_init_6
def dkwX3_init_4 : List UInt8 := [181, 0, 43, 42, 8, 188, 10, 181, 0, 46, 42, 8, 188, 10, 181, 0, 49, 42, 8, 188, 10, 181, 0, 52]
abbrev dktX3_init_4 : List UInt8 := dkwX3_init_4 ++ dktX3_init_5
def dkwX3_init_3 : List UInt8 := [181, 0, 34, 42, 16, 40, 188, 10, 181, 0, 37, 42, 16, 40, 188, 10, 181, 0, 40, 42, 16, 40, 188, 10]
abbrev dktX3_init_3 : List UInt8 := dkwX3_init_3 ++ dktX3_init_4
def dkwX3_init_2 : List UInt8 := [181, 0, 25, 42, 16, 40, 188, 10, 181, 0, 28, 42, 16, 40, 188, 10, 181, 0, 31, 42, 16, 40, 188, 10]
abbrev dktX3_init_2 : List UInt8 := dkwX3_init_2 ++ dktX3_init_3
def dkwX3_init_1 : List UInt8 := [181, 0, 16, 42, 16, 6, 188, 10, 181, 0, 19, 42, 16, 40, 188, 10, 181, 0, 22, 42, 16, 40, 188, 10]
abbrev dktX3_init_1 : List UInt8 := dkwX3_init_1 ++ dktX3_init_2
def dkwX3_init_0 : List UInt8 := [42, 183, 0, 1, 42, 6, 188, 10, 181, 0, 7, 42, 16, 6, 188, 10, 181, 0, 13, 42, 16, 6, 188, 10]
abbrev dktX3_init_0 : List UInt8 := dkwX3_init_0 ++ dktX3_init_1
theorem dksX3_init_0 : cX3_init.data.toList.drop 0 = dktX3_init_0 := by decide +kernel
theorem dksX3_init_1 : cX3_init.data.toList.drop 24 = dktX3_init_1 := dk_seg dksX3_init_0 24 rfl rfl
theorem dksX3_init_2 : cX3_init.data.toList.drop 48 = dktX3_init_2 := dk_seg dksX3_init_1 24 rfl rfl
theorem dksX3_init_3 : cX3_init.data.toList.drop 72 = dktX3_init_3 := dk_seg dksX3_init_2 24 rfl rfl
theorem dksX3_init_4 : cX3_init.data.toList.drop 96 = dktX3_init_4 := dk_seg dksX3_init_3 24 rfl rfl
theorem dksX3_init_5 : cX3_init.data.toList.drop 120 = dktX3_init_5 := dk_seg dksX3_init_4 24 rfl rfl
theorem dksX3_init_6 : cX3_init.data.toList.drop 143 = dktX3_init_6 := dk_seg dksX3_init_5 23 rfl rfl
theorem dksX3_init_7 : cX3_init.data.toList.drop 166 = dktX3_init_7 := dk_seg dksX3_init_6 23 rfl rfl
theorem dksX3_init_8 : cX3_init.data.toList.drop 190 = dktX3_init_8 := dk_seg dksX3_init_7 24 rfl rfl
theorem dksX3_init_9 : cX3_init.data.toList.drop 214 = dktX3_init_9 := dk_seg dksX3_init_8 24 rfl rfl
theorem dksX3_init_10 : cX3_init.data.toList.drop 238 = dktX3_init_10 := dk_seg dksX3_init_9 24 rfl rfl
theorem dksX3_init_11 : cX3_init.data.toList.drop 262 = dktX3_init_11 := dk_seg dksX3_init_10 24 rfl rfl
theorem dksX3_init_12 : cX3_init.data.toList.drop 286 = dktX3_init_12 := dk_seg dksX3_init_11 24 rfl rfl
theorem dksX3_init_13 : cX3_init.data.toList.drop 309 = dktX3_init_13 := dk_seg dksX3_init_12 23 rfl rfl
theorem dksX3_init_14 : cX3_init.data.toList.drop 333 = dktX3_init_14 := dk_seg dksX3_init_13 24 rfl rfl
theorem dksX3_init_15 : cX3_init.data.toList.drop 357 = dktX3_init_15 := dk_seg dksX3_init_14 24 rfl rfl
theorem dksX3_init_16 : cX3_init.data.toList.drop 381 = dktX3_init_16 := dk_seg dksX3_init_15 24 rfl rfl
theorem dksX3_init_17 : cX3_init.data.toList.drop 403 = dktX3_init_17 := dk_seg dksX3_init_16 22 rfl rfl
theorem dksX3_init_18 : cX3_init.data.toList.drop 427 = dktX3_init_18 := dk_seg dksX3_init_17 24 rfl rfl
theorem dksX3_init_19 : cX3_init.data.toList.drop 451 = dktX3_init_19 := dk_seg dksX3_init_18 24 rfl rfl
theorem dX3_init_0 : decode cX3_init 0 = .ok (.aload_n 0, 1) := dk_42 (dk_at dksX3_init_0 0 rfl rfl)
theorem dX3_init_1 : decode cX3_init 1 = .ok (.invokespecial 1, 3) := dk_183 0 1 (dk_at dksX3_init_0 1 rfl rfl)
theorem dX3_init_4 : decode cX3_init 4 = .ok (.aload_n 0, 1) := dk_42 (dk_at dksX3_init_0 4 rfl rfl)
theorem dX3_init_5 : decode cX3_init 5 = .ok (.iconst 3, 1) := dk_6 (dk_at dksX3_init_0 5 rfl rfl)
theorem dX3_init_6 : decode cX3_init 6 = .ok (.newarray .int, 2) := dk_188_10 (dk_at dksX3_init_0 6 rfl rfl)
theorem dX3_init_8 : decode cX3_init 8 = .ok (.putfield 7, 3) := dk_181 0 7 (dk_at dksX3_init_0 8 rfl rfl)
theorem dX3_init_11 : decode cX3_init 11 = .ok (.aload_n 0, 1) := dk_42 (dk_at dksX3_init_0 11 rfl rfl)
theorem dX3_init_12 : decode cX3_init 12 = .ok (.bipush 6, 2) := dk_16 6 (dk_at dksX3_init_0 12 rfl rfl)
theorem dX3_init_14 : decode cX3_init 14 = .ok (.newarray .int, 2) := dk_188_10 (dk_at dksX3_init_0 14 rfl rfl)
theorem dX3_init_16 : decode cX3_init 16 = .ok (.putfield 13, 3) := dk_181 0 13 (dk_at dksX3_init_0 16 rfl rfl)
theorem dX3_init_19 : decode cX3_init 19 = .ok (.aload_n 0, 1) := dk_42 (dk_at dksX3_init_0 19 rfl rfl)
theorem dX3_init_20 : decode cX3_init 20 = .ok (.bipush 6, 2) := dk_16 6 (dk_at dksX3_init_0 20 rfl rfl)
theorem dX3_init_22 : decode cX3_init 22 = .ok (.newarray .int, 2) := dk_188_10 (dk_at dksX3_init_0 22 rfl rfl)
theorem dX3_init_24 : decode cX3_init 24 = .ok (.putfield 16, 3) := dk_181 0 16 (dk_at dksX3_init_1 0 rfl rfl)
theorem dX3_init_27 : decode cX3_init 27 = .ok (.aload_n 0, 1) := dk_42 (dk_at dksX3_init_1 3 rfl rfl)
theorem dX3_init_28 : decode cX3_init 28 = .ok (.bipush 6, 2) := dk_16 6 (dk_at dksX3_init_1 4 rfl rfl)
theorem dX3_init_30 : decode cX3_init 30 = .ok (.newarray .int, 2) := dk_188_10 (dk_at dksX3_init_1 6 rfl rfl)
theorem dX3_init_32 : decode cX3_init 32 = .ok (.putfield 19, 3) := dk_181 0 19 (dk_at dksX3_init_1 8 rfl rfl)
theorem dX3_init_35 : decode cX3_init 35 = .ok (.aload_n 0, 1) := dk_42 (dk_at dksX3_init_1 11 rfl rfl)
theorem dX3_init_36 : decode cX3_init 36 = .ok (.bipush 40, 2) := dk_16 40 (dk_at dksX3_init_1 12 rfl rfl)
theorem dX3_init_38 : decode cX3_init 38 = .ok (.newarray .int, 2) := dk_188_10 (dk_at dksX3_init_1 14 rfl rfl)
theorem dX3_init_40 : decode cX3_init 40 = .ok (.putfield 22, 3) := dk_181 0 22 (dk_at dksX3_init_1 16 rfl rfl)
theorem dX3_init_43 : decode cX3_init 43 = .ok (.aload_n 0, 1) := dk_42 (dk_at dksX3_init_1 19 rfl rfl)
theorem dX3_init_44 : decode cX3_init 44 = .ok (.bipush 40, 2) := dk_16 40 (dk_at dksX3_init_1 20 rfl rfl)
theorem dX3_init_46 : decode cX3_init 46 = .ok (.newarray .int, 2) := dk_188_10 (dk_at dksX3_init_1 22 rfl rfl)
theorem dX3_init_48 : decode cX3_init 48 = .ok (.putfield 25, 3) := dk_181 0 25 (dk_at dksX3_init_2 0 rfl rfl)
theorem dX3_init_51 : decode cX3_init 51 = .ok (.aload_n 0, 1) := dk_42 (dk_at dksX3_init_2 3 rfl rfl)
theorem dX3_init_52 : decode cX3_init 52 = .ok (.bipush 40, 2) := dk_16 40 (dk_at dksX3_init_2 4 rfl rfl)
theorem dX3_init_54 : decode cX3_init 54 = .ok (.newarray .int, 2) := dk_188_10 (dk_at dksX3_init_2 6 rfl rfl)
theorem dX3_init_56 : decode cX3_init 56 = .ok (.putfield 28, 3) := dk_181 0 28 (dk_at dksX3_init_2 8 rfl rfl)
theorem dX3_init_59 : decode cX3_init 59 = .ok (.aload_n 0, 1) := dk_42 (dk_at dksX3_init_2 11 rfl rfl)
theorem dX3_init_60 : decode cX3_init 60 = .ok (.bipush 40, 2) := dk_16 40 (dk_at dksX3_init_2 12 rfl rfl)
theorem dX3_init_62 : decode cX3_init 62 = .ok (.newarray .int, 2) := dk_188_10 (dk_at dksX3_init_2 14 rfl rfl)
theorem dX3_init_64 : decode cX3_init 64 = .ok (.putfield 31, 3) := dk_181 0 31 (dk_at dksX3_init_2 16 rfl rfl)
theorem dX3_init_67 : decode cX3_init 67 = .ok (.aload_n 0, 1) := dk_42 (dk_at dksX3_init_2 19 rfl rfl)
theorem dX3_init_68 : decode cX3_init 68 = .ok (.bipush 40, 2) := dk_16 40 (dk_at dksX3_init_2 20 rfl rfl)
theorem dX3_init_70 : decode cX3_init 70 = .ok (.newarray .int, 2) := dk_188_10 (dk_at dksX3_init_2 22 rfl rfl)
theorem dX3_init_72 : decode cX3_init 72 = .ok (.putfield 34, 3) := dk_181 0 34 (dk_at dksX3_init_3 0 rfl rfl)
theorem dX3_init_75 : decode cX3_init 75 = .ok (.aload_n 0, 1) := dk_42 (dk_at dksX3_init_3 3 rfl rfl)
theorem dX3_init_76 : decode cX3_init 76 = .ok (.bipush 40, 2) := dk_16 40 (dk_at dksX3_init_3 4 rfl rfl)
theorem dX3_init_78 : decode cX3_init 78 = .ok (.newarray .int, 2) := dk_188_10 (dk_at dksX3_init_3 6 rfl rfl)
theorem dX3_init_80 : decode cX3_init 80 = .ok (.putfield 37, 3) := dk_181 0 37 (dk_at dksX3_init_3 8 rfl rfl)
theorem dX3_init_83 : decode cX3_init 83 = .ok (.aload_n 0, 1) := dk_42 (dk_at dksX3_init_3 11 rfl rfl)
theorem dX3_init_84 : decode cX3_init 84 = .ok (.bipush 40, 2) := dk_16 40 (dk_at dksX3_init_3 12 rfl rfl)
theorem dX3_init_86 : decode cX3_init 86 = .ok (.newarray .int, 2) := dk_188_10 (dk_at dksX3_init_3 14 rfl rfl)
theorem dX3_init_88 : decode cX3_init 88 = .ok (.putfield 40, 3) := dk_181 0 40 (dk_at dksX3_init_3 16 rfl rfl)
theorem dX3_init_91 : decode cX3_init 91 = .ok (.aload_n 0, 1) := dk_42 (dk_at dksX3_init_3 19 rfl rfl)
theorem dX3_init_92 : decode cX3_init 92 = .ok (.bipush 40, 2) := dk_16 40 (dk_at dksX3_init_3 20 rfl rfl)
theorem dX3_init_94 : decode cX3_init 94 = .ok (.newarray .int, 2) := dk_188_10 (dk_at dksX3_init_3 22 rfl rfl)
theorem dX3_init_96 : decode cX3_init 96 = .ok (.putfield 43, 3) := dk_181 0 43 (dk_at dksX3_init_4 0 rfl rfl)
theorem dX3_init_99 : decode cX3_init 99 = .ok (.aload_n 0, 1) := dk_42 (dk_at dksX3_init_4 3 rfl rfl)
theorem dX3_init_100 : decode cX3_init 100 = .ok (.iconst 5, 1) := dk_8 (dk_at dksX3_init_4 4 rfl rfl)
theorem dX3_init_101 : decode cX3_init 101 = .ok (.newarray .int, 2) := dk_188_10 (dk_at dksX3_init_4 5 rfl rfl)
theorem dX3_init_103 : decode cX3_init 103 = .ok (.putfield 46, 3) := dk_181 0 46 (dk_at dksX3_init_4 7 rfl rfl)
theorem dX3_init_106 : decode cX3_init 106 = .ok (.aload_n 0, 1) := dk_42 (dk_at dksX3_init_4 10 rfl rfl)
theorem dX3_init_107 : decode cX3_init 107 = .ok (.iconst 5, 1) := dk_8 (dk_at dksX3_init_4 11 rfl rfl)
theorem dX3_init_108 : decode cX3_init 108 = .ok (.newarray .int, 2) := dk_188_10 (dk_at dksX3_init_4 12 rfl rfl)
theorem dX3_init_110 : decode cX3_init 110 = .ok (.putfield 49, 3) := dk_181 0 49 (dk_at dksX3_init_4 14 rfl rfl)
theorem dX3_init_113 : decode cX3_init 113 = .ok (.aload_n 0, 1) := dk_42 (dk_at dksX3_init_4 17 rfl rfl)
theorem dX3_init_114 : decode cX3_init 114 = .ok (.iconst 5, 1) := dk_8 (dk_at dksX3_init_4 18 rfl rfl)
theorem dX3_init_115 : decode cX3_init 115 = .ok (.newarray .int, 2) := dk_188_10 (dk_at dksX3_init_4 19 rfl rfl)
theorem dX3_init_117 : decode cX3_init 117 = .ok (.putfield 52, 3) := dk_181 0 52 (dk_at dksX3_init_4 21 rfl rfl)
theorem dX3_init_120 : decode cX3_init 120 = .ok (.aload_n 0, 1) := dk_42 (dk_at dksX3_init_5 0 rfl rfl)
theorem dX3_init_121 : decode cX3_init 121 = .ok (.iconst 5, 1) := dk_8 (dk_at dksX3_init_5 1 rfl rfl)
theorem dX3_init_122 : decode cX3_init 122 = .ok (.newarray .int, 2) := dk_188_10 (dk_at dksX3_init_5 2 rfl rfl)
theorem dX3_init_124 : decode cX3_init 124 = .ok (.putfield 55, 3) := dk_181 0 55 (dk_at dksX3_init_5 4 rfl rfl)
theorem dX3_init_127 : decode cX3_init 127 = .ok (.aload_n 0, 1) := dk_42 (dk_at dksX3_init_5 7 rfl rfl)
theorem dX3_init_128 : decode cX3_init 128 = .ok (.iconst 5, 1) := dk_8 (dk_at dksX3_init_5 8 rfl rfl)
theorem dX3_init_129 : decode cX3_init 129 = .ok (.newarray .int, 2) := dk_188_10 (dk_at dksX3_init_5 9 rfl rfl)
theorem dX3_init_131 : decode cX3_init 131 = .ok (.putfield 58, 3) := dk_181 0 58 (dk_at dksX3_init_5 11 rfl rfl)
theorem dX3_init_134 : decode cX3_init 134 = .ok (.aload_n 0, 1) := dk_42 (dk_at dksX3_init_5 14 rfl rfl)
theorem dX3_init_135 : decode cX3_init 135 = .ok (.iconst 5, 1) := dk_8 (dk_at dksX3_init_5 15 rfl rfl)
theorem dX3_init_136 : decode cX3_init 136 = .ok (.newarray .int, 2) := dk_188_10 (dk_at dksX3_init_5 16 rfl rfl)
theorem dX3_init_138 : decode cX3_init 138 = .ok (.putfield 61, 3) := dk_181 0 61 (dk_at dksX3_init_5 18 rfl rfl)
theorem dX3_init_141 : decode cX3_init 141 = .ok (.aload_n 0, 1) := dk_42 (dk_at dksX3_init_5 21 rfl rfl)
theorem dX3_init_142 : decode cX3_init 142 = .ok (.iconst 5, 1) := dk_8 (dk_at dksX3_init_5 22 rfl rfl)
theorem dX3_init_143 : decode cX3_init 143 = .ok (.newarray .int, 2) := dk_188_10 (dk_at dksX3_init_6 0 rfl rfl)
theorem dX3_init_145 : decode cX3_init 145 = .ok (.putfield 64, 3) := dk_181 0 64 (dk_at dksX3_init_6 2 rfl rfl)
theorem dX3_init_148 : decode cX3_init 148 = .ok (.aload_n 0, 1) := dk_42 (dk_at dksX3_init_6 5 rfl rfl)
theorem dX3_init_149 : decode cX3_init 149 = .ok (.iconst 5, 1) := dk_8 (dk_at dksX3_init_6 6 rfl rfl)
theorem dX3_init_150 : decode cX3_init 150 = .ok (.newarray .int, 2) := dk_188_10 (dk_at dksX3_init_6 7 rfl rfl)
theorem dX3_init_152 : decode cX3_init 152 = .ok (.putfield 67, 3) := dk_181 0 67 (dk_at dksX3_init_6 9 rfl rfl)
theorem dX3_init_155 : decode cX3_init 155 = .ok (.aload_n 0, 1) := dk_42 (dk_at dksX3_init_6 12 rfl rfl)
theorem dX3_init_156 : decode cX3_init 156 = .ok (.bipush 20, 2) := dk_16 20 (dk_at dksX3_init_6 13 rfl rfl)
theorem dX3_init_158 : decode cX3_init 158 = .ok (.newarray .int, 2) := dk_188_10 (dk_at dksX3_init_6 15 rfl rfl)
theorem dX3_init_160 : decode cX3_init 160 = .ok (.putfield 70, 3) := dk_181 0 70 (dk_at dksX3_init_6 17 rfl rfl)
theorem dX3_init_163 : decode cX3_init 163 = .ok (.aload_n 0, 1) := dk_42 (dk_at dksX3_init_6 20 rfl rfl)
theorem dX3_init_164 : decode cX3_init 164 = .ok (.bipush 20, 2) := dk_16 20 (dk_at dksX3_init_6 21 rfl rfl)
theorem dX3_init_166 : decode cX3_init 166 = .ok (.newarray .int, 2) := dk_188_10 (dk_at dksX3_init_7 0 rfl rfl)
theorem dX3_init_168 : decode cX3_init 168 = .ok (.putfield 73, 3) := dk_181 0 73 (dk_at dksX3_init_7 2 rfl rfl)
theorem dX3_init_171 : decode cX3_init 171 = .ok (.aload_n 0, 1) := dk_42 (dk_at dksX3_init_7 5 rfl rfl)
theorem dX3_init_172 : decode cX3_init 172 = .ok (.bipush 20, 2) := dk_16 20 (dk_at dksX3_init_7 6 rfl rfl)
theorem dX3_init_174 : decode cX3_init 174 = .ok (.newarray .int, 2) := dk_188_10 (dk_at dksX3_init_7 8 rfl rfl)
theorem dX3_init_176 : decode cX3_init 176 = .ok (.putfield 76, 3) := dk_181 0 76 (dk_at dksX3_init_7 10 rfl rfl)
theorem dX3_init_179 : decode cX3_init 179 = .ok (.aload_n 0, 1) := dk_42 (dk_at dksX3_init_7 13 rfl rfl)
theorem dX3_init_180 : decode cX3_init 180 = .ok (.bipush 20, 2) := dk_16 20 (dk_at dksX3_init_7 14 rfl rfl)
theorem dX3_init_182 : decode cX3_init 182 = .ok (.newarray .int, 2) := dk_188_10 (dk_at dksX3_init_7 16 rfl rfl)
theorem dX3_init_184 : decode cX3_init 184 = .ok (.putfield 79, 3) := dk_181 0 79 (dk_at dksX3_init_7 18 rfl rfl)
theorem dX3_init_187 : decode cX3_init 187 = .ok (.aload_n 0, 1) := dk_42 (dk_at dksX3_init_7 21 rfl rfl)
theorem dX3_init_188 : decode cX3_init 188 = .ok (.bipush 20, 2) := dk_16 20 (dk_at dksX3_init_7 22 rfl rfl)
theorem dX3_init_190 : decode cX3_init 190 = .ok (.newarray .int, 2) := dk_188_10 (dk_at dksX3_init_8 0 rfl rfl)
theorem dX3_init_192 : decode cX3_init 192 = .ok (.putfield 82, 3) := dk_181 0 82 (dk_at dksX3_init_8 2 rfl rfl)
theorem dX3_init_195 : decode cX3_init 195 = .ok (.aload_n 0, 1) := dk_42 (dk_at dksX3_init_8 5 rfl rfl)
theorem dX3_init_196 : decode cX3_init 196 = .ok (.bipush 20, 2) := dk_16 20 (dk_at dksX3_init_8 6 rfl rfl)
theorem dX3_init_198 : decode cX3_init 198 = .ok (.newarray .int, 2) := dk_188_10 (dk_at dksX3_init_8 8 rfl rfl)
theorem dX3_init_200 : decode cX3_init 200 = .ok (.putfield 85, 3) := dk_181 0 85 (dk_at dksX3_init_8 10 rfl rfl)
theorem dX3_init_203 : decode cX3_init 203 = .ok (.aload_n 0, 1) := dk_42 (dk_at dksX3_init_8 13 rfl rfl)
theorem dX3_init_204 : decode cX3_init 204 = .ok (.bipush 60, 2) := dk_16 60 (dk_at dksX3_init_8 14 rfl rfl)
theorem dX3_init_206 : decode cX3_init 206 = .ok (.newarray .int, 2) := dk_188_10 (dk_at dksX3_init_8 16 rfl rfl)
theorem dX3_init_208 : decode cX3_init 208 = .ok (.putfield 88, 3) := dk_181 0 88 (dk_at dksX3_init_8 18 rfl rfl)
theorem dX3_init_211 : decode cX3_init 211 = .ok (.aload_n 0, 1) := dk_42 (dk_at dksX3_init_8 21 rfl rfl)
theorem dX3_init_212 : decode cX3_init 212 = .ok (.bipush 60, 2) := dk_16 60 (dk_at dksX3_init_8 22 rfl rfl)
theorem dX3_init_214 : decode cX3_init 214 = .ok (.newarray .int, 2) := dk_188_10 (dk_at dksX3_init_9 0 rfl rfl)
theorem dX3_init_216 : decode cX3_init 216 = .ok (.putfield 91, 3) := dk_181 0 91 (dk_at dksX3_init_9 2 rfl rfl)
theorem dX3_init_219 : decode cX3_init 219 = .ok (.aload_n 0, 1) := dk_42 (dk_at dksX3_init_9 5 rfl rfl)
theorem dX3_init_220 : decode cX3_init 220 = .ok (.bipush 60, 2) := dk_16 60 (dk_at dksX3_init_9 6 rfl rfl)
theorem dX3_init_222 : decode cX3_init 222 = .ok (.newarray .int, 2) := dk_188_10 (dk_at dksX3_init_9 8 rfl rfl)
theorem dX3_init_224 : decode cX3_init 224 = .ok (.putfield 94, 3) := dk_181 0 94 (dk_at dksX3_init_9 10 rfl rfl)
theorem dX3_init_227 : decode cX3_init 227 = .ok (.aload_n 0, 1) := dk_42 (dk_at dksX3_init_9 13 rfl rfl)
theorem dX3_init_228 : decode cX3_init 228 = .ok (.bipush 60, 2) := dk_16 60 (dk_at dksX3_init_9 14 rfl rfl)
theorem dX3_init_230 : decode cX3_init 230 = .ok (.newarray .int, 2) := dk_188_10 (dk_at dksX3_init_9 16 rfl rfl)
theorem dX3_init_232 : decode cX3_init 232 = .ok (.putfield 97, 3) := dk_181 0 97 (dk_at dksX3_init_9 18 rfl rfl)
theorem dX3_init_235 : decode cX3_init 235 = .ok (.aload_n 0, 1) := dk_42 (dk_at dksX3_init_9 21 rfl rfl)
theorem dX3_init_236 : decode cX3_init 236 = .ok (.bipush 60, 2) := dk_16 60 (dk_at dksX3_init_9 22 rfl rfl)
theorem dX3_init_238 : decode cX3_init 238 = .ok (.newarray .int, 2) := dk_188_10 (dk_at dksX3_init_10 0 rfl rfl)
theorem dX3_init_240 : decode cX3_init 240 = .ok (.putfield 100, 3) := dk_181 0 100 (dk_at dksX3_init_10 2 rfl rfl)
theorem dX3_init_243 : decode cX3_init 243 = .ok (.aload_n 0, 1) := dk_42 (dk_at dksX3_init_10 5 rfl rfl)
theorem dX3_init_244 : decode cX3_init 244 = .ok (.bipush 60, 2) := dk_16 60 (dk_at dksX3_init_10 6 rfl rfl)
theorem dX3_init_246 : decode cX3_init 246 = .ok (.newarray .int, 2) := dk_188_10 (dk_at dksX3_init_10 8 rfl rfl)
theorem dX3_init_248 : decode cX3_init 248 = .ok (.putfield 103, 3) := dk_181 0 103 (dk_at dksX3_init_10 10 rfl rfl)
theorem dX3_init_251 : decode cX3_init 251 = .ok (.aload_n 0, 1) := dk_42 (dk_at dksX3_init_10 13 rfl rfl)
theorem dX3_init_252 : decode cX3_init 252 = .ok (.bipush 60, 2) := dk_16 60 (dk_at dksX3_init_10 14 rfl rfl)
theorem dX3_init_254 : decode cX3_init 254 = .ok (.newarray .int, 2) := dk_188_10 (dk_at dksX3_init_10 16 rfl rfl)
theorem dX3_init_256 : decode cX3_init 256 = .ok (.putfield 106, 3) := dk_181 0 106 (dk_at dksX3_init_10 18 rfl rfl)
theorem dX3_init_259 : decode cX3_init 259 = .ok (.aload_n 0, 1) := dk_42 (dk_at dksX3_init_10 21 rfl rfl)
theorem dX3_init_260 : decode cX3_init 260 = .ok (.bipush 10, 2) := dk_16 10 (dk_at dksX3_init_10 22 rfl rfl)
theorem dX3_init_262 : decode cX3_init 262 = .ok (.newarray .int, 2) := dk_188_10 (dk_at dksX3_init_11 0 rfl rfl)
theorem dX3_init_264 : decode cX3_init 264 = .ok (.putfield 109, 3) := dk_181 0 109 (dk_at dksX3_init_11 2 rfl rfl)
theorem dX3_init_267 : decode cX3_init 267 = .ok (.aload_n 0, 1) := dk_42 (dk_at dksX3_init_11 5 rfl rfl)
theorem dX3_init_268 : decode cX3_init 268 = .ok (.sipush 300, 3) := dk_17 1 44 (dk_at dksX3_init_11 6 rfl rfl)
theorem dX3_init_271 : decode cX3_init 271 = .ok (.newarray .int, 2) := dk_188_10 (dk_at dksX3_init_11 9 rfl rfl)
theorem dX3_init_273 : decode cX3_init 273 = .ok (.putfield 112, 3) := dk_181 0 112 (dk_at dksX3_init_11 11 rfl rfl)
theorem dX3_init_276 : decode cX3_init 276 = .ok (.aload_n 0, 1) := dk_42 (dk_at dksX3_init_11 14 rfl rfl)
theorem dX3_init_277 : decode cX3_init 277 = .ok (.sipush 300, 3) := dk_17 1 44 (dk_at dksX3_init_11 15 rfl rfl)
theorem dX3_init_280 : decode cX3_init 280 = .ok (.newarray .int, 2) := dk_188_10 (dk_at dksX3_init_11 18 rfl rfl)
theorem dX3_init_282 : decode cX3_init 282 = .ok (.putfield 115, 3) := dk_181 0 115 (dk_at dksX3_init_11 20 rfl rfl)
theorem dX3_init_285 : decode cX3_init 285 = .ok (.aload_n 0, 1) := dk_42 (dk_at dksX3_init_11 23 rfl rfl)
theorem dX3_init_286 : decode cX3_init 286 = .ok (.sipush 300, 3) := dk_17 1 44 (dk_at dksX3_init_12 0 rfl rfl)
theorem dX3_init_289 : decode cX3_init 289 = .ok (.newarray .int, 2) := dk_188_10 (dk_at dksX3_init_12 3 rfl rfl)
theorem dX3_init_291 : decode cX3_init 291 = .ok (.putfield 118, 3) := dk_181 0 118 (dk_at dksX3_init_12 5 rfl rfl)
theorem dX3_init_294 : decode cX3_init 294 = .ok (.aload_n 0, 1) := dk_42 (dk_at dksX3_init_12 8 rfl rfl)
theorem dX3_init_295 : decode cX3_init 295 = .ok (.sipush 300, 3) := dk_17 1 44 (dk_at dksX3_init_12 9 rfl rfl)
theorem dX3_init_298 : decode cX3_init 298 = .ok (.newarray .int, 2) := dk_188_10 (dk_at dksX3_init_12 12 rfl rfl)
theorem dX3_init_300 : decode cX3_init 300 = .ok (.putfield 121, 3) := dk_181 0 121 (dk_at dksX3_init_12 14 rfl rfl)
theorem dX3_init_303 : decode cX3_init 303 = .ok (.aload_n 0, 1) := dk_42 (dk_at dksX3_init_12 17 rfl rfl)
theorem dX3_init_304 : decode cX3_init 304 = .ok (.sipush 300, 3) := dk_17 1 44 (dk_at dksX3_init_12 18 rfl rfl)
theorem dX3_init_307 : decode cX3_init 307 = .ok (.newarray .int, 2) := dk_188_10 (dk_at dksX3_init_12 21 rfl rfl)
theorem dX3_init_309 : decode cX3_init 309 = .ok (.putfield 124, 3) := dk_181 0 124 (dk_at dksX3_init_13 0 rfl rfl)
theorem dX3_init_312 : decode cX3_init 312 = .ok (.aload_n 0, 1) := dk_42 (dk_at dksX3_init_13 3 rfl rfl)
theorem dX3_init_313 : decode cX3_init 313 = .ok (.sipush 300, 3) := dk_17 1 44 (dk_at dksX3_init_13 4 rfl rfl)
theorem dX3_init_316 : decode cX3_init 316 = .ok (.newarray .int, 2) := dk_188_10 (dk_at dksX3_init_13 7 rfl rfl)
theorem dX3_init_318 : decode cX3_init 318 = .ok (.putfield 127, 3) := dk_181 0 127 (dk_at dksX3_init_13 9 rfl rfl)
theorem dX3_init_321 : decode cX3_init 321 = .ok (.aload_n 0, 1) := dk_42 (dk_at dksX3_init_13 12 rfl rfl)
theorem dX3_init_322 : decode cX3_init 322 = .ok (.bipush 120, 2) := dk_16 120 (dk_at dksX3_init_13 13 rfl rfl)
theorem dX3_init_324 : decode cX3_init 324 = .ok (.newarray .int, 2) := dk_188_10 (dk_at dksX3_init_13 15 rfl rfl)
theorem dX3_init_326 : decode cX3_init 326 = .ok (.putfield 130, 3) := dk_181 0 130 (dk_at dksX3_init_13 17 rfl rfl)
theorem dX3_init_329 : decode cX3_init 329 = .ok (.aload_n 0, 1) := dk_42 (dk_at dksX3_init_13 20 rfl rfl)
theorem dX3_init_330 : decode cX3_init 330 = .ok (.sipush 720, 3) := dk_17 2 208 (dk_at dksX3_init_13 21 rfl rfl)
theorem dX3_init_333 : decode cX3_init 333 = .ok (.newarray .int, 2) := dk_188_10 (dk_at dksX3_init_14 0 rfl rfl)
theorem dX3_init_335 : decode cX3_init 335 = .ok (.putfield 133, 3) := dk_181 0 133 (dk_at dksX3_init_14 2 rfl rfl)
theorem dX3_init_338 : decode cX3_init 338 = .ok (.aload_n 0, 1) := dk_42 (dk_at dksX3_init_14 5 rfl rfl)
theorem dX3_init_339 : decode cX3_init 339 = .ok (.sipush 720, 3) := dk_17 2 208 (dk_at dksX3_init_14 6 rfl rfl)
theorem dX3_init_342 : decode cX3_init 342 = .ok (.newarray .int, 2) := dk_188_10 (dk_at dksX3_init_14 9 rfl rfl)
theorem dX3_init_344 : decode cX3_init 344 = .ok (.putfield 136, 3) := dk_181 0 136 (dk_at dksX3_init_14 11 rfl rfl)
theorem dX3_init_347 : decode cX3_init 347 = .ok (.aload_n 0, 1) := dk_42 (dk_at dksX3_init_14 14 rfl rfl)
theorem dX3_init_348 : decode cX3_init 348 = .ok (.sipush 720, 3) := dk_17 2 208 (dk_at dksX3_init_14 15 rfl rfl)
theorem dX3_init_351 : decode cX3_init 351 = .ok (.newarray .int, 2) := dk_188_10 (dk_at dksX3_init_14 18 rfl rfl)
theorem dX3_init_353 : decode cX3_init 353 = .ok (.putfield 139, 3) := dk_181 0 139 (dk_at dksX3_init_14 20 rfl rfl)
theorem dX3_init_356 : decode cX3_init 356 = .ok (.aload_n 0, 1) := dk_42 (dk_at dksX3_init_14 23 rfl rfl)
theorem dX3_init_357 : decode cX3_init 357 = .ok (.bipush 60, 2) := dk_16 60 (dk_at dksX3_init_15 0 rfl rfl)
theorem dX3_init_359 : decode cX3_init 359 = .ok (.newarray .int, 2) := dk_188_10 (dk_at dksX3_init_15 2 rfl rfl)
theorem dX3_init_361 : decode cX3_init 361 = .ok (.putfield 142, 3) := dk_181 0 142 (dk_at dksX3_init_15 4 rfl rfl)
theorem dX3_init_364 : decode cX3_init 364 = .ok (.aload_n 0, 1) := dk_42 (dk_at dksX3_init_15 7 rfl rfl)
theorem dX3_init_365 : decode cX3_init 365 = .ok (.bipush 60, 2) := dk_16 60 (dk_at dksX3_init_15 8 rfl rfl)
theorem dX3_init_367 : decode cX3_init 367 = .ok (.newarray .int, 2) := dk_188_10 (dk_at dksX3_init_15 10 rfl rfl)
theorem dX3_init_369 : decode cX3_init 369 = .ok (.putfield 145, 3) := dk_181 0 145 (dk_at dksX3_init_15 12 rfl rfl)
theorem dX3_init_372 : decode cX3_init 372 = .ok (.aload_n 0, 1) := dk_42 (dk_at dksX3_init_15 15 rfl rfl)
theorem dX3_init_373 : decode cX3_init 373 = .ok (.bipush 10, 2) := dk_16 10 (dk_at dksX3_init_15 16 rfl rfl)
theorem dX3_init_375 : decode cX3_init 375 = .ok (.newarray .int, 2) := dk_188_10 (dk_at dksX3_init_15 18 rfl rfl)
theorem dX3_init_377 : decode cX3_init 377 = .ok (.putfield 148, 3) := dk_181 0 148 (dk_at dksX3_init_15 20 rfl rfl)
theorem dX3_init_380 : decode cX3_init 380 = .ok (.aload_n 0, 1) := dk_42 (dk_at dksX3_init_15 23 rfl rfl)
theorem dX3_init_381 : decode cX3_init 381 = .ok (.bipush 12, 2) := dk_16 12 (dk_at dksX3_init_16 0 rfl rfl)
theorem dX3_init_383 : decode cX3_init 383 = .ok (.newarray .int, 2) := dk_188_10 (dk_at dksX3_init_16 2 rfl rfl)
theorem dX3_init_385 : decode cX3_init 385 = .ok (.putfield 151, 3) := dk_181 0 151 (dk_at dksX3_init_16 4 rfl rfl)
theorem dX3_init_388 : decode cX3_init 388 = .ok (.aload_n 0, 1) := dk_42 (dk_at dksX3_init_16 7 rfl rfl)
theorem dX3_init_389 : decode cX3_init 389 = .ok (.sipush 401, 3) := dk_17 1 145 (dk_at dksX3_init_16 8 rfl rfl)
theorem dX3_init_392 : decode cX3_init 392 = .ok (.newarray .int, 2) := dk_188_10 (dk_at dksX3_init_16 11 rfl rfl)
theorem dX3_init_394 : decode cX3_init 394 = .ok (.putfield 154, 3) := dk_181 0 154 (dk_at dksX3_init_16 13 rfl rfl)
theorem dX3_init_397 : decode cX3_init 397 = .ok (.aload_n 0, 1) := dk_42 (dk_at dksX3_init_16 16 rfl rfl)
theorem dX3_init_398 : decode cX3_init 398 = .ok (.sipush 401, 3) := dk_17 1 145 (dk_at dksX3_init_16 17 rfl rfl)
theorem dX3_init_401 : decode cX3_init 401 = .ok (.newarray .int, 2) := dk_188_10 (dk_at dksX3_init_16 20 rfl rfl)
theorem dX3_init_403 : decode cX3_init 403 = .ok (.putfield 157, 3) := dk_181 0 157 (dk_at dksX3_init_17 0 rfl rfl)
theorem dX3_init_406 : decode cX3_init 406 = .ok (.aload_n 0, 1) := dk_42 (dk_at dksX3_init_17 3 rfl rfl)
theorem dX3_init_407 : decode cX3_init 407 = .ok (.sipush 1932, 3) := dk_17 7 140 (dk_at dksX3_init_17 4 rfl rfl)
theorem dX3_init_410 : decode cX3_init 410 = .ok (.newarray .int, 2) := dk_188_10 (dk_at dksX3_init_17 7 rfl rfl)
theorem dX3_init_412 : decode cX3_init 412 = .ok (.putfield 160, 3) := dk_181 0 160 (dk_at dksX3_init_17 9 rfl rfl)
theorem dX3_init_415 : decode cX3_init 415 = .ok (.aload_n 0, 1) := dk_42 (dk_at dksX3_init_17 12 rfl rfl)
theorem dX3_init_416 : decode cX3_init 416 = .ok (.sipush 1932, 3) := dk_17 7 140 (dk_at dksX3_init_17 13 rfl rfl)
theorem dX3_init_419 : decode cX3_init 419 = .ok (.newarray .int, 2) := dk_188_10 (dk_at dksX3_init_17 16 rfl rfl)
theorem dX3_init_421 : decode cX3_init 421 = .ok (.putfield 163, 3) := dk_181 0 163 (dk_at dksX3_init_17 18 rfl rfl)
theorem dX3_init_424 : decode cX3_init 424 = .ok (.aload_n 0, 1) := dk_42 (dk_at dksX3_init_17 21 rfl rfl)
theorem dX3_init_425 : decode cX3_init 425 = .ok (.bipush 12, 2) := dk_16 12 (dk_at dksX3_init_17 22 rfl rfl)
theorem dX3_init_427 : decode cX3_init 427 = .ok (.newarray .int, 2) := dk_188_10 (dk_at dksX3_init_18 0 rfl rfl)
theorem dX3_init_429 : decode cX3_init 429 = .ok (.putfield 166, 3) := dk_181 0 166 (dk_at dksX3_init_18 2 rfl rfl)
theorem dX3_init_432 : decode cX3_init 432 = .ok (.aload_n 0, 1) := dk_42 (dk_at dksX3_init_18 5 rfl rfl)
theorem dX3_init_433 : decode cX3_init 433 = .ok (.bipush 12, 2) := dk_16 12 (dk_at dksX3_init_18 6 rfl rfl)
theorem dX3_init_435 : decode cX3_init 435 = .ok (.newarray .int, 2) := dk_188_10 (dk_at dksX3_init_18 8 rfl rfl)
theorem dX3_init_437 : decode cX3_init 437 = .ok (.putfield 169, 3) := dk_181 0 169 (dk_at dksX3_init_18 10 rfl rfl)
theorem dX3_init_440 : decode cX3_init 440 = .ok (.aload_n 0, 1) := dk_42 (dk_at dksX3_init_18 13 rfl rfl)
theorem dX3_init_441 : decode cX3_init 441 = .ok (.bipush 12, 2) := dk_16 12 (dk_at dksX3_init_18 14 rfl rfl)
theorem dX3_init_443 : decode cX3_init 443 = .ok (.newarray .int, 2) := dk_188_10 (dk_at dksX3_init_18 16 rfl rfl)
theorem dX3_init_445 : decode cX3_init 445 = .ok (.putfield 172, 3) := dk_181 0 172 (dk_at dksX3_init_18 18 rfl rfl)
theorem dX3_init_448 : decode cX3_init 448 = .ok (.iconst 0, 1) := dk_3 (dk_at dksX3_init_18 21 rfl rfl)
theorem dX3_init_449 : decode cX3_init 449 = .ok (.istore_n 1, 1) := dk_60 (dk_at dksX3_init_18 22 rfl rfl)
theorem dX3_init_450 : decode cX3_init 450 = .ok (.iload_n 1, 1) := dk_27 (dk_at dksX3_init_18 23 rfl rfl)
theorem dX3_init_451 : decode cX3_init 451 = .ok (.iconst 3, 1) := dk_6 (dk_at dksX3_init_19 0 rfl rfl)
theorem dX3_init_452 : decode cX3_init 452 = .ok (.if_icmp .ge 16, 3) := dk_162 0 16 (dk_at dksX3_init_19 1 rfl rfl)
theorem dX3_init_455 : decode cX3_init 455 = .ok (.aload_n 0, 1) := dk_42 (dk_at dksX3_init_19 4 rfl rfl)
theorem dX3_init_456 : decode cX3_init 456 = .ok (.getfield 7, 3) := dk_180 0 7 (dk_at dksX3_init_19 5 rfl rfl)
theorem dX3_init_459 : decode cX3_init 459 = .ok (.iload_n 1, 1) := dk_27 (dk_at dksX3_init_19 8 rfl rfl)
theorem dX3_init_460 : decode cX3_init 460 = .ok (.iconst 5, 1) := dk_8 (dk_at dksX3_init_19 9 rfl rfl)
theorem dX3_init_461 : decode cX3_init 461 = .ok (.iastore, 1) := dk_79 (dk_at dksX3_init_19 10 rfl rfl)
theorem dX3_init_462 : decode cX3_init 462 = .ok (.iinc 1 1, 3) := dk_132 1 1 (dk_at dksX3_init_19 11 rfl rfl)
theorem dX3_init_465 : decode cX3_init 465 = .ok (.goto (-15), 3) := dk_167 255 241 (dk_at dksX3_init_19 14 rfl rfl)
theorem dX3_init_468 : decode cX3_init 468 = .ok (.return_, 1) := dk_177 (dk_at dksX3_init_19 17 rfl rfl)
abbrev cX3_thrown : ByteArray := prog_15_method_2_code
def yX3_thrown : MethodName := ⟨RX3, "thrown", "()I"⟩
theorem dX3_thrown_0 : decode cX3_thrown 0 = .ok (.aload_n 0, 1) := by decide +kernel
theorem dX3_thrown_1 : decode cX3_thrown 1 = .ok (.getfield 175, 3) := by decide +kernel
theorem dX3_thrown_4 : decode cX3_thrown 4 = .ok (.ireturn, 1) := by decide +kernel
abbrev cX3_deposit : ByteArray := prog_15_method_8_code
def yX3_deposit : MethodName := ⟨RX3, "deposit", "(II)I"⟩
def dkwX3_deposit_3 : List UInt8 := [27, 92, 46, 28, 96, 79, 42, 180, 0, 13, 27, 92, 46, 28, 96, 79, 42, 180, 0, 13, 27, 46, 172]
abbrev dktX3_deposit_3 : List UInt8 := dkwX3_deposit_3 ++ []
def dkwX3_deposit_2 : List UInt8 := [164, 0, 7, 6, 167, 0, 4, 3, 181, 0, 175, 42, 180, 0, 175, 158, 0, 5, 3, 172, 42, 180, 0, 16]
abbrev dktX3_deposit_2 : List UInt8 := dkwX3_deposit_2 ++ dktX3_deposit_3
def dkwX3_deposit_1 : List UInt8 := [167, 0, 31, 42, 180, 0, 19, 27, 46, 4, 159, 0, 16, 42, 180, 0, 16, 27, 46, 28, 96, 18, 191]
abbrev dktX3_deposit_1 : List UInt8 := dkwX3_deposit_1 ++ dktX3_deposit_2
def dkwX3_deposit_0 : List UInt8 := [42, 27, 184, 0, 186, 154, 0, 7, 4, 167, 0, 45, 28, 4, 18, 190, 184, 0, 179, 154, 0, 7, 5]
abbrev dktX3_deposit_0 : List UInt8 := dkwX3_deposit_0 ++ dktX3_deposit_1
theorem dksX3_deposit_0 : cX3_deposit.data.toList.drop 0 = dktX3_deposit_0 := by decide +kernel
theorem dksX3_deposit_1 : cX3_deposit.data.toList.drop 23 = dktX3_deposit_1 := dk_seg dksX3_deposit_0 23 rfl rfl
theorem dksX3_deposit_2 : cX3_deposit.data.toList.drop 46 = dktX3_deposit_2 := dk_seg dksX3_deposit_1 23 rfl rfl
theorem dksX3_deposit_3 : cX3_deposit.data.toList.drop 70 = dktX3_deposit_3 := dk_seg dksX3_deposit_2 24 rfl rfl
theorem dX3_deposit_0 : decode cX3_deposit 0 = .ok (.aload_n 0, 1) := dk_42 (dk_at dksX3_deposit_0 0 rfl rfl)
theorem dX3_deposit_1 : decode cX3_deposit 1 = .ok (.iload_n 1, 1) := dk_27 (dk_at dksX3_deposit_0 1 rfl rfl)
theorem dX3_deposit_2 : decode cX3_deposit 2 = .ok (.invokestatic 186, 3) := dk_184 0 186 (dk_at dksX3_deposit_0 2 rfl rfl)
theorem dX3_deposit_5 : decode cX3_deposit 5 = .ok (.ifCond .ne 7, 3) := dk_154 0 7 (dk_at dksX3_deposit_0 5 rfl rfl)
theorem dX3_deposit_8 : decode cX3_deposit 8 = .ok (.iconst 1, 1) := dk_4 (dk_at dksX3_deposit_0 8 rfl rfl)
theorem dX3_deposit_9 : decode cX3_deposit 9 = .ok (.goto 45, 3) := dk_167 0 45 (dk_at dksX3_deposit_0 9 rfl rfl)
theorem dX3_deposit_12 : decode cX3_deposit 12 = .ok (.iload_n 2, 1) := dk_28 (dk_at dksX3_deposit_0 12 rfl rfl)
theorem dX3_deposit_13 : decode cX3_deposit 13 = .ok (.iconst 1, 1) := dk_4 (dk_at dksX3_deposit_0 13 rfl rfl)
theorem dX3_deposit_14 : decode cX3_deposit 14 = .ok (.ldc 190, 2) := dk_18 190 (dk_at dksX3_deposit_0 14 rfl rfl)
theorem dX3_deposit_16 : decode cX3_deposit 16 = .ok (.invokestatic 179, 3) := dk_184 0 179 (dk_at dksX3_deposit_0 16 rfl rfl)
theorem dX3_deposit_19 : decode cX3_deposit 19 = .ok (.ifCond .ne 7, 3) := dk_154 0 7 (dk_at dksX3_deposit_0 19 rfl rfl)
theorem dX3_deposit_22 : decode cX3_deposit 22 = .ok (.iconst 2, 1) := dk_5 (dk_at dksX3_deposit_0 22 rfl rfl)
theorem dX3_deposit_23 : decode cX3_deposit 23 = .ok (.goto 31, 3) := dk_167 0 31 (dk_at dksX3_deposit_1 0 rfl rfl)
theorem dX3_deposit_26 : decode cX3_deposit 26 = .ok (.aload_n 0, 1) := dk_42 (dk_at dksX3_deposit_1 3 rfl rfl)
theorem dX3_deposit_27 : decode cX3_deposit 27 = .ok (.getfield 19, 3) := dk_180 0 19 (dk_at dksX3_deposit_1 4 rfl rfl)
theorem dX3_deposit_30 : decode cX3_deposit 30 = .ok (.iload_n 1, 1) := dk_27 (dk_at dksX3_deposit_1 7 rfl rfl)
theorem dX3_deposit_31 : decode cX3_deposit 31 = .ok (.iaload, 1) := dk_46 (dk_at dksX3_deposit_1 8 rfl rfl)
theorem dX3_deposit_32 : decode cX3_deposit 32 = .ok (.iconst 1, 1) := dk_4 (dk_at dksX3_deposit_1 9 rfl rfl)
theorem dX3_deposit_33 : decode cX3_deposit 33 = .ok (.if_icmp .eq 16, 3) := dk_159 0 16 (dk_at dksX3_deposit_1 10 rfl rfl)
theorem dX3_deposit_36 : decode cX3_deposit 36 = .ok (.aload_n 0, 1) := dk_42 (dk_at dksX3_deposit_1 13 rfl rfl)
theorem dX3_deposit_37 : decode cX3_deposit 37 = .ok (.getfield 16, 3) := dk_180 0 16 (dk_at dksX3_deposit_1 14 rfl rfl)
theorem dX3_deposit_40 : decode cX3_deposit 40 = .ok (.iload_n 1, 1) := dk_27 (dk_at dksX3_deposit_1 17 rfl rfl)
theorem dX3_deposit_41 : decode cX3_deposit 41 = .ok (.iaload, 1) := dk_46 (dk_at dksX3_deposit_1 18 rfl rfl)
theorem dX3_deposit_42 : decode cX3_deposit 42 = .ok (.iload_n 2, 1) := dk_28 (dk_at dksX3_deposit_1 19 rfl rfl)
theorem dX3_deposit_43 : decode cX3_deposit 43 = .ok (.iadd, 1) := dk_96 (dk_at dksX3_deposit_1 20 rfl rfl)
theorem dX3_deposit_44 : decode cX3_deposit 44 = .ok (.ldc 191, 2) := dk_18 191 (dk_at dksX3_deposit_1 21 rfl rfl)
theorem dX3_deposit_46 : decode cX3_deposit 46 = .ok (.if_icmp .le 7, 3) := dk_164 0 7 (dk_at dksX3_deposit_2 0 rfl rfl)
theorem dX3_deposit_49 : decode cX3_deposit 49 = .ok (.iconst 3, 1) := dk_6 (dk_at dksX3_deposit_2 3 rfl rfl)
theorem dX3_deposit_50 : decode cX3_deposit 50 = .ok (.goto 4, 3) := dk_167 0 4 (dk_at dksX3_deposit_2 4 rfl rfl)
theorem dX3_deposit_53 : decode cX3_deposit 53 = .ok (.iconst 0, 1) := dk_3 (dk_at dksX3_deposit_2 7 rfl rfl)
theorem dX3_deposit_54 : decode cX3_deposit 54 = .ok (.putfield 175, 3) := dk_181 0 175 (dk_at dksX3_deposit_2 8 rfl rfl)
theorem dX3_deposit_57 : decode cX3_deposit 57 = .ok (.aload_n 0, 1) := dk_42 (dk_at dksX3_deposit_2 11 rfl rfl)
theorem dX3_deposit_58 : decode cX3_deposit 58 = .ok (.getfield 175, 3) := dk_180 0 175 (dk_at dksX3_deposit_2 12 rfl rfl)
theorem dX3_deposit_61 : decode cX3_deposit 61 = .ok (.ifCond .le 5, 3) := dk_158 0 5 (dk_at dksX3_deposit_2 15 rfl rfl)
theorem dX3_deposit_64 : decode cX3_deposit 64 = .ok (.iconst 0, 1) := dk_3 (dk_at dksX3_deposit_2 18 rfl rfl)
theorem dX3_deposit_65 : decode cX3_deposit 65 = .ok (.ireturn, 1) := dk_172 (dk_at dksX3_deposit_2 19 rfl rfl)
theorem dX3_deposit_66 : decode cX3_deposit 66 = .ok (.aload_n 0, 1) := dk_42 (dk_at dksX3_deposit_2 20 rfl rfl)
theorem dX3_deposit_67 : decode cX3_deposit 67 = .ok (.getfield 16, 3) := dk_180 0 16 (dk_at dksX3_deposit_2 21 rfl rfl)
theorem dX3_deposit_70 : decode cX3_deposit 70 = .ok (.iload_n 1, 1) := dk_27 (dk_at dksX3_deposit_3 0 rfl rfl)
theorem dX3_deposit_71 : decode cX3_deposit 71 = .ok (.dup2, 1) := dk_92 (dk_at dksX3_deposit_3 1 rfl rfl)
theorem dX3_deposit_72 : decode cX3_deposit 72 = .ok (.iaload, 1) := dk_46 (dk_at dksX3_deposit_3 2 rfl rfl)
theorem dX3_deposit_73 : decode cX3_deposit 73 = .ok (.iload_n 2, 1) := dk_28 (dk_at dksX3_deposit_3 3 rfl rfl)
theorem dX3_deposit_74 : decode cX3_deposit 74 = .ok (.iadd, 1) := dk_96 (dk_at dksX3_deposit_3 4 rfl rfl)
theorem dX3_deposit_75 : decode cX3_deposit 75 = .ok (.iastore, 1) := dk_79 (dk_at dksX3_deposit_3 5 rfl rfl)
theorem dX3_deposit_76 : decode cX3_deposit 76 = .ok (.aload_n 0, 1) := dk_42 (dk_at dksX3_deposit_3 6 rfl rfl)
theorem dX3_deposit_77 : decode cX3_deposit 77 = .ok (.getfield 13, 3) := dk_180 0 13 (dk_at dksX3_deposit_3 7 rfl rfl)
theorem dX3_deposit_80 : decode cX3_deposit 80 = .ok (.iload_n 1, 1) := dk_27 (dk_at dksX3_deposit_3 10 rfl rfl)
theorem dX3_deposit_81 : decode cX3_deposit 81 = .ok (.dup2, 1) := dk_92 (dk_at dksX3_deposit_3 11 rfl rfl)
theorem dX3_deposit_82 : decode cX3_deposit 82 = .ok (.iaload, 1) := dk_46 (dk_at dksX3_deposit_3 12 rfl rfl)
theorem dX3_deposit_83 : decode cX3_deposit 83 = .ok (.iload_n 2, 1) := dk_28 (dk_at dksX3_deposit_3 13 rfl rfl)
theorem dX3_deposit_84 : decode cX3_deposit 84 = .ok (.iadd, 1) := dk_96 (dk_at dksX3_deposit_3 14 rfl rfl)
theorem dX3_deposit_85 : decode cX3_deposit 85 = .ok (.iastore, 1) := dk_79 (dk_at dksX3_deposit_3 15 rfl rfl)
theorem dX3_deposit_86 : decode cX3_deposit 86 = .ok (.aload_n 0, 1) := dk_42 (dk_at dksX3_deposit_3 16 rfl rfl)
theorem dX3_deposit_87 : decode cX3_deposit 87 = .ok (.getfield 13, 3) := dk_180 0 13 (dk_at dksX3_deposit_3 17 rfl rfl)
theorem dX3_deposit_90 : decode cX3_deposit 90 = .ok (.iload_n 1, 1) := dk_27 (dk_at dksX3_deposit_3 20 rfl rfl)
theorem dX3_deposit_91 : decode cX3_deposit 91 = .ok (.iaload, 1) := dk_46 (dk_at dksX3_deposit_3 21 rfl rfl)
theorem dX3_deposit_92 : decode cX3_deposit 92 = .ok (.ireturn, 1) := dk_172 (dk_at dksX3_deposit_3 22 rfl rfl)
abbrev cX3_isFirm : ByteArray := prog_15_method_4_code
def yX3_isFirm : MethodName := ⟨RX3, "isFirm", "(I)Z"⟩
def dkwX3_isFirm_0 : List UInt8 := [26, 3, 8, 184, 0, 179, 172]
abbrev dktX3_isFirm_0 : List UInt8 := dkwX3_isFirm_0 ++ []
theorem dksX3_isFirm_0 : cX3_isFirm.data.toList.drop 0 = dktX3_isFirm_0 := by decide +kernel
theorem dX3_isFirm_0 : decode cX3_isFirm 0 = .ok (.iload_n 0, 1) := dk_26 (dk_at dksX3_isFirm_0 0 rfl rfl)
theorem dX3_isFirm_1 : decode cX3_isFirm 1 = .ok (.iconst 0, 1) := dk_3 (dk_at dksX3_isFirm_0 1 rfl rfl)
theorem dX3_isFirm_2 : decode cX3_isFirm 2 = .ok (.iconst 5, 1) := dk_8 (dk_at dksX3_isFirm_0 2 rfl rfl)
theorem dX3_isFirm_3 : decode cX3_isFirm 3 = .ok (.invokestatic 179, 3) := dk_184 0 179 (dk_at dksX3_isFirm_0 3 rfl rfl)
theorem dX3_isFirm_6 : decode cX3_isFirm 6 = .ok (.ireturn, 1) := dk_172 (dk_at dksX3_isFirm_0 6 rfl rfl)
abbrev cX3_in : ByteArray := prog_15_method_3_code
def yX3_in : MethodName := ⟨RX3, "in", "(III)Z"⟩
def dkwX3_in_0 : List UInt8 := [26, 27, 161, 0, 12, 26, 28, 163, 0, 7, 4, 167, 0, 4, 3, 172]
abbrev dktX3_in_0 : List UInt8 := dkwX3_in_0 ++ []
theorem dksX3_in_0 : cX3_in.data.toList.drop 0 = dktX3_in_0 := by decide +kernel
theorem dX3_in_0 : decode cX3_in 0 = .ok (.iload_n 0, 1) := dk_26 (dk_at dksX3_in_0 0 rfl rfl)
theorem dX3_in_1 : decode cX3_in 1 = .ok (.iload_n 1, 1) := dk_27 (dk_at dksX3_in_0 1 rfl rfl)
theorem dX3_in_2 : decode cX3_in 2 = .ok (.if_icmp .lt 12, 3) := dk_161 0 12 (dk_at dksX3_in_0 2 rfl rfl)
theorem dX3_in_5 : decode cX3_in 5 = .ok (.iload_n 0, 1) := dk_26 (dk_at dksX3_in_0 5 rfl rfl)
theorem dX3_in_6 : decode cX3_in 6 = .ok (.iload_n 2, 1) := dk_28 (dk_at dksX3_in_0 6 rfl rfl)
theorem dX3_in_7 : decode cX3_in 7 = .ok (.if_icmp .gt 7, 3) := dk_163 0 7 (dk_at dksX3_in_0 7 rfl rfl)
theorem dX3_in_10 : decode cX3_in 10 = .ok (.iconst 1, 1) := dk_4 (dk_at dksX3_in_0 10 rfl rfl)
theorem dX3_in_11 : decode cX3_in 11 = .ok (.goto 4, 3) := dk_167 0 4 (dk_at dksX3_in_0 11 rfl rfl)
theorem dX3_in_14 : decode cX3_in 14 = .ok (.iconst 0, 1) := dk_3 (dk_at dksX3_in_0 14 rfl rfl)
theorem dX3_in_15 : decode cX3_in 15 = .ok (.ireturn, 1) := dk_172 (dk_at dksX3_in_0 15 rfl rfl)
abbrev cX3_setLimit : ByteArray := prog_15_method_9_code
def yX3_setLimit : MethodName := ⟨RX3, "setLimit", "(II)I"⟩
def dkwX3_setLimit_2 : List UInt8 := [158, 0, 5, 3, 172, 42, 180, 0, 7, 27, 46, 62, 42, 180, 0, 7, 27, 28, 79, 29, 172]
abbrev dktX3_setLimit_2 : List UInt8 := dkwX3_setLimit_2 ++ []
def dkwX3_setLimit_1 : List UInt8 := [5, 167, 0, 16, 42, 180, 0, 192, 4, 160, 0, 7, 6, 167, 0, 4, 3, 181, 0, 175, 42, 180, 0, 175]
abbrev dktX3_setLimit_1 : List UInt8 := dkwX3_setLimit_1 ++ dktX3_setLimit_2
def dkwX3_setLimit_0 : List UInt8 := [42, 27, 3, 5, 184, 0, 179, 154, 0, 7, 4, 167, 0, 30, 28, 3, 16, 10, 184, 0, 179, 154, 0, 7]
abbrev dktX3_setLimit_0 : List UInt8 := dkwX3_setLimit_0 ++ dktX3_setLimit_1
theorem dksX3_setLimit_0 : cX3_setLimit.data.toList.drop 0 = dktX3_setLimit_0 := by decide +kernel
theorem dksX3_setLimit_1 : cX3_setLimit.data.toList.drop 24 = dktX3_setLimit_1 := dk_seg dksX3_setLimit_0 24 rfl rfl
theorem dksX3_setLimit_2 : cX3_setLimit.data.toList.drop 48 = dktX3_setLimit_2 := dk_seg dksX3_setLimit_1 24 rfl rfl
theorem dX3_setLimit_0 : decode cX3_setLimit 0 = .ok (.aload_n 0, 1) := dk_42 (dk_at dksX3_setLimit_0 0 rfl rfl)
theorem dX3_setLimit_1 : decode cX3_setLimit 1 = .ok (.iload_n 1, 1) := dk_27 (dk_at dksX3_setLimit_0 1 rfl rfl)
theorem dX3_setLimit_2 : decode cX3_setLimit 2 = .ok (.iconst 0, 1) := dk_3 (dk_at dksX3_setLimit_0 2 rfl rfl)
theorem dX3_setLimit_3 : decode cX3_setLimit 3 = .ok (.iconst 2, 1) := dk_5 (dk_at dksX3_setLimit_0 3 rfl rfl)
theorem dX3_setLimit_4 : decode cX3_setLimit 4 = .ok (.invokestatic 179, 3) := dk_184 0 179 (dk_at dksX3_setLimit_0 4 rfl rfl)
theorem dX3_setLimit_7 : decode cX3_setLimit 7 = .ok (.ifCond .ne 7, 3) := dk_154 0 7 (dk_at dksX3_setLimit_0 7 rfl rfl)
theorem dX3_setLimit_10 : decode cX3_setLimit 10 = .ok (.iconst 1, 1) := dk_4 (dk_at dksX3_setLimit_0 10 rfl rfl)
theorem dX3_setLimit_11 : decode cX3_setLimit 11 = .ok (.goto 30, 3) := dk_167 0 30 (dk_at dksX3_setLimit_0 11 rfl rfl)
theorem dX3_setLimit_14 : decode cX3_setLimit 14 = .ok (.iload_n 2, 1) := dk_28 (dk_at dksX3_setLimit_0 14 rfl rfl)
theorem dX3_setLimit_15 : decode cX3_setLimit 15 = .ok (.iconst 0, 1) := dk_3 (dk_at dksX3_setLimit_0 15 rfl rfl)
theorem dX3_setLimit_16 : decode cX3_setLimit 16 = .ok (.bipush 10, 2) := dk_16 10 (dk_at dksX3_setLimit_0 16 rfl rfl)
theorem dX3_setLimit_18 : decode cX3_setLimit 18 = .ok (.invokestatic 179, 3) := dk_184 0 179 (dk_at dksX3_setLimit_0 18 rfl rfl)
theorem dX3_setLimit_21 : decode cX3_setLimit 21 = .ok (.ifCond .ne 7, 3) := dk_154 0 7 (dk_at dksX3_setLimit_0 21 rfl rfl)
theorem dX3_setLimit_24 : decode cX3_setLimit 24 = .ok (.iconst 2, 1) := dk_5 (dk_at dksX3_setLimit_1 0 rfl rfl)
theorem dX3_setLimit_25 : decode cX3_setLimit 25 = .ok (.goto 16, 3) := dk_167 0 16 (dk_at dksX3_setLimit_1 1 rfl rfl)
theorem dX3_setLimit_28 : decode cX3_setLimit 28 = .ok (.aload_n 0, 1) := dk_42 (dk_at dksX3_setLimit_1 4 rfl rfl)
theorem dX3_setLimit_29 : decode cX3_setLimit 29 = .ok (.getfield 192, 3) := dk_180 0 192 (dk_at dksX3_setLimit_1 5 rfl rfl)
theorem dX3_setLimit_32 : decode cX3_setLimit 32 = .ok (.iconst 1, 1) := dk_4 (dk_at dksX3_setLimit_1 8 rfl rfl)
theorem dX3_setLimit_33 : decode cX3_setLimit 33 = .ok (.if_icmp .ne 7, 3) := dk_160 0 7 (dk_at dksX3_setLimit_1 9 rfl rfl)
theorem dX3_setLimit_36 : decode cX3_setLimit 36 = .ok (.iconst 3, 1) := dk_6 (dk_at dksX3_setLimit_1 12 rfl rfl)
theorem dX3_setLimit_37 : decode cX3_setLimit 37 = .ok (.goto 4, 3) := dk_167 0 4 (dk_at dksX3_setLimit_1 13 rfl rfl)
theorem dX3_setLimit_40 : decode cX3_setLimit 40 = .ok (.iconst 0, 1) := dk_3 (dk_at dksX3_setLimit_1 16 rfl rfl)
theorem dX3_setLimit_41 : decode cX3_setLimit 41 = .ok (.putfield 175, 3) := dk_181 0 175 (dk_at dksX3_setLimit_1 17 rfl rfl)
theorem dX3_setLimit_44 : decode cX3_setLimit 44 = .ok (.aload_n 0, 1) := dk_42 (dk_at dksX3_setLimit_1 20 rfl rfl)
theorem dX3_setLimit_45 : decode cX3_setLimit 45 = .ok (.getfield 175, 3) := dk_180 0 175 (dk_at dksX3_setLimit_1 21 rfl rfl)
theorem dX3_setLimit_48 : decode cX3_setLimit 48 = .ok (.ifCond .le 5, 3) := dk_158 0 5 (dk_at dksX3_setLimit_2 0 rfl rfl)
theorem dX3_setLimit_51 : decode cX3_setLimit 51 = .ok (.iconst 0, 1) := dk_3 (dk_at dksX3_setLimit_2 3 rfl rfl)
theorem dX3_setLimit_52 : decode cX3_setLimit 52 = .ok (.ireturn, 1) := dk_172 (dk_at dksX3_setLimit_2 4 rfl rfl)
theorem dX3_setLimit_53 : decode cX3_setLimit 53 = .ok (.aload_n 0, 1) := dk_42 (dk_at dksX3_setLimit_2 5 rfl rfl)
theorem dX3_setLimit_54 : decode cX3_setLimit 54 = .ok (.getfield 7, 3) := dk_180 0 7 (dk_at dksX3_setLimit_2 6 rfl rfl)
theorem dX3_setLimit_57 : decode cX3_setLimit 57 = .ok (.iload_n 1, 1) := dk_27 (dk_at dksX3_setLimit_2 9 rfl rfl)
theorem dX3_setLimit_58 : decode cX3_setLimit 58 = .ok (.iaload, 1) := dk_46 (dk_at dksX3_setLimit_2 10 rfl rfl)
theorem dX3_setLimit_59 : decode cX3_setLimit 59 = .ok (.istore_n 3, 1) := dk_62 (dk_at dksX3_setLimit_2 11 rfl rfl)
theorem dX3_setLimit_60 : decode cX3_setLimit 60 = .ok (.aload_n 0, 1) := dk_42 (dk_at dksX3_setLimit_2 12 rfl rfl)
theorem dX3_setLimit_61 : decode cX3_setLimit 61 = .ok (.getfield 7, 3) := dk_180 0 7 (dk_at dksX3_setLimit_2 13 rfl rfl)
theorem dX3_setLimit_64 : decode cX3_setLimit 64 = .ok (.iload_n 1, 1) := dk_27 (dk_at dksX3_setLimit_2 16 rfl rfl)
theorem dX3_setLimit_65 : decode cX3_setLimit 65 = .ok (.iload_n 2, 1) := dk_28 (dk_at dksX3_setLimit_2 17 rfl rfl)
theorem dX3_setLimit_66 : decode cX3_setLimit 66 = .ok (.iastore, 1) := dk_79 (dk_at dksX3_setLimit_2 18 rfl rfl)
theorem dX3_setLimit_67 : decode cX3_setLimit 67 = .ok (.iload_n 3, 1) := dk_29 (dk_at dksX3_setLimit_2 19 rfl rfl)
theorem dX3_setLimit_68 : decode cX3_setLimit 68 = .ok (.ireturn, 1) := dk_172 (dk_at dksX3_setLimit_2 20 rfl rfl)
abbrev cX3_bid : ByteArray := prog_15_method_10_code
def yX3_bid : MethodName := ⟨RX3, "bid", "(IIIZII)I"⟩
def dkwX3_bid_8 : List UInt8 := [181, 0, 201, 42, 180, 0, 201, 4, 100, 172]
abbrev dktX3_bid_8 : List UInt8 := dkwX3_bid_8 ++ []
def dkwX3_bid_7 : List UInt8 := [180, 0, 201, 21, 5, 79, 42, 180, 0, 37, 42, 180, 0, 201, 21, 6, 79, 42, 89, 180, 0, 201, 4, 96]
abbrev dktX3_bid_7 : List UInt8 := dkwX3_bid_7 ++ dktX3_bid_8
def dkwX3_bid_6 : List UInt8 := [180, 0, 31, 42, 180, 0, 201, 21, 4, 153, 0, 7, 4, 167, 0, 4, 3, 79, 42, 180, 0, 34, 42]
abbrev dktX3_bid_6 : List UInt8 := dkwX3_bid_6 ++ dktX3_bid_7
def dkwX3_bid_5 : List UInt8 := [27, 79, 42, 180, 0, 25, 42, 180, 0, 201, 28, 79, 42, 180, 0, 28, 42, 180, 0, 201, 29, 79, 42]
abbrev dktX3_bid_5 : List UInt8 := dkwX3_bid_5 ++ dktX3_bid_6
def dkwX3_bid_4 : List UInt8 := [167, 0, 4, 3, 181, 0, 175, 42, 180, 0, 175, 158, 0, 5, 3, 172, 42, 180, 0, 22, 42, 180, 0, 201]
abbrev dktX3_bid_4 : List UInt8 := dkwX3_bid_4 ++ dktX3_bid_5
def dkwX3_bid_3 : List UInt8 := [46, 4, 159, 0, 20, 42, 180, 0, 192, 4, 159, 0, 12, 42, 180, 0, 201, 16, 40, 160, 0, 7, 6]
abbrev dktX3_bid_3 : List UInt8 := dkwX3_bid_3 ++ dktX3_bid_4
def dkwX3_bid_2 : List UInt8 := [154, 0, 7, 5, 167, 0, 4, 3, 181, 0, 175, 42, 180, 0, 175, 154, 0, 39, 42, 42, 180, 0, 19, 27]
abbrev dktX3_bid_2 : List UInt8 := dkwX3_bid_2 ++ dktX3_bid_3
def dkwX3_bid_1 : List UInt8 := [167, 0, 31, 21, 5, 3, 17, 0, 200, 184, 0, 179, 153, 0, 14, 21, 6, 4, 16, 10, 184, 0, 179]
abbrev dktX3_bid_1 : List UInt8 := dkwX3_bid_1 ++ dktX3_bid_2
def dkwX3_bid_0 : List UInt8 := [42, 27, 184, 0, 186, 153, 0, 17, 28, 184, 0, 195, 153, 0, 10, 29, 184, 0, 198, 154, 0, 7, 4]
abbrev dktX3_bid_0 : List UInt8 := dkwX3_bid_0 ++ dktX3_bid_1
theorem dksX3_bid_0 : cX3_bid.data.toList.drop 0 = dktX3_bid_0 := by decide +kernel
theorem dksX3_bid_1 : cX3_bid.data.toList.drop 23 = dktX3_bid_1 := dk_seg dksX3_bid_0 23 rfl rfl
theorem dksX3_bid_2 : cX3_bid.data.toList.drop 46 = dktX3_bid_2 := dk_seg dksX3_bid_1 23 rfl rfl
theorem dksX3_bid_3 : cX3_bid.data.toList.drop 70 = dktX3_bid_3 := dk_seg dksX3_bid_2 24 rfl rfl
theorem dksX3_bid_4 : cX3_bid.data.toList.drop 93 = dktX3_bid_4 := dk_seg dksX3_bid_3 23 rfl rfl
theorem dksX3_bid_5 : cX3_bid.data.toList.drop 117 = dktX3_bid_5 := dk_seg dksX3_bid_4 24 rfl rfl
theorem dksX3_bid_6 : cX3_bid.data.toList.drop 140 = dktX3_bid_6 := dk_seg dksX3_bid_5 23 rfl rfl
theorem dksX3_bid_7 : cX3_bid.data.toList.drop 163 = dktX3_bid_7 := dk_seg dksX3_bid_6 23 rfl rfl
theorem dksX3_bid_8 : cX3_bid.data.toList.drop 187 = dktX3_bid_8 := dk_seg dksX3_bid_7 24 rfl rfl
theorem dX3_bid_0 : decode cX3_bid 0 = .ok (.aload_n 0, 1) := dk_42 (dk_at dksX3_bid_0 0 rfl rfl)
theorem dX3_bid_1 : decode cX3_bid 1 = .ok (.iload_n 1, 1) := dk_27 (dk_at dksX3_bid_0 1 rfl rfl)
theorem dX3_bid_2 : decode cX3_bid 2 = .ok (.invokestatic 186, 3) := dk_184 0 186 (dk_at dksX3_bid_0 2 rfl rfl)
theorem dX3_bid_5 : decode cX3_bid 5 = .ok (.ifCond .eq 17, 3) := dk_153 0 17 (dk_at dksX3_bid_0 5 rfl rfl)
theorem dX3_bid_8 : decode cX3_bid 8 = .ok (.iload_n 2, 1) := dk_28 (dk_at dksX3_bid_0 8 rfl rfl)
theorem dX3_bid_9 : decode cX3_bid 9 = .ok (.invokestatic 195, 3) := dk_184 0 195 (dk_at dksX3_bid_0 9 rfl rfl)
theorem dX3_bid_12 : decode cX3_bid 12 = .ok (.ifCond .eq 10, 3) := dk_153 0 10 (dk_at dksX3_bid_0 12 rfl rfl)
theorem dX3_bid_15 : decode cX3_bid 15 = .ok (.iload_n 3, 1) := dk_29 (dk_at dksX3_bid_0 15 rfl rfl)
theorem dX3_bid_16 : decode cX3_bid 16 = .ok (.invokestatic 198, 3) := dk_184 0 198 (dk_at dksX3_bid_0 16 rfl rfl)
theorem dX3_bid_19 : decode cX3_bid 19 = .ok (.ifCond .ne 7, 3) := dk_154 0 7 (dk_at dksX3_bid_0 19 rfl rfl)
theorem dX3_bid_22 : decode cX3_bid 22 = .ok (.iconst 1, 1) := dk_4 (dk_at dksX3_bid_0 22 rfl rfl)
theorem dX3_bid_23 : decode cX3_bid 23 = .ok (.goto 31, 3) := dk_167 0 31 (dk_at dksX3_bid_1 0 rfl rfl)
theorem dX3_bid_26 : decode cX3_bid 26 = .ok (.iload 5, 2) := dk_21 5 (dk_at dksX3_bid_1 3 rfl rfl)
theorem dX3_bid_28 : decode cX3_bid 28 = .ok (.iconst 0, 1) := dk_3 (dk_at dksX3_bid_1 5 rfl rfl)
theorem dX3_bid_29 : decode cX3_bid 29 = .ok (.sipush 200, 3) := dk_17 0 200 (dk_at dksX3_bid_1 6 rfl rfl)
theorem dX3_bid_32 : decode cX3_bid 32 = .ok (.invokestatic 179, 3) := dk_184 0 179 (dk_at dksX3_bid_1 9 rfl rfl)
theorem dX3_bid_35 : decode cX3_bid 35 = .ok (.ifCond .eq 14, 3) := dk_153 0 14 (dk_at dksX3_bid_1 12 rfl rfl)
theorem dX3_bid_38 : decode cX3_bid 38 = .ok (.iload 6, 2) := dk_21 6 (dk_at dksX3_bid_1 15 rfl rfl)
theorem dX3_bid_40 : decode cX3_bid 40 = .ok (.iconst 1, 1) := dk_4 (dk_at dksX3_bid_1 17 rfl rfl)
theorem dX3_bid_41 : decode cX3_bid 41 = .ok (.bipush 10, 2) := dk_16 10 (dk_at dksX3_bid_1 18 rfl rfl)
theorem dX3_bid_43 : decode cX3_bid 43 = .ok (.invokestatic 179, 3) := dk_184 0 179 (dk_at dksX3_bid_1 20 rfl rfl)
theorem dX3_bid_46 : decode cX3_bid 46 = .ok (.ifCond .ne 7, 3) := dk_154 0 7 (dk_at dksX3_bid_2 0 rfl rfl)
theorem dX3_bid_49 : decode cX3_bid 49 = .ok (.iconst 2, 1) := dk_5 (dk_at dksX3_bid_2 3 rfl rfl)
theorem dX3_bid_50 : decode cX3_bid 50 = .ok (.goto 4, 3) := dk_167 0 4 (dk_at dksX3_bid_2 4 rfl rfl)
theorem dX3_bid_53 : decode cX3_bid 53 = .ok (.iconst 0, 1) := dk_3 (dk_at dksX3_bid_2 7 rfl rfl)
theorem dX3_bid_54 : decode cX3_bid 54 = .ok (.putfield 175, 3) := dk_181 0 175 (dk_at dksX3_bid_2 8 rfl rfl)
theorem dX3_bid_57 : decode cX3_bid 57 = .ok (.aload_n 0, 1) := dk_42 (dk_at dksX3_bid_2 11 rfl rfl)
theorem dX3_bid_58 : decode cX3_bid 58 = .ok (.getfield 175, 3) := dk_180 0 175 (dk_at dksX3_bid_2 12 rfl rfl)
theorem dX3_bid_61 : decode cX3_bid 61 = .ok (.ifCond .ne 39, 3) := dk_154 0 39 (dk_at dksX3_bid_2 15 rfl rfl)
theorem dX3_bid_64 : decode cX3_bid 64 = .ok (.aload_n 0, 1) := dk_42 (dk_at dksX3_bid_2 18 rfl rfl)
theorem dX3_bid_65 : decode cX3_bid 65 = .ok (.aload_n 0, 1) := dk_42 (dk_at dksX3_bid_2 19 rfl rfl)
theorem dX3_bid_66 : decode cX3_bid 66 = .ok (.getfield 19, 3) := dk_180 0 19 (dk_at dksX3_bid_2 20 rfl rfl)
theorem dX3_bid_69 : decode cX3_bid 69 = .ok (.iload_n 1, 1) := dk_27 (dk_at dksX3_bid_2 23 rfl rfl)
theorem dX3_bid_70 : decode cX3_bid 70 = .ok (.iaload, 1) := dk_46 (dk_at dksX3_bid_3 0 rfl rfl)
theorem dX3_bid_71 : decode cX3_bid 71 = .ok (.iconst 1, 1) := dk_4 (dk_at dksX3_bid_3 1 rfl rfl)
theorem dX3_bid_72 : decode cX3_bid 72 = .ok (.if_icmp .eq 20, 3) := dk_159 0 20 (dk_at dksX3_bid_3 2 rfl rfl)
theorem dX3_bid_75 : decode cX3_bid 75 = .ok (.aload_n 0, 1) := dk_42 (dk_at dksX3_bid_3 5 rfl rfl)
theorem dX3_bid_76 : decode cX3_bid 76 = .ok (.getfield 192, 3) := dk_180 0 192 (dk_at dksX3_bid_3 6 rfl rfl)
theorem dX3_bid_79 : decode cX3_bid 79 = .ok (.iconst 1, 1) := dk_4 (dk_at dksX3_bid_3 9 rfl rfl)
theorem dX3_bid_80 : decode cX3_bid 80 = .ok (.if_icmp .eq 12, 3) := dk_159 0 12 (dk_at dksX3_bid_3 10 rfl rfl)
theorem dX3_bid_83 : decode cX3_bid 83 = .ok (.aload_n 0, 1) := dk_42 (dk_at dksX3_bid_3 13 rfl rfl)
theorem dX3_bid_84 : decode cX3_bid 84 = .ok (.getfield 201, 3) := dk_180 0 201 (dk_at dksX3_bid_3 14 rfl rfl)
theorem dX3_bid_87 : decode cX3_bid 87 = .ok (.bipush 40, 2) := dk_16 40 (dk_at dksX3_bid_3 17 rfl rfl)
theorem dX3_bid_89 : decode cX3_bid 89 = .ok (.if_icmp .ne 7, 3) := dk_160 0 7 (dk_at dksX3_bid_3 19 rfl rfl)
theorem dX3_bid_92 : decode cX3_bid 92 = .ok (.iconst 3, 1) := dk_6 (dk_at dksX3_bid_3 22 rfl rfl)
theorem dX3_bid_93 : decode cX3_bid 93 = .ok (.goto 4, 3) := dk_167 0 4 (dk_at dksX3_bid_4 0 rfl rfl)
theorem dX3_bid_96 : decode cX3_bid 96 = .ok (.iconst 0, 1) := dk_3 (dk_at dksX3_bid_4 3 rfl rfl)
theorem dX3_bid_97 : decode cX3_bid 97 = .ok (.putfield 175, 3) := dk_181 0 175 (dk_at dksX3_bid_4 4 rfl rfl)
theorem dX3_bid_100 : decode cX3_bid 100 = .ok (.aload_n 0, 1) := dk_42 (dk_at dksX3_bid_4 7 rfl rfl)
theorem dX3_bid_101 : decode cX3_bid 101 = .ok (.getfield 175, 3) := dk_180 0 175 (dk_at dksX3_bid_4 8 rfl rfl)
theorem dX3_bid_104 : decode cX3_bid 104 = .ok (.ifCond .le 5, 3) := dk_158 0 5 (dk_at dksX3_bid_4 11 rfl rfl)
theorem dX3_bid_107 : decode cX3_bid 107 = .ok (.iconst 0, 1) := dk_3 (dk_at dksX3_bid_4 14 rfl rfl)
theorem dX3_bid_108 : decode cX3_bid 108 = .ok (.ireturn, 1) := dk_172 (dk_at dksX3_bid_4 15 rfl rfl)
theorem dX3_bid_109 : decode cX3_bid 109 = .ok (.aload_n 0, 1) := dk_42 (dk_at dksX3_bid_4 16 rfl rfl)
theorem dX3_bid_110 : decode cX3_bid 110 = .ok (.getfield 22, 3) := dk_180 0 22 (dk_at dksX3_bid_4 17 rfl rfl)
theorem dX3_bid_113 : decode cX3_bid 113 = .ok (.aload_n 0, 1) := dk_42 (dk_at dksX3_bid_4 20 rfl rfl)
theorem dX3_bid_114 : decode cX3_bid 114 = .ok (.getfield 201, 3) := dk_180 0 201 (dk_at dksX3_bid_4 21 rfl rfl)
theorem dX3_bid_117 : decode cX3_bid 117 = .ok (.iload_n 1, 1) := dk_27 (dk_at dksX3_bid_5 0 rfl rfl)
theorem dX3_bid_118 : decode cX3_bid 118 = .ok (.iastore, 1) := dk_79 (dk_at dksX3_bid_5 1 rfl rfl)
theorem dX3_bid_119 : decode cX3_bid 119 = .ok (.aload_n 0, 1) := dk_42 (dk_at dksX3_bid_5 2 rfl rfl)
theorem dX3_bid_120 : decode cX3_bid 120 = .ok (.getfield 25, 3) := dk_180 0 25 (dk_at dksX3_bid_5 3 rfl rfl)
theorem dX3_bid_123 : decode cX3_bid 123 = .ok (.aload_n 0, 1) := dk_42 (dk_at dksX3_bid_5 6 rfl rfl)
theorem dX3_bid_124 : decode cX3_bid 124 = .ok (.getfield 201, 3) := dk_180 0 201 (dk_at dksX3_bid_5 7 rfl rfl)
theorem dX3_bid_127 : decode cX3_bid 127 = .ok (.iload_n 2, 1) := dk_28 (dk_at dksX3_bid_5 10 rfl rfl)
theorem dX3_bid_128 : decode cX3_bid 128 = .ok (.iastore, 1) := dk_79 (dk_at dksX3_bid_5 11 rfl rfl)
theorem dX3_bid_129 : decode cX3_bid 129 = .ok (.aload_n 0, 1) := dk_42 (dk_at dksX3_bid_5 12 rfl rfl)
theorem dX3_bid_130 : decode cX3_bid 130 = .ok (.getfield 28, 3) := dk_180 0 28 (dk_at dksX3_bid_5 13 rfl rfl)
theorem dX3_bid_133 : decode cX3_bid 133 = .ok (.aload_n 0, 1) := dk_42 (dk_at dksX3_bid_5 16 rfl rfl)
theorem dX3_bid_134 : decode cX3_bid 134 = .ok (.getfield 201, 3) := dk_180 0 201 (dk_at dksX3_bid_5 17 rfl rfl)
theorem dX3_bid_137 : decode cX3_bid 137 = .ok (.iload_n 3, 1) := dk_29 (dk_at dksX3_bid_5 20 rfl rfl)
theorem dX3_bid_138 : decode cX3_bid 138 = .ok (.iastore, 1) := dk_79 (dk_at dksX3_bid_5 21 rfl rfl)
theorem dX3_bid_139 : decode cX3_bid 139 = .ok (.aload_n 0, 1) := dk_42 (dk_at dksX3_bid_5 22 rfl rfl)
theorem dX3_bid_140 : decode cX3_bid 140 = .ok (.getfield 31, 3) := dk_180 0 31 (dk_at dksX3_bid_6 0 rfl rfl)
theorem dX3_bid_143 : decode cX3_bid 143 = .ok (.aload_n 0, 1) := dk_42 (dk_at dksX3_bid_6 3 rfl rfl)
theorem dX3_bid_144 : decode cX3_bid 144 = .ok (.getfield 201, 3) := dk_180 0 201 (dk_at dksX3_bid_6 4 rfl rfl)
theorem dX3_bid_147 : decode cX3_bid 147 = .ok (.iload 4, 2) := dk_21 4 (dk_at dksX3_bid_6 7 rfl rfl)
theorem dX3_bid_149 : decode cX3_bid 149 = .ok (.ifCond .eq 7, 3) := dk_153 0 7 (dk_at dksX3_bid_6 9 rfl rfl)
theorem dX3_bid_152 : decode cX3_bid 152 = .ok (.iconst 1, 1) := dk_4 (dk_at dksX3_bid_6 12 rfl rfl)
theorem dX3_bid_153 : decode cX3_bid 153 = .ok (.goto 4, 3) := dk_167 0 4 (dk_at dksX3_bid_6 13 rfl rfl)
theorem dX3_bid_156 : decode cX3_bid 156 = .ok (.iconst 0, 1) := dk_3 (dk_at dksX3_bid_6 16 rfl rfl)
theorem dX3_bid_157 : decode cX3_bid 157 = .ok (.iastore, 1) := dk_79 (dk_at dksX3_bid_6 17 rfl rfl)
theorem dX3_bid_158 : decode cX3_bid 158 = .ok (.aload_n 0, 1) := dk_42 (dk_at dksX3_bid_6 18 rfl rfl)
theorem dX3_bid_159 : decode cX3_bid 159 = .ok (.getfield 34, 3) := dk_180 0 34 (dk_at dksX3_bid_6 19 rfl rfl)
theorem dX3_bid_162 : decode cX3_bid 162 = .ok (.aload_n 0, 1) := dk_42 (dk_at dksX3_bid_6 22 rfl rfl)
theorem dX3_bid_163 : decode cX3_bid 163 = .ok (.getfield 201, 3) := dk_180 0 201 (dk_at dksX3_bid_7 0 rfl rfl)
theorem dX3_bid_166 : decode cX3_bid 166 = .ok (.iload 5, 2) := dk_21 5 (dk_at dksX3_bid_7 3 rfl rfl)
theorem dX3_bid_168 : decode cX3_bid 168 = .ok (.iastore, 1) := dk_79 (dk_at dksX3_bid_7 5 rfl rfl)
theorem dX3_bid_169 : decode cX3_bid 169 = .ok (.aload_n 0, 1) := dk_42 (dk_at dksX3_bid_7 6 rfl rfl)
theorem dX3_bid_170 : decode cX3_bid 170 = .ok (.getfield 37, 3) := dk_180 0 37 (dk_at dksX3_bid_7 7 rfl rfl)
theorem dX3_bid_173 : decode cX3_bid 173 = .ok (.aload_n 0, 1) := dk_42 (dk_at dksX3_bid_7 10 rfl rfl)
theorem dX3_bid_174 : decode cX3_bid 174 = .ok (.getfield 201, 3) := dk_180 0 201 (dk_at dksX3_bid_7 11 rfl rfl)
theorem dX3_bid_177 : decode cX3_bid 177 = .ok (.iload 6, 2) := dk_21 6 (dk_at dksX3_bid_7 14 rfl rfl)
theorem dX3_bid_179 : decode cX3_bid 179 = .ok (.iastore, 1) := dk_79 (dk_at dksX3_bid_7 16 rfl rfl)
theorem dX3_bid_180 : decode cX3_bid 180 = .ok (.aload_n 0, 1) := dk_42 (dk_at dksX3_bid_7 17 rfl rfl)
theorem dX3_bid_181 : decode cX3_bid 181 = .ok (.dup, 1) := dk_89 (dk_at dksX3_bid_7 18 rfl rfl)
theorem dX3_bid_182 : decode cX3_bid 182 = .ok (.getfield 201, 3) := dk_180 0 201 (dk_at dksX3_bid_7 19 rfl rfl)
theorem dX3_bid_185 : decode cX3_bid 185 = .ok (.iconst 1, 1) := dk_4 (dk_at dksX3_bid_7 22 rfl rfl)
theorem dX3_bid_186 : decode cX3_bid 186 = .ok (.iadd, 1) := dk_96 (dk_at dksX3_bid_7 23 rfl rfl)
theorem dX3_bid_187 : decode cX3_bid 187 = .ok (.putfield 201, 3) := dk_181 0 201 (dk_at dksX3_bid_8 0 rfl rfl)
theorem dX3_bid_190 : decode cX3_bid 190 = .ok (.aload_n 0, 1) := dk_42 (dk_at dksX3_bid_8 3 rfl rfl)
theorem dX3_bid_191 : decode cX3_bid 191 = .ok (.getfield 201, 3) := dk_180 0 201 (dk_at dksX3_bid_8 4 rfl rfl)
theorem dX3_bid_194 : decode cX3_bid 194 = .ok (.iconst 1, 1) := dk_4 (dk_at dksX3_bid_8 7 rfl rfl)
theorem dX3_bid_195 : decode cX3_bid 195 = .ok (.isub, 1) := dk_100 (dk_at dksX3_bid_8 8 rfl rfl)
theorem dX3_bid_196 : decode cX3_bid 196 = .ok (.ireturn, 1) := dk_172 (dk_at dksX3_bid_8 9 rfl rfl)
abbrev cX3_isZone : ByteArray := prog_15_method_5_code
def yX3_isZone : MethodName := ⟨RX3, "isZone", "(I)Z"⟩
def dkwX3_isZone_0 : List UInt8 := [26, 3, 5, 184, 0, 179, 172]
abbrev dktX3_isZone_0 : List UInt8 := dkwX3_isZone_0 ++ []
theorem dksX3_isZone_0 : cX3_isZone.data.toList.drop 0 = dktX3_isZone_0 := by decide +kernel
theorem dX3_isZone_0 : decode cX3_isZone 0 = .ok (.iload_n 0, 1) := dk_26 (dk_at dksX3_isZone_0 0 rfl rfl)
theorem dX3_isZone_1 : decode cX3_isZone 1 = .ok (.iconst 0, 1) := dk_3 (dk_at dksX3_isZone_0 1 rfl rfl)
theorem dX3_isZone_2 : decode cX3_isZone 2 = .ok (.iconst 2, 1) := dk_5 (dk_at dksX3_isZone_0 2 rfl rfl)
theorem dX3_isZone_3 : decode cX3_isZone 3 = .ok (.invokestatic 179, 3) := dk_184 0 179 (dk_at dksX3_isZone_0 3 rfl rfl)
theorem dX3_isZone_6 : decode cX3_isZone 6 = .ok (.ireturn, 1) := dk_172 (dk_at dksX3_isZone_0 6 rfl rfl)
abbrev cX3_isHour : ByteArray := prog_15_method_6_code
def yX3_isHour : MethodName := ⟨RX3, "isHour", "(I)Z"⟩
def dkwX3_isHour_0 : List UInt8 := [26, 3, 6, 184, 0, 179, 172]
abbrev dktX3_isHour_0 : List UInt8 := dkwX3_isHour_0 ++ []
theorem dksX3_isHour_0 : cX3_isHour.data.toList.drop 0 = dktX3_isHour_0 := by decide +kernel
theorem dX3_isHour_0 : decode cX3_isHour 0 = .ok (.iload_n 0, 1) := dk_26 (dk_at dksX3_isHour_0 0 rfl rfl)
theorem dX3_isHour_1 : decode cX3_isHour 1 = .ok (.iconst 0, 1) := dk_3 (dk_at dksX3_isHour_0 1 rfl rfl)
theorem dX3_isHour_2 : decode cX3_isHour 2 = .ok (.iconst 3, 1) := dk_6 (dk_at dksX3_isHour_0 2 rfl rfl)
theorem dX3_isHour_3 : decode cX3_isHour 3 = .ok (.invokestatic 179, 3) := dk_184 0 179 (dk_at dksX3_isHour_0 3 rfl rfl)
theorem dX3_isHour_6 : decode cX3_isHour 6 = .ok (.ireturn, 1) := dk_172 (dk_at dksX3_isHour_0 6 rfl rfl)
abbrev cX3_block : ByteArray := prog_15_method_11_code
def yX3_block : MethodName := ⟨RX3, "block", "(IIIZII)I"⟩
def dkwX3_block_9 : List UInt8 := [4, 96, 181, 0, 204, 42, 180, 0, 204, 4, 100, 172]
abbrev dktX3_block_9 : List UInt8 := dkwX3_block_9 ++ []
def dkwX3_block_8 : List UInt8 := [180, 0, 64, 42, 180, 0, 204, 3, 79, 42, 180, 0, 67, 42, 180, 0, 204, 3, 79, 42, 89, 180, 0, 204]
abbrev dktX3_block_8 : List UInt8 := dkwX3_block_8 ++ dktX3_block_9
def dkwX3_block_7 : List UInt8 := [180, 0, 58, 42, 180, 0, 204, 21, 5, 79, 42, 180, 0, 61, 42, 180, 0, 204, 21, 6, 79, 42]
abbrev dktX3_block_7 : List UInt8 := dkwX3_block_7 ++ dktX3_block_8
def dkwX3_block_6 : List UInt8 := [29, 79, 42, 180, 0, 55, 42, 180, 0, 204, 21, 4, 153, 0, 7, 4, 167, 0, 4, 3, 79, 42]
abbrev dktX3_block_6 : List UInt8 := dkwX3_block_6 ++ dktX3_block_7
def dkwX3_block_5 : List UInt8 := [42, 180, 0, 204, 27, 79, 42, 180, 0, 49, 42, 180, 0, 204, 28, 79, 42, 180, 0, 52, 42, 180, 0, 204]
abbrev dktX3_block_5 : List UInt8 := dkwX3_block_5 ++ dktX3_block_6
def dkwX3_block_4 : List UInt8 := [160, 0, 7, 6, 167, 0, 4, 3, 181, 0, 175, 42, 180, 0, 175, 158, 0, 5, 3, 172, 42, 180, 0, 46]
abbrev dktX3_block_4 : List UInt8 := dkwX3_block_4 ++ dktX3_block_5
def dkwX3_block_3 : List UInt8 := [180, 0, 19, 27, 46, 4, 159, 0, 19, 42, 180, 0, 192, 4, 159, 0, 11, 42, 180, 0, 204, 8]
abbrev dktX3_block_3 : List UInt8 := dkwX3_block_3 ++ dktX3_block_4
def dkwX3_block_2 : List UInt8 := [184, 0, 179, 154, 0, 7, 5, 167, 0, 4, 3, 181, 0, 175, 42, 180, 0, 175, 154, 0, 38, 42, 42]
abbrev dktX3_block_2 : List UInt8 := dkwX3_block_2 ++ dktX3_block_3
def dkwX3_block_1 : List UInt8 := [184, 0, 179, 153, 0, 26, 21, 5, 3, 17, 0, 200, 184, 0, 179, 153, 0, 14, 21, 6, 4, 16, 10]
abbrev dktX3_block_1 : List UInt8 := dkwX3_block_1 ++ dktX3_block_2
def dkwX3_block_0 : List UInt8 := [42, 27, 184, 0, 186, 153, 0, 10, 28, 184, 0, 195, 154, 0, 7, 4, 167, 0, 41, 29, 4, 16, 15]
abbrev dktX3_block_0 : List UInt8 := dkwX3_block_0 ++ dktX3_block_1
theorem dksX3_block_0 : cX3_block.data.toList.drop 0 = dktX3_block_0 := by decide +kernel
theorem dksX3_block_1 : cX3_block.data.toList.drop 23 = dktX3_block_1 := dk_seg dksX3_block_0 23 rfl rfl
theorem dksX3_block_2 : cX3_block.data.toList.drop 46 = dktX3_block_2 := dk_seg dksX3_block_1 23 rfl rfl
theorem dksX3_block_3 : cX3_block.data.toList.drop 69 = dktX3_block_3 := dk_seg dksX3_block_2 23 rfl rfl
theorem dksX3_block_4 : cX3_block.data.toList.drop 91 = dktX3_block_4 := dk_seg dksX3_block_3 22 rfl rfl
theorem dksX3_block_5 : cX3_block.data.toList.drop 115 = dktX3_block_5 := dk_seg dksX3_block_4 24 rfl rfl
theorem dksX3_block_6 : cX3_block.data.toList.drop 139 = dktX3_block_6 := dk_seg dksX3_block_5 24 rfl rfl
theorem dksX3_block_7 : cX3_block.data.toList.drop 161 = dktX3_block_7 := dk_seg dksX3_block_6 22 rfl rfl
theorem dksX3_block_8 : cX3_block.data.toList.drop 183 = dktX3_block_8 := dk_seg dksX3_block_7 22 rfl rfl
theorem dksX3_block_9 : cX3_block.data.toList.drop 207 = dktX3_block_9 := dk_seg dksX3_block_8 24 rfl rfl
theorem dX3_block_0 : decode cX3_block 0 = .ok (.aload_n 0, 1) := dk_42 (dk_at dksX3_block_0 0 rfl rfl)
theorem dX3_block_1 : decode cX3_block 1 = .ok (.iload_n 1, 1) := dk_27 (dk_at dksX3_block_0 1 rfl rfl)
theorem dX3_block_2 : decode cX3_block 2 = .ok (.invokestatic 186, 3) := dk_184 0 186 (dk_at dksX3_block_0 2 rfl rfl)
theorem dX3_block_5 : decode cX3_block 5 = .ok (.ifCond .eq 10, 3) := dk_153 0 10 (dk_at dksX3_block_0 5 rfl rfl)
theorem dX3_block_8 : decode cX3_block 8 = .ok (.iload_n 2, 1) := dk_28 (dk_at dksX3_block_0 8 rfl rfl)
theorem dX3_block_9 : decode cX3_block 9 = .ok (.invokestatic 195, 3) := dk_184 0 195 (dk_at dksX3_block_0 9 rfl rfl)
theorem dX3_block_12 : decode cX3_block 12 = .ok (.ifCond .ne 7, 3) := dk_154 0 7 (dk_at dksX3_block_0 12 rfl rfl)
theorem dX3_block_15 : decode cX3_block 15 = .ok (.iconst 1, 1) := dk_4 (dk_at dksX3_block_0 15 rfl rfl)
theorem dX3_block_16 : decode cX3_block 16 = .ok (.goto 41, 3) := dk_167 0 41 (dk_at dksX3_block_0 16 rfl rfl)
theorem dX3_block_19 : decode cX3_block 19 = .ok (.iload_n 3, 1) := dk_29 (dk_at dksX3_block_0 19 rfl rfl)
theorem dX3_block_20 : decode cX3_block 20 = .ok (.iconst 1, 1) := dk_4 (dk_at dksX3_block_0 20 rfl rfl)
theorem dX3_block_21 : decode cX3_block 21 = .ok (.bipush 15, 2) := dk_16 15 (dk_at dksX3_block_0 21 rfl rfl)
theorem dX3_block_23 : decode cX3_block 23 = .ok (.invokestatic 179, 3) := dk_184 0 179 (dk_at dksX3_block_1 0 rfl rfl)
theorem dX3_block_26 : decode cX3_block 26 = .ok (.ifCond .eq 26, 3) := dk_153 0 26 (dk_at dksX3_block_1 3 rfl rfl)
theorem dX3_block_29 : decode cX3_block 29 = .ok (.iload 5, 2) := dk_21 5 (dk_at dksX3_block_1 6 rfl rfl)
theorem dX3_block_31 : decode cX3_block 31 = .ok (.iconst 0, 1) := dk_3 (dk_at dksX3_block_1 8 rfl rfl)
theorem dX3_block_32 : decode cX3_block 32 = .ok (.sipush 200, 3) := dk_17 0 200 (dk_at dksX3_block_1 9 rfl rfl)
theorem dX3_block_35 : decode cX3_block 35 = .ok (.invokestatic 179, 3) := dk_184 0 179 (dk_at dksX3_block_1 12 rfl rfl)
theorem dX3_block_38 : decode cX3_block 38 = .ok (.ifCond .eq 14, 3) := dk_153 0 14 (dk_at dksX3_block_1 15 rfl rfl)
theorem dX3_block_41 : decode cX3_block 41 = .ok (.iload 6, 2) := dk_21 6 (dk_at dksX3_block_1 18 rfl rfl)
theorem dX3_block_43 : decode cX3_block 43 = .ok (.iconst 1, 1) := dk_4 (dk_at dksX3_block_1 20 rfl rfl)
theorem dX3_block_44 : decode cX3_block 44 = .ok (.bipush 10, 2) := dk_16 10 (dk_at dksX3_block_1 21 rfl rfl)
theorem dX3_block_46 : decode cX3_block 46 = .ok (.invokestatic 179, 3) := dk_184 0 179 (dk_at dksX3_block_2 0 rfl rfl)
theorem dX3_block_49 : decode cX3_block 49 = .ok (.ifCond .ne 7, 3) := dk_154 0 7 (dk_at dksX3_block_2 3 rfl rfl)
theorem dX3_block_52 : decode cX3_block 52 = .ok (.iconst 2, 1) := dk_5 (dk_at dksX3_block_2 6 rfl rfl)
theorem dX3_block_53 : decode cX3_block 53 = .ok (.goto 4, 3) := dk_167 0 4 (dk_at dksX3_block_2 7 rfl rfl)
theorem dX3_block_56 : decode cX3_block 56 = .ok (.iconst 0, 1) := dk_3 (dk_at dksX3_block_2 10 rfl rfl)
theorem dX3_block_57 : decode cX3_block 57 = .ok (.putfield 175, 3) := dk_181 0 175 (dk_at dksX3_block_2 11 rfl rfl)
theorem dX3_block_60 : decode cX3_block 60 = .ok (.aload_n 0, 1) := dk_42 (dk_at dksX3_block_2 14 rfl rfl)
theorem dX3_block_61 : decode cX3_block 61 = .ok (.getfield 175, 3) := dk_180 0 175 (dk_at dksX3_block_2 15 rfl rfl)
theorem dX3_block_64 : decode cX3_block 64 = .ok (.ifCond .ne 38, 3) := dk_154 0 38 (dk_at dksX3_block_2 18 rfl rfl)
theorem dX3_block_67 : decode cX3_block 67 = .ok (.aload_n 0, 1) := dk_42 (dk_at dksX3_block_2 21 rfl rfl)
theorem dX3_block_68 : decode cX3_block 68 = .ok (.aload_n 0, 1) := dk_42 (dk_at dksX3_block_2 22 rfl rfl)
theorem dX3_block_69 : decode cX3_block 69 = .ok (.getfield 19, 3) := dk_180 0 19 (dk_at dksX3_block_3 0 rfl rfl)
theorem dX3_block_72 : decode cX3_block 72 = .ok (.iload_n 1, 1) := dk_27 (dk_at dksX3_block_3 3 rfl rfl)
theorem dX3_block_73 : decode cX3_block 73 = .ok (.iaload, 1) := dk_46 (dk_at dksX3_block_3 4 rfl rfl)
theorem dX3_block_74 : decode cX3_block 74 = .ok (.iconst 1, 1) := dk_4 (dk_at dksX3_block_3 5 rfl rfl)
theorem dX3_block_75 : decode cX3_block 75 = .ok (.if_icmp .eq 19, 3) := dk_159 0 19 (dk_at dksX3_block_3 6 rfl rfl)
theorem dX3_block_78 : decode cX3_block 78 = .ok (.aload_n 0, 1) := dk_42 (dk_at dksX3_block_3 9 rfl rfl)
theorem dX3_block_79 : decode cX3_block 79 = .ok (.getfield 192, 3) := dk_180 0 192 (dk_at dksX3_block_3 10 rfl rfl)
theorem dX3_block_82 : decode cX3_block 82 = .ok (.iconst 1, 1) := dk_4 (dk_at dksX3_block_3 13 rfl rfl)
theorem dX3_block_83 : decode cX3_block 83 = .ok (.if_icmp .eq 11, 3) := dk_159 0 11 (dk_at dksX3_block_3 14 rfl rfl)
theorem dX3_block_86 : decode cX3_block 86 = .ok (.aload_n 0, 1) := dk_42 (dk_at dksX3_block_3 17 rfl rfl)
theorem dX3_block_87 : decode cX3_block 87 = .ok (.getfield 204, 3) := dk_180 0 204 (dk_at dksX3_block_3 18 rfl rfl)
theorem dX3_block_90 : decode cX3_block 90 = .ok (.iconst 5, 1) := dk_8 (dk_at dksX3_block_3 21 rfl rfl)
theorem dX3_block_91 : decode cX3_block 91 = .ok (.if_icmp .ne 7, 3) := dk_160 0 7 (dk_at dksX3_block_4 0 rfl rfl)
theorem dX3_block_94 : decode cX3_block 94 = .ok (.iconst 3, 1) := dk_6 (dk_at dksX3_block_4 3 rfl rfl)
theorem dX3_block_95 : decode cX3_block 95 = .ok (.goto 4, 3) := dk_167 0 4 (dk_at dksX3_block_4 4 rfl rfl)
theorem dX3_block_98 : decode cX3_block 98 = .ok (.iconst 0, 1) := dk_3 (dk_at dksX3_block_4 7 rfl rfl)
theorem dX3_block_99 : decode cX3_block 99 = .ok (.putfield 175, 3) := dk_181 0 175 (dk_at dksX3_block_4 8 rfl rfl)
theorem dX3_block_102 : decode cX3_block 102 = .ok (.aload_n 0, 1) := dk_42 (dk_at dksX3_block_4 11 rfl rfl)
theorem dX3_block_103 : decode cX3_block 103 = .ok (.getfield 175, 3) := dk_180 0 175 (dk_at dksX3_block_4 12 rfl rfl)
theorem dX3_block_106 : decode cX3_block 106 = .ok (.ifCond .le 5, 3) := dk_158 0 5 (dk_at dksX3_block_4 15 rfl rfl)
theorem dX3_block_109 : decode cX3_block 109 = .ok (.iconst 0, 1) := dk_3 (dk_at dksX3_block_4 18 rfl rfl)
theorem dX3_block_110 : decode cX3_block 110 = .ok (.ireturn, 1) := dk_172 (dk_at dksX3_block_4 19 rfl rfl)
theorem dX3_block_111 : decode cX3_block 111 = .ok (.aload_n 0, 1) := dk_42 (dk_at dksX3_block_4 20 rfl rfl)
theorem dX3_block_112 : decode cX3_block 112 = .ok (.getfield 46, 3) := dk_180 0 46 (dk_at dksX3_block_4 21 rfl rfl)
theorem dX3_block_115 : decode cX3_block 115 = .ok (.aload_n 0, 1) := dk_42 (dk_at dksX3_block_5 0 rfl rfl)
theorem dX3_block_116 : decode cX3_block 116 = .ok (.getfield 204, 3) := dk_180 0 204 (dk_at dksX3_block_5 1 rfl rfl)
theorem dX3_block_119 : decode cX3_block 119 = .ok (.iload_n 1, 1) := dk_27 (dk_at dksX3_block_5 4 rfl rfl)
theorem dX3_block_120 : decode cX3_block 120 = .ok (.iastore, 1) := dk_79 (dk_at dksX3_block_5 5 rfl rfl)
theorem dX3_block_121 : decode cX3_block 121 = .ok (.aload_n 0, 1) := dk_42 (dk_at dksX3_block_5 6 rfl rfl)
theorem dX3_block_122 : decode cX3_block 122 = .ok (.getfield 49, 3) := dk_180 0 49 (dk_at dksX3_block_5 7 rfl rfl)
theorem dX3_block_125 : decode cX3_block 125 = .ok (.aload_n 0, 1) := dk_42 (dk_at dksX3_block_5 10 rfl rfl)
theorem dX3_block_126 : decode cX3_block 126 = .ok (.getfield 204, 3) := dk_180 0 204 (dk_at dksX3_block_5 11 rfl rfl)
theorem dX3_block_129 : decode cX3_block 129 = .ok (.iload_n 2, 1) := dk_28 (dk_at dksX3_block_5 14 rfl rfl)
theorem dX3_block_130 : decode cX3_block 130 = .ok (.iastore, 1) := dk_79 (dk_at dksX3_block_5 15 rfl rfl)
theorem dX3_block_131 : decode cX3_block 131 = .ok (.aload_n 0, 1) := dk_42 (dk_at dksX3_block_5 16 rfl rfl)
theorem dX3_block_132 : decode cX3_block 132 = .ok (.getfield 52, 3) := dk_180 0 52 (dk_at dksX3_block_5 17 rfl rfl)
theorem dX3_block_135 : decode cX3_block 135 = .ok (.aload_n 0, 1) := dk_42 (dk_at dksX3_block_5 20 rfl rfl)
theorem dX3_block_136 : decode cX3_block 136 = .ok (.getfield 204, 3) := dk_180 0 204 (dk_at dksX3_block_5 21 rfl rfl)
theorem dX3_block_139 : decode cX3_block 139 = .ok (.iload_n 3, 1) := dk_29 (dk_at dksX3_block_6 0 rfl rfl)
theorem dX3_block_140 : decode cX3_block 140 = .ok (.iastore, 1) := dk_79 (dk_at dksX3_block_6 1 rfl rfl)
theorem dX3_block_141 : decode cX3_block 141 = .ok (.aload_n 0, 1) := dk_42 (dk_at dksX3_block_6 2 rfl rfl)
theorem dX3_block_142 : decode cX3_block 142 = .ok (.getfield 55, 3) := dk_180 0 55 (dk_at dksX3_block_6 3 rfl rfl)
theorem dX3_block_145 : decode cX3_block 145 = .ok (.aload_n 0, 1) := dk_42 (dk_at dksX3_block_6 6 rfl rfl)
theorem dX3_block_146 : decode cX3_block 146 = .ok (.getfield 204, 3) := dk_180 0 204 (dk_at dksX3_block_6 7 rfl rfl)
theorem dX3_block_149 : decode cX3_block 149 = .ok (.iload 4, 2) := dk_21 4 (dk_at dksX3_block_6 10 rfl rfl)
theorem dX3_block_151 : decode cX3_block 151 = .ok (.ifCond .eq 7, 3) := dk_153 0 7 (dk_at dksX3_block_6 12 rfl rfl)
theorem dX3_block_154 : decode cX3_block 154 = .ok (.iconst 1, 1) := dk_4 (dk_at dksX3_block_6 15 rfl rfl)
theorem dX3_block_155 : decode cX3_block 155 = .ok (.goto 4, 3) := dk_167 0 4 (dk_at dksX3_block_6 16 rfl rfl)
theorem dX3_block_158 : decode cX3_block 158 = .ok (.iconst 0, 1) := dk_3 (dk_at dksX3_block_6 19 rfl rfl)
theorem dX3_block_159 : decode cX3_block 159 = .ok (.iastore, 1) := dk_79 (dk_at dksX3_block_6 20 rfl rfl)
theorem dX3_block_160 : decode cX3_block 160 = .ok (.aload_n 0, 1) := dk_42 (dk_at dksX3_block_6 21 rfl rfl)
theorem dX3_block_161 : decode cX3_block 161 = .ok (.getfield 58, 3) := dk_180 0 58 (dk_at dksX3_block_7 0 rfl rfl)
theorem dX3_block_164 : decode cX3_block 164 = .ok (.aload_n 0, 1) := dk_42 (dk_at dksX3_block_7 3 rfl rfl)
theorem dX3_block_165 : decode cX3_block 165 = .ok (.getfield 204, 3) := dk_180 0 204 (dk_at dksX3_block_7 4 rfl rfl)
theorem dX3_block_168 : decode cX3_block 168 = .ok (.iload 5, 2) := dk_21 5 (dk_at dksX3_block_7 7 rfl rfl)
theorem dX3_block_170 : decode cX3_block 170 = .ok (.iastore, 1) := dk_79 (dk_at dksX3_block_7 9 rfl rfl)
theorem dX3_block_171 : decode cX3_block 171 = .ok (.aload_n 0, 1) := dk_42 (dk_at dksX3_block_7 10 rfl rfl)
theorem dX3_block_172 : decode cX3_block 172 = .ok (.getfield 61, 3) := dk_180 0 61 (dk_at dksX3_block_7 11 rfl rfl)
theorem dX3_block_175 : decode cX3_block 175 = .ok (.aload_n 0, 1) := dk_42 (dk_at dksX3_block_7 14 rfl rfl)
theorem dX3_block_176 : decode cX3_block 176 = .ok (.getfield 204, 3) := dk_180 0 204 (dk_at dksX3_block_7 15 rfl rfl)
theorem dX3_block_179 : decode cX3_block 179 = .ok (.iload 6, 2) := dk_21 6 (dk_at dksX3_block_7 18 rfl rfl)
theorem dX3_block_181 : decode cX3_block 181 = .ok (.iastore, 1) := dk_79 (dk_at dksX3_block_7 20 rfl rfl)
theorem dX3_block_182 : decode cX3_block 182 = .ok (.aload_n 0, 1) := dk_42 (dk_at dksX3_block_7 21 rfl rfl)
theorem dX3_block_183 : decode cX3_block 183 = .ok (.getfield 64, 3) := dk_180 0 64 (dk_at dksX3_block_8 0 rfl rfl)
theorem dX3_block_186 : decode cX3_block 186 = .ok (.aload_n 0, 1) := dk_42 (dk_at dksX3_block_8 3 rfl rfl)
theorem dX3_block_187 : decode cX3_block 187 = .ok (.getfield 204, 3) := dk_180 0 204 (dk_at dksX3_block_8 4 rfl rfl)
theorem dX3_block_190 : decode cX3_block 190 = .ok (.iconst 0, 1) := dk_3 (dk_at dksX3_block_8 7 rfl rfl)
theorem dX3_block_191 : decode cX3_block 191 = .ok (.iastore, 1) := dk_79 (dk_at dksX3_block_8 8 rfl rfl)
theorem dX3_block_192 : decode cX3_block 192 = .ok (.aload_n 0, 1) := dk_42 (dk_at dksX3_block_8 9 rfl rfl)
theorem dX3_block_193 : decode cX3_block 193 = .ok (.getfield 67, 3) := dk_180 0 67 (dk_at dksX3_block_8 10 rfl rfl)
theorem dX3_block_196 : decode cX3_block 196 = .ok (.aload_n 0, 1) := dk_42 (dk_at dksX3_block_8 13 rfl rfl)
theorem dX3_block_197 : decode cX3_block 197 = .ok (.getfield 204, 3) := dk_180 0 204 (dk_at dksX3_block_8 14 rfl rfl)
theorem dX3_block_200 : decode cX3_block 200 = .ok (.iconst 0, 1) := dk_3 (dk_at dksX3_block_8 17 rfl rfl)
theorem dX3_block_201 : decode cX3_block 201 = .ok (.iastore, 1) := dk_79 (dk_at dksX3_block_8 18 rfl rfl)
theorem dX3_block_202 : decode cX3_block 202 = .ok (.aload_n 0, 1) := dk_42 (dk_at dksX3_block_8 19 rfl rfl)
theorem dX3_block_203 : decode cX3_block 203 = .ok (.dup, 1) := dk_89 (dk_at dksX3_block_8 20 rfl rfl)
theorem dX3_block_204 : decode cX3_block 204 = .ok (.getfield 204, 3) := dk_180 0 204 (dk_at dksX3_block_8 21 rfl rfl)
theorem dX3_block_207 : decode cX3_block 207 = .ok (.iconst 1, 1) := dk_4 (dk_at dksX3_block_9 0 rfl rfl)
theorem dX3_block_208 : decode cX3_block 208 = .ok (.iadd, 1) := dk_96 (dk_at dksX3_block_9 1 rfl rfl)
theorem dX3_block_209 : decode cX3_block 209 = .ok (.putfield 204, 3) := dk_181 0 204 (dk_at dksX3_block_9 2 rfl rfl)
theorem dX3_block_212 : decode cX3_block 212 = .ok (.aload_n 0, 1) := dk_42 (dk_at dksX3_block_9 5 rfl rfl)
theorem dX3_block_213 : decode cX3_block 213 = .ok (.getfield 204, 3) := dk_180 0 204 (dk_at dksX3_block_9 6 rfl rfl)
theorem dX3_block_216 : decode cX3_block 216 = .ok (.iconst 1, 1) := dk_4 (dk_at dksX3_block_9 9 rfl rfl)
theorem dX3_block_217 : decode cX3_block 217 = .ok (.isub, 1) := dk_100 (dk_at dksX3_block_9 10 rfl rfl)
theorem dX3_block_218 : decode cX3_block 218 = .ok (.ireturn, 1) := dk_172 (dk_at dksX3_block_9 11 rfl rfl)
abbrev cX3_link : ByteArray := prog_15_method_12_code
def yX3_link : MethodName := ⟨RX3, "link", "(III)V"⟩
def dkwX3_link_3 : List UInt8 := [4, 96, 79, 42, 180, 0, 67, 27, 29, 4, 96, 79, 177]
abbrev dktX3_link_3 : List UInt8 := dkwX3_link_3 ++ []
def dkwX3_link_2 : List UInt8 := [160, 0, 7, 6, 167, 0, 4, 3, 181, 0, 175, 42, 180, 0, 175, 154, 0, 21, 42, 180, 0, 64, 27, 28]
abbrev dktX3_link_2 : List UInt8 := dkwX3_link_2 ++ dktX3_link_3
def dkwX3_link_1 : List UInt8 := [184, 0, 179, 153, 0, 12, 29, 2, 5, 184, 0, 179, 154, 0, 7, 5, 167, 0, 16, 42, 180, 0, 192, 4]
abbrev dktX3_link_1 : List UInt8 := dkwX3_link_1 ++ dktX3_link_2
def dkwX3_link_0 : List UInt8 := [42, 27, 3, 42, 180, 0, 204, 4, 100, 184, 0, 179, 154, 0, 7, 4, 167, 0, 40, 28, 2, 27, 4, 100]
abbrev dktX3_link_0 : List UInt8 := dkwX3_link_0 ++ dktX3_link_1
theorem dksX3_link_0 : cX3_link.data.toList.drop 0 = dktX3_link_0 := by decide +kernel
theorem dksX3_link_1 : cX3_link.data.toList.drop 24 = dktX3_link_1 := dk_seg dksX3_link_0 24 rfl rfl
theorem dksX3_link_2 : cX3_link.data.toList.drop 48 = dktX3_link_2 := dk_seg dksX3_link_1 24 rfl rfl
theorem dksX3_link_3 : cX3_link.data.toList.drop 72 = dktX3_link_3 := dk_seg dksX3_link_2 24 rfl rfl
theorem dX3_link_0 : decode cX3_link 0 = .ok (.aload_n 0, 1) := dk_42 (dk_at dksX3_link_0 0 rfl rfl)
theorem dX3_link_1 : decode cX3_link 1 = .ok (.iload_n 1, 1) := dk_27 (dk_at dksX3_link_0 1 rfl rfl)
theorem dX3_link_2 : decode cX3_link 2 = .ok (.iconst 0, 1) := dk_3 (dk_at dksX3_link_0 2 rfl rfl)
theorem dX3_link_3 : decode cX3_link 3 = .ok (.aload_n 0, 1) := dk_42 (dk_at dksX3_link_0 3 rfl rfl)
theorem dX3_link_4 : decode cX3_link 4 = .ok (.getfield 204, 3) := dk_180 0 204 (dk_at dksX3_link_0 4 rfl rfl)
theorem dX3_link_7 : decode cX3_link 7 = .ok (.iconst 1, 1) := dk_4 (dk_at dksX3_link_0 7 rfl rfl)
theorem dX3_link_8 : decode cX3_link 8 = .ok (.isub, 1) := dk_100 (dk_at dksX3_link_0 8 rfl rfl)
theorem dX3_link_9 : decode cX3_link 9 = .ok (.invokestatic 179, 3) := dk_184 0 179 (dk_at dksX3_link_0 9 rfl rfl)
theorem dX3_link_12 : decode cX3_link 12 = .ok (.ifCond .ne 7, 3) := dk_154 0 7 (dk_at dksX3_link_0 12 rfl rfl)
theorem dX3_link_15 : decode cX3_link 15 = .ok (.iconst 1, 1) := dk_4 (dk_at dksX3_link_0 15 rfl rfl)
theorem dX3_link_16 : decode cX3_link 16 = .ok (.goto 40, 3) := dk_167 0 40 (dk_at dksX3_link_0 16 rfl rfl)
theorem dX3_link_19 : decode cX3_link 19 = .ok (.iload_n 2, 1) := dk_28 (dk_at dksX3_link_0 19 rfl rfl)
theorem dX3_link_20 : decode cX3_link 20 = .ok (.iconst (-1), 1) := dk_2 (dk_at dksX3_link_0 20 rfl rfl)
theorem dX3_link_21 : decode cX3_link 21 = .ok (.iload_n 1, 1) := dk_27 (dk_at dksX3_link_0 21 rfl rfl)
theorem dX3_link_22 : decode cX3_link 22 = .ok (.iconst 1, 1) := dk_4 (dk_at dksX3_link_0 22 rfl rfl)
theorem dX3_link_23 : decode cX3_link 23 = .ok (.isub, 1) := dk_100 (dk_at dksX3_link_0 23 rfl rfl)
theorem dX3_link_24 : decode cX3_link 24 = .ok (.invokestatic 179, 3) := dk_184 0 179 (dk_at dksX3_link_1 0 rfl rfl)
theorem dX3_link_27 : decode cX3_link 27 = .ok (.ifCond .eq 12, 3) := dk_153 0 12 (dk_at dksX3_link_1 3 rfl rfl)
theorem dX3_link_30 : decode cX3_link 30 = .ok (.iload_n 3, 1) := dk_29 (dk_at dksX3_link_1 6 rfl rfl)
theorem dX3_link_31 : decode cX3_link 31 = .ok (.iconst (-1), 1) := dk_2 (dk_at dksX3_link_1 7 rfl rfl)
theorem dX3_link_32 : decode cX3_link 32 = .ok (.iconst 2, 1) := dk_5 (dk_at dksX3_link_1 8 rfl rfl)
theorem dX3_link_33 : decode cX3_link 33 = .ok (.invokestatic 179, 3) := dk_184 0 179 (dk_at dksX3_link_1 9 rfl rfl)
theorem dX3_link_36 : decode cX3_link 36 = .ok (.ifCond .ne 7, 3) := dk_154 0 7 (dk_at dksX3_link_1 12 rfl rfl)
theorem dX3_link_39 : decode cX3_link 39 = .ok (.iconst 2, 1) := dk_5 (dk_at dksX3_link_1 15 rfl rfl)
theorem dX3_link_40 : decode cX3_link 40 = .ok (.goto 16, 3) := dk_167 0 16 (dk_at dksX3_link_1 16 rfl rfl)
theorem dX3_link_43 : decode cX3_link 43 = .ok (.aload_n 0, 1) := dk_42 (dk_at dksX3_link_1 19 rfl rfl)
theorem dX3_link_44 : decode cX3_link 44 = .ok (.getfield 192, 3) := dk_180 0 192 (dk_at dksX3_link_1 20 rfl rfl)
theorem dX3_link_47 : decode cX3_link 47 = .ok (.iconst 1, 1) := dk_4 (dk_at dksX3_link_1 23 rfl rfl)
theorem dX3_link_48 : decode cX3_link 48 = .ok (.if_icmp .ne 7, 3) := dk_160 0 7 (dk_at dksX3_link_2 0 rfl rfl)
theorem dX3_link_51 : decode cX3_link 51 = .ok (.iconst 3, 1) := dk_6 (dk_at dksX3_link_2 3 rfl rfl)
theorem dX3_link_52 : decode cX3_link 52 = .ok (.goto 4, 3) := dk_167 0 4 (dk_at dksX3_link_2 4 rfl rfl)
theorem dX3_link_55 : decode cX3_link 55 = .ok (.iconst 0, 1) := dk_3 (dk_at dksX3_link_2 7 rfl rfl)
theorem dX3_link_56 : decode cX3_link 56 = .ok (.putfield 175, 3) := dk_181 0 175 (dk_at dksX3_link_2 8 rfl rfl)
theorem dX3_link_59 : decode cX3_link 59 = .ok (.aload_n 0, 1) := dk_42 (dk_at dksX3_link_2 11 rfl rfl)
theorem dX3_link_60 : decode cX3_link 60 = .ok (.getfield 175, 3) := dk_180 0 175 (dk_at dksX3_link_2 12 rfl rfl)
theorem dX3_link_63 : decode cX3_link 63 = .ok (.ifCond .ne 21, 3) := dk_154 0 21 (dk_at dksX3_link_2 15 rfl rfl)
theorem dX3_link_66 : decode cX3_link 66 = .ok (.aload_n 0, 1) := dk_42 (dk_at dksX3_link_2 18 rfl rfl)
theorem dX3_link_67 : decode cX3_link 67 = .ok (.getfield 64, 3) := dk_180 0 64 (dk_at dksX3_link_2 19 rfl rfl)
theorem dX3_link_70 : decode cX3_link 70 = .ok (.iload_n 1, 1) := dk_27 (dk_at dksX3_link_2 22 rfl rfl)
theorem dX3_link_71 : decode cX3_link 71 = .ok (.iload_n 2, 1) := dk_28 (dk_at dksX3_link_2 23 rfl rfl)
theorem dX3_link_72 : decode cX3_link 72 = .ok (.iconst 1, 1) := dk_4 (dk_at dksX3_link_3 0 rfl rfl)
theorem dX3_link_73 : decode cX3_link 73 = .ok (.iadd, 1) := dk_96 (dk_at dksX3_link_3 1 rfl rfl)
theorem dX3_link_74 : decode cX3_link 74 = .ok (.iastore, 1) := dk_79 (dk_at dksX3_link_3 2 rfl rfl)
theorem dX3_link_75 : decode cX3_link 75 = .ok (.aload_n 0, 1) := dk_42 (dk_at dksX3_link_3 3 rfl rfl)
theorem dX3_link_76 : decode cX3_link 76 = .ok (.getfield 67, 3) := dk_180 0 67 (dk_at dksX3_link_3 4 rfl rfl)
theorem dX3_link_79 : decode cX3_link 79 = .ok (.iload_n 1, 1) := dk_27 (dk_at dksX3_link_3 7 rfl rfl)
theorem dX3_link_80 : decode cX3_link 80 = .ok (.iload_n 3, 1) := dk_29 (dk_at dksX3_link_3 8 rfl rfl)
theorem dX3_link_81 : decode cX3_link 81 = .ok (.iconst 1, 1) := dk_4 (dk_at dksX3_link_3 9 rfl rfl)
theorem dX3_link_82 : decode cX3_link 82 = .ok (.iadd, 1) := dk_96 (dk_at dksX3_link_3 10 rfl rfl)
theorem dX3_link_83 : decode cX3_link 83 = .ok (.iastore, 1) := dk_79 (dk_at dksX3_link_3 11 rfl rfl)
theorem dX3_link_84 : decode cX3_link 84 = .ok (.return_, 1) := dk_177 (dk_at dksX3_link_3 12 rfl rfl)
abbrev cX3_ask : ByteArray := prog_15_method_13_code
def yX3_ask : MethodName := ⟨RX3, "ask", "(IIIII)I"⟩
def dkwX3_ask_7 : List UInt8 := [21, 5, 79, 42, 89, 180, 0, 207, 4, 96, 181, 0, 207, 42, 180, 0, 207, 4, 100, 172]
abbrev dktX3_ask_7 : List UInt8 := dkwX3_ask_7 ++ []
def dkwX3_ask_6 : List UInt8 := [180, 0, 207, 29, 79, 42, 180, 0, 79, 42, 180, 0, 207, 21, 4, 79, 42, 180, 0, 82, 42, 180, 0, 207]
abbrev dktX3_ask_6 : List UInt8 := dkwX3_ask_6 ++ dktX3_ask_7
def dkwX3_ask_5 : List UInt8 := [180, 0, 70, 42, 180, 0, 207, 27, 79, 42, 180, 0, 73, 42, 180, 0, 207, 28, 79, 42, 180, 0, 76, 42]
abbrev dktX3_ask_5 : List UInt8 := dkwX3_ask_5 ++ dktX3_ask_6
def dkwX3_ask_4 : List UInt8 := [16, 20, 160, 0, 7, 6, 167, 0, 4, 3, 181, 0, 175, 42, 180, 0, 175, 158, 0, 5, 3, 172, 42]
abbrev dktX3_ask_4 : List UInt8 := dkwX3_ask_4 ++ dktX3_ask_5
def dkwX3_ask_3 : List UInt8 := [42, 42, 180, 0, 19, 27, 46, 4, 159, 0, 20, 42, 180, 0, 192, 4, 159, 0, 12, 42, 180, 0, 207]
abbrev dktX3_ask_3 : List UInt8 := dkwX3_ask_3 ++ dktX3_ask_4
def dkwX3_ask_2 : List UInt8 := [17, 1, 244, 184, 0, 179, 154, 0, 7, 5, 167, 0, 4, 3, 181, 0, 175, 42, 180, 0, 175, 154, 0, 39]
abbrev dktX3_ask_2 : List UInt8 := dkwX3_ask_2 ++ dktX3_ask_3
def dkwX3_ask_1 : List UInt8 := [167, 0, 36, 28, 29, 159, 0, 26, 21, 4, 4, 16, 10, 184, 0, 179, 153, 0, 15, 21, 5, 3]
abbrev dktX3_ask_1 : List UInt8 := dkwX3_ask_1 ++ dktX3_ask_2
def dkwX3_ask_0 : List UInt8 := [42, 27, 184, 0, 186, 153, 0, 17, 28, 184, 0, 195, 153, 0, 10, 29, 184, 0, 195, 154, 0, 7, 4]
abbrev dktX3_ask_0 : List UInt8 := dkwX3_ask_0 ++ dktX3_ask_1
theorem dksX3_ask_0 : cX3_ask.data.toList.drop 0 = dktX3_ask_0 := by decide +kernel
theorem dksX3_ask_1 : cX3_ask.data.toList.drop 23 = dktX3_ask_1 := dk_seg dksX3_ask_0 23 rfl rfl
theorem dksX3_ask_2 : cX3_ask.data.toList.drop 45 = dktX3_ask_2 := dk_seg dksX3_ask_1 22 rfl rfl
theorem dksX3_ask_3 : cX3_ask.data.toList.drop 69 = dktX3_ask_3 := dk_seg dksX3_ask_2 24 rfl rfl
theorem dksX3_ask_4 : cX3_ask.data.toList.drop 92 = dktX3_ask_4 := dk_seg dksX3_ask_3 23 rfl rfl
theorem dksX3_ask_5 : cX3_ask.data.toList.drop 115 = dktX3_ask_5 := dk_seg dksX3_ask_4 23 rfl rfl
theorem dksX3_ask_6 : cX3_ask.data.toList.drop 139 = dktX3_ask_6 := dk_seg dksX3_ask_5 24 rfl rfl
theorem dksX3_ask_7 : cX3_ask.data.toList.drop 163 = dktX3_ask_7 := dk_seg dksX3_ask_6 24 rfl rfl
theorem dX3_ask_0 : decode cX3_ask 0 = .ok (.aload_n 0, 1) := dk_42 (dk_at dksX3_ask_0 0 rfl rfl)
theorem dX3_ask_1 : decode cX3_ask 1 = .ok (.iload_n 1, 1) := dk_27 (dk_at dksX3_ask_0 1 rfl rfl)
theorem dX3_ask_2 : decode cX3_ask 2 = .ok (.invokestatic 186, 3) := dk_184 0 186 (dk_at dksX3_ask_0 2 rfl rfl)
theorem dX3_ask_5 : decode cX3_ask 5 = .ok (.ifCond .eq 17, 3) := dk_153 0 17 (dk_at dksX3_ask_0 5 rfl rfl)
theorem dX3_ask_8 : decode cX3_ask 8 = .ok (.iload_n 2, 1) := dk_28 (dk_at dksX3_ask_0 8 rfl rfl)
theorem dX3_ask_9 : decode cX3_ask 9 = .ok (.invokestatic 195, 3) := dk_184 0 195 (dk_at dksX3_ask_0 9 rfl rfl)
theorem dX3_ask_12 : decode cX3_ask 12 = .ok (.ifCond .eq 10, 3) := dk_153 0 10 (dk_at dksX3_ask_0 12 rfl rfl)
theorem dX3_ask_15 : decode cX3_ask 15 = .ok (.iload_n 3, 1) := dk_29 (dk_at dksX3_ask_0 15 rfl rfl)
theorem dX3_ask_16 : decode cX3_ask 16 = .ok (.invokestatic 195, 3) := dk_184 0 195 (dk_at dksX3_ask_0 16 rfl rfl)
theorem dX3_ask_19 : decode cX3_ask 19 = .ok (.ifCond .ne 7, 3) := dk_154 0 7 (dk_at dksX3_ask_0 19 rfl rfl)
theorem dX3_ask_22 : decode cX3_ask 22 = .ok (.iconst 1, 1) := dk_4 (dk_at dksX3_ask_0 22 rfl rfl)
theorem dX3_ask_23 : decode cX3_ask 23 = .ok (.goto 36, 3) := dk_167 0 36 (dk_at dksX3_ask_1 0 rfl rfl)
theorem dX3_ask_26 : decode cX3_ask 26 = .ok (.iload_n 2, 1) := dk_28 (dk_at dksX3_ask_1 3 rfl rfl)
theorem dX3_ask_27 : decode cX3_ask 27 = .ok (.iload_n 3, 1) := dk_29 (dk_at dksX3_ask_1 4 rfl rfl)
theorem dX3_ask_28 : decode cX3_ask 28 = .ok (.if_icmp .eq 26, 3) := dk_159 0 26 (dk_at dksX3_ask_1 5 rfl rfl)
theorem dX3_ask_31 : decode cX3_ask 31 = .ok (.iload 4, 2) := dk_21 4 (dk_at dksX3_ask_1 8 rfl rfl)
theorem dX3_ask_33 : decode cX3_ask 33 = .ok (.iconst 1, 1) := dk_4 (dk_at dksX3_ask_1 10 rfl rfl)
theorem dX3_ask_34 : decode cX3_ask 34 = .ok (.bipush 10, 2) := dk_16 10 (dk_at dksX3_ask_1 11 rfl rfl)
theorem dX3_ask_36 : decode cX3_ask 36 = .ok (.invokestatic 179, 3) := dk_184 0 179 (dk_at dksX3_ask_1 13 rfl rfl)
theorem dX3_ask_39 : decode cX3_ask 39 = .ok (.ifCond .eq 15, 3) := dk_153 0 15 (dk_at dksX3_ask_1 16 rfl rfl)
theorem dX3_ask_42 : decode cX3_ask 42 = .ok (.iload 5, 2) := dk_21 5 (dk_at dksX3_ask_1 19 rfl rfl)
theorem dX3_ask_44 : decode cX3_ask 44 = .ok (.iconst 0, 1) := dk_3 (dk_at dksX3_ask_1 21 rfl rfl)
theorem dX3_ask_45 : decode cX3_ask 45 = .ok (.sipush 500, 3) := dk_17 1 244 (dk_at dksX3_ask_2 0 rfl rfl)
theorem dX3_ask_48 : decode cX3_ask 48 = .ok (.invokestatic 179, 3) := dk_184 0 179 (dk_at dksX3_ask_2 3 rfl rfl)
theorem dX3_ask_51 : decode cX3_ask 51 = .ok (.ifCond .ne 7, 3) := dk_154 0 7 (dk_at dksX3_ask_2 6 rfl rfl)
theorem dX3_ask_54 : decode cX3_ask 54 = .ok (.iconst 2, 1) := dk_5 (dk_at dksX3_ask_2 9 rfl rfl)
theorem dX3_ask_55 : decode cX3_ask 55 = .ok (.goto 4, 3) := dk_167 0 4 (dk_at dksX3_ask_2 10 rfl rfl)
theorem dX3_ask_58 : decode cX3_ask 58 = .ok (.iconst 0, 1) := dk_3 (dk_at dksX3_ask_2 13 rfl rfl)
theorem dX3_ask_59 : decode cX3_ask 59 = .ok (.putfield 175, 3) := dk_181 0 175 (dk_at dksX3_ask_2 14 rfl rfl)
theorem dX3_ask_62 : decode cX3_ask 62 = .ok (.aload_n 0, 1) := dk_42 (dk_at dksX3_ask_2 17 rfl rfl)
theorem dX3_ask_63 : decode cX3_ask 63 = .ok (.getfield 175, 3) := dk_180 0 175 (dk_at dksX3_ask_2 18 rfl rfl)
theorem dX3_ask_66 : decode cX3_ask 66 = .ok (.ifCond .ne 39, 3) := dk_154 0 39 (dk_at dksX3_ask_2 21 rfl rfl)
theorem dX3_ask_69 : decode cX3_ask 69 = .ok (.aload_n 0, 1) := dk_42 (dk_at dksX3_ask_3 0 rfl rfl)
theorem dX3_ask_70 : decode cX3_ask 70 = .ok (.aload_n 0, 1) := dk_42 (dk_at dksX3_ask_3 1 rfl rfl)
theorem dX3_ask_71 : decode cX3_ask 71 = .ok (.getfield 19, 3) := dk_180 0 19 (dk_at dksX3_ask_3 2 rfl rfl)
theorem dX3_ask_74 : decode cX3_ask 74 = .ok (.iload_n 1, 1) := dk_27 (dk_at dksX3_ask_3 5 rfl rfl)
theorem dX3_ask_75 : decode cX3_ask 75 = .ok (.iaload, 1) := dk_46 (dk_at dksX3_ask_3 6 rfl rfl)
theorem dX3_ask_76 : decode cX3_ask 76 = .ok (.iconst 1, 1) := dk_4 (dk_at dksX3_ask_3 7 rfl rfl)
theorem dX3_ask_77 : decode cX3_ask 77 = .ok (.if_icmp .eq 20, 3) := dk_159 0 20 (dk_at dksX3_ask_3 8 rfl rfl)
theorem dX3_ask_80 : decode cX3_ask 80 = .ok (.aload_n 0, 1) := dk_42 (dk_at dksX3_ask_3 11 rfl rfl)
theorem dX3_ask_81 : decode cX3_ask 81 = .ok (.getfield 192, 3) := dk_180 0 192 (dk_at dksX3_ask_3 12 rfl rfl)
theorem dX3_ask_84 : decode cX3_ask 84 = .ok (.iconst 1, 1) := dk_4 (dk_at dksX3_ask_3 15 rfl rfl)
theorem dX3_ask_85 : decode cX3_ask 85 = .ok (.if_icmp .eq 12, 3) := dk_159 0 12 (dk_at dksX3_ask_3 16 rfl rfl)
theorem dX3_ask_88 : decode cX3_ask 88 = .ok (.aload_n 0, 1) := dk_42 (dk_at dksX3_ask_3 19 rfl rfl)
theorem dX3_ask_89 : decode cX3_ask 89 = .ok (.getfield 207, 3) := dk_180 0 207 (dk_at dksX3_ask_3 20 rfl rfl)
theorem dX3_ask_92 : decode cX3_ask 92 = .ok (.bipush 20, 2) := dk_16 20 (dk_at dksX3_ask_4 0 rfl rfl)
theorem dX3_ask_94 : decode cX3_ask 94 = .ok (.if_icmp .ne 7, 3) := dk_160 0 7 (dk_at dksX3_ask_4 2 rfl rfl)
theorem dX3_ask_97 : decode cX3_ask 97 = .ok (.iconst 3, 1) := dk_6 (dk_at dksX3_ask_4 5 rfl rfl)
theorem dX3_ask_98 : decode cX3_ask 98 = .ok (.goto 4, 3) := dk_167 0 4 (dk_at dksX3_ask_4 6 rfl rfl)
theorem dX3_ask_101 : decode cX3_ask 101 = .ok (.iconst 0, 1) := dk_3 (dk_at dksX3_ask_4 9 rfl rfl)
theorem dX3_ask_102 : decode cX3_ask 102 = .ok (.putfield 175, 3) := dk_181 0 175 (dk_at dksX3_ask_4 10 rfl rfl)
theorem dX3_ask_105 : decode cX3_ask 105 = .ok (.aload_n 0, 1) := dk_42 (dk_at dksX3_ask_4 13 rfl rfl)
theorem dX3_ask_106 : decode cX3_ask 106 = .ok (.getfield 175, 3) := dk_180 0 175 (dk_at dksX3_ask_4 14 rfl rfl)
theorem dX3_ask_109 : decode cX3_ask 109 = .ok (.ifCond .le 5, 3) := dk_158 0 5 (dk_at dksX3_ask_4 17 rfl rfl)
theorem dX3_ask_112 : decode cX3_ask 112 = .ok (.iconst 0, 1) := dk_3 (dk_at dksX3_ask_4 20 rfl rfl)
theorem dX3_ask_113 : decode cX3_ask 113 = .ok (.ireturn, 1) := dk_172 (dk_at dksX3_ask_4 21 rfl rfl)
theorem dX3_ask_114 : decode cX3_ask 114 = .ok (.aload_n 0, 1) := dk_42 (dk_at dksX3_ask_4 22 rfl rfl)
theorem dX3_ask_115 : decode cX3_ask 115 = .ok (.getfield 70, 3) := dk_180 0 70 (dk_at dksX3_ask_5 0 rfl rfl)
theorem dX3_ask_118 : decode cX3_ask 118 = .ok (.aload_n 0, 1) := dk_42 (dk_at dksX3_ask_5 3 rfl rfl)
theorem dX3_ask_119 : decode cX3_ask 119 = .ok (.getfield 207, 3) := dk_180 0 207 (dk_at dksX3_ask_5 4 rfl rfl)
theorem dX3_ask_122 : decode cX3_ask 122 = .ok (.iload_n 1, 1) := dk_27 (dk_at dksX3_ask_5 7 rfl rfl)
theorem dX3_ask_123 : decode cX3_ask 123 = .ok (.iastore, 1) := dk_79 (dk_at dksX3_ask_5 8 rfl rfl)
theorem dX3_ask_124 : decode cX3_ask 124 = .ok (.aload_n 0, 1) := dk_42 (dk_at dksX3_ask_5 9 rfl rfl)
theorem dX3_ask_125 : decode cX3_ask 125 = .ok (.getfield 73, 3) := dk_180 0 73 (dk_at dksX3_ask_5 10 rfl rfl)
theorem dX3_ask_128 : decode cX3_ask 128 = .ok (.aload_n 0, 1) := dk_42 (dk_at dksX3_ask_5 13 rfl rfl)
theorem dX3_ask_129 : decode cX3_ask 129 = .ok (.getfield 207, 3) := dk_180 0 207 (dk_at dksX3_ask_5 14 rfl rfl)
theorem dX3_ask_132 : decode cX3_ask 132 = .ok (.iload_n 2, 1) := dk_28 (dk_at dksX3_ask_5 17 rfl rfl)
theorem dX3_ask_133 : decode cX3_ask 133 = .ok (.iastore, 1) := dk_79 (dk_at dksX3_ask_5 18 rfl rfl)
theorem dX3_ask_134 : decode cX3_ask 134 = .ok (.aload_n 0, 1) := dk_42 (dk_at dksX3_ask_5 19 rfl rfl)
theorem dX3_ask_135 : decode cX3_ask 135 = .ok (.getfield 76, 3) := dk_180 0 76 (dk_at dksX3_ask_5 20 rfl rfl)
theorem dX3_ask_138 : decode cX3_ask 138 = .ok (.aload_n 0, 1) := dk_42 (dk_at dksX3_ask_5 23 rfl rfl)
theorem dX3_ask_139 : decode cX3_ask 139 = .ok (.getfield 207, 3) := dk_180 0 207 (dk_at dksX3_ask_6 0 rfl rfl)
theorem dX3_ask_142 : decode cX3_ask 142 = .ok (.iload_n 3, 1) := dk_29 (dk_at dksX3_ask_6 3 rfl rfl)
theorem dX3_ask_143 : decode cX3_ask 143 = .ok (.iastore, 1) := dk_79 (dk_at dksX3_ask_6 4 rfl rfl)
theorem dX3_ask_144 : decode cX3_ask 144 = .ok (.aload_n 0, 1) := dk_42 (dk_at dksX3_ask_6 5 rfl rfl)
theorem dX3_ask_145 : decode cX3_ask 145 = .ok (.getfield 79, 3) := dk_180 0 79 (dk_at dksX3_ask_6 6 rfl rfl)
theorem dX3_ask_148 : decode cX3_ask 148 = .ok (.aload_n 0, 1) := dk_42 (dk_at dksX3_ask_6 9 rfl rfl)
theorem dX3_ask_149 : decode cX3_ask 149 = .ok (.getfield 207, 3) := dk_180 0 207 (dk_at dksX3_ask_6 10 rfl rfl)
theorem dX3_ask_152 : decode cX3_ask 152 = .ok (.iload 4, 2) := dk_21 4 (dk_at dksX3_ask_6 13 rfl rfl)
theorem dX3_ask_154 : decode cX3_ask 154 = .ok (.iastore, 1) := dk_79 (dk_at dksX3_ask_6 15 rfl rfl)
theorem dX3_ask_155 : decode cX3_ask 155 = .ok (.aload_n 0, 1) := dk_42 (dk_at dksX3_ask_6 16 rfl rfl)
theorem dX3_ask_156 : decode cX3_ask 156 = .ok (.getfield 82, 3) := dk_180 0 82 (dk_at dksX3_ask_6 17 rfl rfl)
theorem dX3_ask_159 : decode cX3_ask 159 = .ok (.aload_n 0, 1) := dk_42 (dk_at dksX3_ask_6 20 rfl rfl)
theorem dX3_ask_160 : decode cX3_ask 160 = .ok (.getfield 207, 3) := dk_180 0 207 (dk_at dksX3_ask_6 21 rfl rfl)
theorem dX3_ask_163 : decode cX3_ask 163 = .ok (.iload 5, 2) := dk_21 5 (dk_at dksX3_ask_7 0 rfl rfl)
theorem dX3_ask_165 : decode cX3_ask 165 = .ok (.iastore, 1) := dk_79 (dk_at dksX3_ask_7 2 rfl rfl)
theorem dX3_ask_166 : decode cX3_ask 166 = .ok (.aload_n 0, 1) := dk_42 (dk_at dksX3_ask_7 3 rfl rfl)
theorem dX3_ask_167 : decode cX3_ask 167 = .ok (.dup, 1) := dk_89 (dk_at dksX3_ask_7 4 rfl rfl)
theorem dX3_ask_168 : decode cX3_ask 168 = .ok (.getfield 207, 3) := dk_180 0 207 (dk_at dksX3_ask_7 5 rfl rfl)
theorem dX3_ask_171 : decode cX3_ask 171 = .ok (.iconst 1, 1) := dk_4 (dk_at dksX3_ask_7 8 rfl rfl)
theorem dX3_ask_172 : decode cX3_ask 172 = .ok (.iadd, 1) := dk_96 (dk_at dksX3_ask_7 9 rfl rfl)
theorem dX3_ask_173 : decode cX3_ask 173 = .ok (.putfield 207, 3) := dk_181 0 207 (dk_at dksX3_ask_7 10 rfl rfl)
theorem dX3_ask_176 : decode cX3_ask 176 = .ok (.aload_n 0, 1) := dk_42 (dk_at dksX3_ask_7 13 rfl rfl)
theorem dX3_ask_177 : decode cX3_ask 177 = .ok (.getfield 207, 3) := dk_180 0 207 (dk_at dksX3_ask_7 14 rfl rfl)
theorem dX3_ask_180 : decode cX3_ask 180 = .ok (.iconst 1, 1) := dk_4 (dk_at dksX3_ask_7 17 rfl rfl)
theorem dX3_ask_181 : decode cX3_ask 181 = .ok (.isub, 1) := dk_100 (dk_at dksX3_ask_7 18 rfl rfl)
theorem dX3_ask_182 : decode cX3_ask 182 = .ok (.ireturn, 1) := dk_172 (dk_at dksX3_ask_7 19 rfl rfl)
abbrev cX3_clear : ByteArray := prog_15_method_34_code
def yX3_clear : MethodName := ⟨RX3, "clear", "()I"⟩
def dkwX3_clear_19 : List UInt8 := [132, 2, 1, 167, 255, 224, 42, 4, 181, 0, 192, 27, 172]
abbrev dktX3_clear_19 : List UInt8 := dkwX3_clear_19 ++ []
def dkwX3_clear_18 : List UInt8 := [3, 62, 29, 6, 162, 0, 20, 28, 29, 159, 0, 9, 42, 28, 29, 182, 1, 35, 132, 3, 1, 167, 255, 237]
abbrev dktX3_clear_18 : List UInt8 := dkwX3_clear_18 ++ dktX3_clear_19
def dkwX3_clear_17 : List UInt8 := [96, 46, 182, 1, 31, 132, 3, 1, 167, 255, 136, 132, 2, 1, 167, 255, 120, 3, 61, 28, 6, 162, 0, 33]
abbrev dktX3_clear_17 : List UInt8 := dkwX3_clear_17 ++ dktX3_clear_18
def dkwX3_clear_16 : List UInt8 := [29, 21, 5, 42, 180, 0, 130, 16, 12, 42, 180, 0, 183, 104, 7, 42, 180, 0, 49, 28, 46, 104, 96, 29]
abbrev dktX3_clear_16 : List UInt8 := dkwX3_clear_16 ++ dktX3_clear_17
def dkwX3_clear_15 : List UInt8 := [167, 0, 9, 42, 180, 0, 61, 28, 46, 54, 5, 42, 42, 180, 0, 46, 28, 46, 42, 180, 0, 49, 28, 46]
abbrev dktX3_clear_15 : List UInt8 := dkwX3_clear_15 ++ dktX3_clear_16
def dkwX3_clear_14 : List UInt8 := [154, 0, 7, 3, 167, 0, 29, 42, 180, 0, 55, 28, 46, 4, 160, 0, 13, 42, 180, 0, 61, 28, 46, 116]
abbrev dktX3_clear_14 : List UInt8 := dkwX3_clear_14 ++ dktX3_clear_15
def dkwX3_clear_13 : List UInt8 := [180, 0, 52, 28, 46, 29, 122, 4, 126, 4, 160, 0, 7, 4, 167, 0, 4, 3, 54, 4, 21, 4]
abbrev dktX3_clear_13 : List UInt8 := dkwX3_clear_13 ++ dktX3_clear_14
def dkwX3_clear_12 : List UInt8 := [162, 0, 134, 3, 62, 29, 7, 162, 0, 121, 42, 180, 1, 19, 28, 122, 4, 126, 4, 160, 0, 21, 42]
abbrev dktX3_clear_12 : List UInt8 := dkwX3_clear_12 ++ dktX3_clear_13
def dkwX3_clear_11 : List UInt8 := [180, 0, 28, 28, 46, 96, 46, 182, 1, 31, 132, 2, 1, 167, 255, 167, 3, 61, 28, 42, 180, 0, 204]
abbrev dktX3_clear_11 : List UInt8 := dkwX3_clear_11 ++ dktX3_clear_12
def dkwX3_clear_10 : List UInt8 := [46, 29, 42, 180, 0, 130, 16, 12, 42, 180, 0, 183, 104, 7, 42, 180, 0, 25, 28, 46, 104, 96, 42]
abbrev dktX3_clear_10 : List UInt8 := dkwX3_clear_10 ++ dktX3_clear_11
def dkwX3_clear_9 : List UInt8 := [180, 0, 40, 28, 46, 62, 42, 42, 180, 0, 22, 28, 46, 42, 180, 0, 25, 28, 46, 42, 180, 0, 28, 28]
abbrev dktX3_clear_9 : List UInt8 := dkwX3_clear_9 ++ dktX3_clear_10
def dkwX3_clear_8 : List UInt8 := [162, 0, 87, 42, 180, 0, 31, 28, 46, 4, 160, 0, 13, 42, 180, 0, 40, 28, 46, 116, 167, 0, 9, 42]
abbrev dktX3_clear_8 : List UInt8 := dkwX3_clear_8 ++ dktX3_clear_9
def dkwX3_clear_7 : List UInt8 := [182, 1, 28, 132, 3, 1, 167, 255, 242, 132, 2, 1, 167, 255, 229, 3, 61, 28, 42, 180, 0, 201]
abbrev dktX3_clear_7 : List UInt8 := dkwX3_clear_7 ++ dktX3_clear_8
def dkwX3_clear_6 : List UInt8 := [132, 2, 1, 167, 255, 240, 3, 61, 28, 6, 162, 0, 28, 3, 62, 29, 7, 162, 0, 15, 42, 28, 29]
abbrev dktX3_clear_6 : List UInt8 := dkwX3_clear_6 ++ dktX3_clear_7
def dkwX3_clear_5 : List UInt8 := [42, 42, 180, 1, 19, 182, 1, 25, 87, 3, 61, 28, 16, 40, 162, 0, 16, 42, 180, 0, 40, 28, 3, 79]
abbrev dktX3_clear_5 : List UInt8 := dkwX3_clear_5 ++ dktX3_clear_6
def dkwX3_clear_4 : List UInt8 := [167, 0, 5, 18, 223, 62, 29, 27, 164, 0, 10, 29, 60, 42, 28, 181, 1, 19, 132, 2, 1, 167, 255, 212]
abbrev dktX3_clear_4 : List UInt8 := dkwX3_clear_4 ++ dktX3_clear_5
def dkwX3_clear_3 : List UInt8 := [61, 28, 4, 42, 180, 0, 204, 120, 162, 0, 40, 42, 28, 182, 1, 22, 153, 0, 11, 42, 28, 182, 1, 25]
abbrev dktX3_clear_3 : List UInt8 := dkwX3_clear_3 ++ dktX3_clear_4
def dkwX3_clear_2 : List UInt8 := [182, 1, 15, 132, 2, 1, 167, 255, 238, 132, 1, 1, 167, 255, 225, 18, 223, 60, 42, 3, 181, 1, 19, 3]
abbrev dktX3_clear_2 : List UInt8 := dkwX3_clear_2 ++ dktX3_clear_3
def dkwX3_clear_1 : List UInt8 := [3, 172, 3, 60, 27, 6, 162, 0, 32, 3, 61, 28, 7, 162, 0, 19, 42, 182, 1, 8, 42, 27, 28]
abbrev dktX3_clear_1 : List UInt8 := dkwX3_clear_1 ++ dktX3_clear_2
def dkwX3_clear_0 : List UInt8 := [42, 42, 180, 0, 192, 4, 160, 0, 7, 4, 167, 0, 4, 3, 181, 0, 175, 42, 180, 0, 175, 158, 0, 5]
abbrev dktX3_clear_0 : List UInt8 := dkwX3_clear_0 ++ dktX3_clear_1
theorem dksX3_clear_0 : cX3_clear.data.toList.drop 0 = dktX3_clear_0 := by decide +kernel
theorem dksX3_clear_1 : cX3_clear.data.toList.drop 24 = dktX3_clear_1 := dk_seg dksX3_clear_0 24 rfl rfl
theorem dksX3_clear_2 : cX3_clear.data.toList.drop 47 = dktX3_clear_2 := dk_seg dksX3_clear_1 23 rfl rfl
theorem dksX3_clear_3 : cX3_clear.data.toList.drop 71 = dktX3_clear_3 := dk_seg dksX3_clear_2 24 rfl rfl
theorem dksX3_clear_4 : cX3_clear.data.toList.drop 95 = dktX3_clear_4 := dk_seg dksX3_clear_3 24 rfl rfl
theorem dksX3_clear_5 : cX3_clear.data.toList.drop 119 = dktX3_clear_5 := dk_seg dksX3_clear_4 24 rfl rfl
theorem dksX3_clear_6 : cX3_clear.data.toList.drop 143 = dktX3_clear_6 := dk_seg dksX3_clear_5 24 rfl rfl
theorem dksX3_clear_7 : cX3_clear.data.toList.drop 166 = dktX3_clear_7 := dk_seg dksX3_clear_6 23 rfl rfl
theorem dksX3_clear_8 : cX3_clear.data.toList.drop 188 = dktX3_clear_8 := dk_seg dksX3_clear_7 22 rfl rfl
theorem dksX3_clear_9 : cX3_clear.data.toList.drop 212 = dktX3_clear_9 := dk_seg dksX3_clear_8 24 rfl rfl
theorem dksX3_clear_10 : cX3_clear.data.toList.drop 236 = dktX3_clear_10 := dk_seg dksX3_clear_9 24 rfl rfl
theorem dksX3_clear_11 : cX3_clear.data.toList.drop 259 = dktX3_clear_11 := dk_seg dksX3_clear_10 23 rfl rfl
theorem dksX3_clear_12 : cX3_clear.data.toList.drop 282 = dktX3_clear_12 := dk_seg dksX3_clear_11 23 rfl rfl
theorem dksX3_clear_13 : cX3_clear.data.toList.drop 305 = dktX3_clear_13 := dk_seg dksX3_clear_12 23 rfl rfl
theorem dksX3_clear_14 : cX3_clear.data.toList.drop 327 = dktX3_clear_14 := dk_seg dksX3_clear_13 22 rfl rfl
theorem dksX3_clear_15 : cX3_clear.data.toList.drop 351 = dktX3_clear_15 := dk_seg dksX3_clear_14 24 rfl rfl
theorem dksX3_clear_16 : cX3_clear.data.toList.drop 375 = dktX3_clear_16 := dk_seg dksX3_clear_15 24 rfl rfl
theorem dksX3_clear_17 : cX3_clear.data.toList.drop 399 = dktX3_clear_17 := dk_seg dksX3_clear_16 24 rfl rfl
theorem dksX3_clear_18 : cX3_clear.data.toList.drop 423 = dktX3_clear_18 := dk_seg dksX3_clear_17 24 rfl rfl
theorem dksX3_clear_19 : cX3_clear.data.toList.drop 447 = dktX3_clear_19 := dk_seg dksX3_clear_18 24 rfl rfl
theorem dX3_clear_0 : decode cX3_clear 0 = .ok (.aload_n 0, 1) := dk_42 (dk_at dksX3_clear_0 0 rfl rfl)
theorem dX3_clear_1 : decode cX3_clear 1 = .ok (.aload_n 0, 1) := dk_42 (dk_at dksX3_clear_0 1 rfl rfl)
theorem dX3_clear_2 : decode cX3_clear 2 = .ok (.getfield 192, 3) := dk_180 0 192 (dk_at dksX3_clear_0 2 rfl rfl)
theorem dX3_clear_5 : decode cX3_clear 5 = .ok (.iconst 1, 1) := dk_4 (dk_at dksX3_clear_0 5 rfl rfl)
theorem dX3_clear_6 : decode cX3_clear 6 = .ok (.if_icmp .ne 7, 3) := dk_160 0 7 (dk_at dksX3_clear_0 6 rfl rfl)
theorem dX3_clear_9 : decode cX3_clear 9 = .ok (.iconst 1, 1) := dk_4 (dk_at dksX3_clear_0 9 rfl rfl)
theorem dX3_clear_10 : decode cX3_clear 10 = .ok (.goto 4, 3) := dk_167 0 4 (dk_at dksX3_clear_0 10 rfl rfl)
theorem dX3_clear_13 : decode cX3_clear 13 = .ok (.iconst 0, 1) := dk_3 (dk_at dksX3_clear_0 13 rfl rfl)
theorem dX3_clear_14 : decode cX3_clear 14 = .ok (.putfield 175, 3) := dk_181 0 175 (dk_at dksX3_clear_0 14 rfl rfl)
theorem dX3_clear_17 : decode cX3_clear 17 = .ok (.aload_n 0, 1) := dk_42 (dk_at dksX3_clear_0 17 rfl rfl)
theorem dX3_clear_18 : decode cX3_clear 18 = .ok (.getfield 175, 3) := dk_180 0 175 (dk_at dksX3_clear_0 18 rfl rfl)
theorem dX3_clear_21 : decode cX3_clear 21 = .ok (.ifCond .le 5, 3) := dk_158 0 5 (dk_at dksX3_clear_0 21 rfl rfl)
theorem dX3_clear_24 : decode cX3_clear 24 = .ok (.iconst 0, 1) := dk_3 (dk_at dksX3_clear_1 0 rfl rfl)
theorem dX3_clear_25 : decode cX3_clear 25 = .ok (.ireturn, 1) := dk_172 (dk_at dksX3_clear_1 1 rfl rfl)
theorem dX3_clear_26 : decode cX3_clear 26 = .ok (.iconst 0, 1) := dk_3 (dk_at dksX3_clear_1 2 rfl rfl)
theorem dX3_clear_27 : decode cX3_clear 27 = .ok (.istore_n 1, 1) := dk_60 (dk_at dksX3_clear_1 3 rfl rfl)
theorem dX3_clear_28 : decode cX3_clear 28 = .ok (.iload_n 1, 1) := dk_27 (dk_at dksX3_clear_1 4 rfl rfl)
theorem dX3_clear_29 : decode cX3_clear 29 = .ok (.iconst 3, 1) := dk_6 (dk_at dksX3_clear_1 5 rfl rfl)
theorem dX3_clear_30 : decode cX3_clear 30 = .ok (.if_icmp .ge 32, 3) := dk_162 0 32 (dk_at dksX3_clear_1 6 rfl rfl)
theorem dX3_clear_33 : decode cX3_clear 33 = .ok (.iconst 0, 1) := dk_3 (dk_at dksX3_clear_1 9 rfl rfl)
theorem dX3_clear_34 : decode cX3_clear 34 = .ok (.istore_n 2, 1) := dk_61 (dk_at dksX3_clear_1 10 rfl rfl)
theorem dX3_clear_35 : decode cX3_clear 35 = .ok (.iload_n 2, 1) := dk_28 (dk_at dksX3_clear_1 11 rfl rfl)
theorem dX3_clear_36 : decode cX3_clear 36 = .ok (.iconst 4, 1) := dk_7 (dk_at dksX3_clear_1 12 rfl rfl)
theorem dX3_clear_37 : decode cX3_clear 37 = .ok (.if_icmp .ge 19, 3) := dk_162 0 19 (dk_at dksX3_clear_1 13 rfl rfl)
theorem dX3_clear_40 : decode cX3_clear 40 = .ok (.aload_n 0, 1) := dk_42 (dk_at dksX3_clear_1 16 rfl rfl)
theorem dX3_clear_41 : decode cX3_clear 41 = .ok (.invokevirtual 264, 3) := dk_182 1 8 (dk_at dksX3_clear_1 17 rfl rfl)
theorem dX3_clear_44 : decode cX3_clear 44 = .ok (.aload_n 0, 1) := dk_42 (dk_at dksX3_clear_1 20 rfl rfl)
theorem dX3_clear_45 : decode cX3_clear 45 = .ok (.iload_n 1, 1) := dk_27 (dk_at dksX3_clear_1 21 rfl rfl)
theorem dX3_clear_46 : decode cX3_clear 46 = .ok (.iload_n 2, 1) := dk_28 (dk_at dksX3_clear_1 22 rfl rfl)
theorem dX3_clear_47 : decode cX3_clear 47 = .ok (.invokevirtual 271, 3) := dk_182 1 15 (dk_at dksX3_clear_2 0 rfl rfl)
theorem dX3_clear_50 : decode cX3_clear 50 = .ok (.iinc 2 1, 3) := dk_132 2 1 (dk_at dksX3_clear_2 3 rfl rfl)
theorem dX3_clear_53 : decode cX3_clear 53 = .ok (.goto (-18), 3) := dk_167 255 238 (dk_at dksX3_clear_2 6 rfl rfl)
theorem dX3_clear_56 : decode cX3_clear 56 = .ok (.iinc 1 1, 3) := dk_132 1 1 (dk_at dksX3_clear_2 9 rfl rfl)
theorem dX3_clear_59 : decode cX3_clear 59 = .ok (.goto (-31), 3) := dk_167 255 225 (dk_at dksX3_clear_2 12 rfl rfl)
theorem dX3_clear_62 : decode cX3_clear 62 = .ok (.ldc 223, 2) := dk_18 223 (dk_at dksX3_clear_2 15 rfl rfl)
theorem dX3_clear_64 : decode cX3_clear 64 = .ok (.istore_n 1, 1) := dk_60 (dk_at dksX3_clear_2 17 rfl rfl)
theorem dX3_clear_65 : decode cX3_clear 65 = .ok (.aload_n 0, 1) := dk_42 (dk_at dksX3_clear_2 18 rfl rfl)
theorem dX3_clear_66 : decode cX3_clear 66 = .ok (.iconst 0, 1) := dk_3 (dk_at dksX3_clear_2 19 rfl rfl)
theorem dX3_clear_67 : decode cX3_clear 67 = .ok (.putfield 275, 3) := dk_181 1 19 (dk_at dksX3_clear_2 20 rfl rfl)
theorem dX3_clear_70 : decode cX3_clear 70 = .ok (.iconst 0, 1) := dk_3 (dk_at dksX3_clear_2 23 rfl rfl)
theorem dX3_clear_71 : decode cX3_clear 71 = .ok (.istore_n 2, 1) := dk_61 (dk_at dksX3_clear_3 0 rfl rfl)
theorem dX3_clear_72 : decode cX3_clear 72 = .ok (.iload_n 2, 1) := dk_28 (dk_at dksX3_clear_3 1 rfl rfl)
theorem dX3_clear_73 : decode cX3_clear 73 = .ok (.iconst 1, 1) := dk_4 (dk_at dksX3_clear_3 2 rfl rfl)
theorem dX3_clear_74 : decode cX3_clear 74 = .ok (.aload_n 0, 1) := dk_42 (dk_at dksX3_clear_3 3 rfl rfl)
theorem dX3_clear_75 : decode cX3_clear 75 = .ok (.getfield 204, 3) := dk_180 0 204 (dk_at dksX3_clear_3 4 rfl rfl)
theorem dX3_clear_78 : decode cX3_clear 78 = .ok (.ishl, 1) := dk_120 (dk_at dksX3_clear_3 7 rfl rfl)
theorem dX3_clear_79 : decode cX3_clear 79 = .ok (.if_icmp .ge 40, 3) := dk_162 0 40 (dk_at dksX3_clear_3 8 rfl rfl)
theorem dX3_clear_82 : decode cX3_clear 82 = .ok (.aload_n 0, 1) := dk_42 (dk_at dksX3_clear_3 11 rfl rfl)
theorem dX3_clear_83 : decode cX3_clear 83 = .ok (.iload_n 2, 1) := dk_28 (dk_at dksX3_clear_3 12 rfl rfl)
theorem dX3_clear_84 : decode cX3_clear 84 = .ok (.invokevirtual 278, 3) := dk_182 1 22 (dk_at dksX3_clear_3 13 rfl rfl)
theorem dX3_clear_87 : decode cX3_clear 87 = .ok (.ifCond .eq 11, 3) := dk_153 0 11 (dk_at dksX3_clear_3 16 rfl rfl)
theorem dX3_clear_90 : decode cX3_clear 90 = .ok (.aload_n 0, 1) := dk_42 (dk_at dksX3_clear_3 19 rfl rfl)
theorem dX3_clear_91 : decode cX3_clear 91 = .ok (.iload_n 2, 1) := dk_28 (dk_at dksX3_clear_3 20 rfl rfl)
theorem dX3_clear_92 : decode cX3_clear 92 = .ok (.invokevirtual 281, 3) := dk_182 1 25 (dk_at dksX3_clear_3 21 rfl rfl)
theorem dX3_clear_95 : decode cX3_clear 95 = .ok (.goto 5, 3) := dk_167 0 5 (dk_at dksX3_clear_4 0 rfl rfl)
theorem dX3_clear_98 : decode cX3_clear 98 = .ok (.ldc 223, 2) := dk_18 223 (dk_at dksX3_clear_4 3 rfl rfl)
theorem dX3_clear_100 : decode cX3_clear 100 = .ok (.istore_n 3, 1) := dk_62 (dk_at dksX3_clear_4 5 rfl rfl)
theorem dX3_clear_101 : decode cX3_clear 101 = .ok (.iload_n 3, 1) := dk_29 (dk_at dksX3_clear_4 6 rfl rfl)
theorem dX3_clear_102 : decode cX3_clear 102 = .ok (.iload_n 1, 1) := dk_27 (dk_at dksX3_clear_4 7 rfl rfl)
theorem dX3_clear_103 : decode cX3_clear 103 = .ok (.if_icmp .le 10, 3) := dk_164 0 10 (dk_at dksX3_clear_4 8 rfl rfl)
theorem dX3_clear_106 : decode cX3_clear 106 = .ok (.iload_n 3, 1) := dk_29 (dk_at dksX3_clear_4 11 rfl rfl)
theorem dX3_clear_107 : decode cX3_clear 107 = .ok (.istore_n 1, 1) := dk_60 (dk_at dksX3_clear_4 12 rfl rfl)
theorem dX3_clear_108 : decode cX3_clear 108 = .ok (.aload_n 0, 1) := dk_42 (dk_at dksX3_clear_4 13 rfl rfl)
theorem dX3_clear_109 : decode cX3_clear 109 = .ok (.iload_n 2, 1) := dk_28 (dk_at dksX3_clear_4 14 rfl rfl)
theorem dX3_clear_110 : decode cX3_clear 110 = .ok (.putfield 275, 3) := dk_181 1 19 (dk_at dksX3_clear_4 15 rfl rfl)
theorem dX3_clear_113 : decode cX3_clear 113 = .ok (.iinc 2 1, 3) := dk_132 2 1 (dk_at dksX3_clear_4 18 rfl rfl)
theorem dX3_clear_116 : decode cX3_clear 116 = .ok (.goto (-44), 3) := dk_167 255 212 (dk_at dksX3_clear_4 21 rfl rfl)
theorem dX3_clear_119 : decode cX3_clear 119 = .ok (.aload_n 0, 1) := dk_42 (dk_at dksX3_clear_5 0 rfl rfl)
theorem dX3_clear_120 : decode cX3_clear 120 = .ok (.aload_n 0, 1) := dk_42 (dk_at dksX3_clear_5 1 rfl rfl)
theorem dX3_clear_121 : decode cX3_clear 121 = .ok (.getfield 275, 3) := dk_180 1 19 (dk_at dksX3_clear_5 2 rfl rfl)
theorem dX3_clear_124 : decode cX3_clear 124 = .ok (.invokevirtual 281, 3) := dk_182 1 25 (dk_at dksX3_clear_5 5 rfl rfl)
theorem dX3_clear_127 : decode cX3_clear 127 = .ok (.pop, 1) := dk_87 (dk_at dksX3_clear_5 8 rfl rfl)
theorem dX3_clear_128 : decode cX3_clear 128 = .ok (.iconst 0, 1) := dk_3 (dk_at dksX3_clear_5 9 rfl rfl)
theorem dX3_clear_129 : decode cX3_clear 129 = .ok (.istore_n 2, 1) := dk_61 (dk_at dksX3_clear_5 10 rfl rfl)
theorem dX3_clear_130 : decode cX3_clear 130 = .ok (.iload_n 2, 1) := dk_28 (dk_at dksX3_clear_5 11 rfl rfl)
theorem dX3_clear_131 : decode cX3_clear 131 = .ok (.bipush 40, 2) := dk_16 40 (dk_at dksX3_clear_5 12 rfl rfl)
theorem dX3_clear_133 : decode cX3_clear 133 = .ok (.if_icmp .ge 16, 3) := dk_162 0 16 (dk_at dksX3_clear_5 14 rfl rfl)
theorem dX3_clear_136 : decode cX3_clear 136 = .ok (.aload_n 0, 1) := dk_42 (dk_at dksX3_clear_5 17 rfl rfl)
theorem dX3_clear_137 : decode cX3_clear 137 = .ok (.getfield 40, 3) := dk_180 0 40 (dk_at dksX3_clear_5 18 rfl rfl)
theorem dX3_clear_140 : decode cX3_clear 140 = .ok (.iload_n 2, 1) := dk_28 (dk_at dksX3_clear_5 21 rfl rfl)
theorem dX3_clear_141 : decode cX3_clear 141 = .ok (.iconst 0, 1) := dk_3 (dk_at dksX3_clear_5 22 rfl rfl)
theorem dX3_clear_142 : decode cX3_clear 142 = .ok (.iastore, 1) := dk_79 (dk_at dksX3_clear_5 23 rfl rfl)
theorem dX3_clear_143 : decode cX3_clear 143 = .ok (.iinc 2 1, 3) := dk_132 2 1 (dk_at dksX3_clear_6 0 rfl rfl)
theorem dX3_clear_146 : decode cX3_clear 146 = .ok (.goto (-16), 3) := dk_167 255 240 (dk_at dksX3_clear_6 3 rfl rfl)
theorem dX3_clear_149 : decode cX3_clear 149 = .ok (.iconst 0, 1) := dk_3 (dk_at dksX3_clear_6 6 rfl rfl)
theorem dX3_clear_150 : decode cX3_clear 150 = .ok (.istore_n 2, 1) := dk_61 (dk_at dksX3_clear_6 7 rfl rfl)
theorem dX3_clear_151 : decode cX3_clear 151 = .ok (.iload_n 2, 1) := dk_28 (dk_at dksX3_clear_6 8 rfl rfl)
theorem dX3_clear_152 : decode cX3_clear 152 = .ok (.iconst 3, 1) := dk_6 (dk_at dksX3_clear_6 9 rfl rfl)
theorem dX3_clear_153 : decode cX3_clear 153 = .ok (.if_icmp .ge 28, 3) := dk_162 0 28 (dk_at dksX3_clear_6 10 rfl rfl)
theorem dX3_clear_156 : decode cX3_clear 156 = .ok (.iconst 0, 1) := dk_3 (dk_at dksX3_clear_6 13 rfl rfl)
theorem dX3_clear_157 : decode cX3_clear 157 = .ok (.istore_n 3, 1) := dk_62 (dk_at dksX3_clear_6 14 rfl rfl)
theorem dX3_clear_158 : decode cX3_clear 158 = .ok (.iload_n 3, 1) := dk_29 (dk_at dksX3_clear_6 15 rfl rfl)
theorem dX3_clear_159 : decode cX3_clear 159 = .ok (.iconst 4, 1) := dk_7 (dk_at dksX3_clear_6 16 rfl rfl)
theorem dX3_clear_160 : decode cX3_clear 160 = .ok (.if_icmp .ge 15, 3) := dk_162 0 15 (dk_at dksX3_clear_6 17 rfl rfl)
theorem dX3_clear_163 : decode cX3_clear 163 = .ok (.aload_n 0, 1) := dk_42 (dk_at dksX3_clear_6 20 rfl rfl)
theorem dX3_clear_164 : decode cX3_clear 164 = .ok (.iload_n 2, 1) := dk_28 (dk_at dksX3_clear_6 21 rfl rfl)
theorem dX3_clear_165 : decode cX3_clear 165 = .ok (.iload_n 3, 1) := dk_29 (dk_at dksX3_clear_6 22 rfl rfl)
theorem dX3_clear_166 : decode cX3_clear 166 = .ok (.invokevirtual 284, 3) := dk_182 1 28 (dk_at dksX3_clear_7 0 rfl rfl)
theorem dX3_clear_169 : decode cX3_clear 169 = .ok (.iinc 3 1, 3) := dk_132 3 1 (dk_at dksX3_clear_7 3 rfl rfl)
theorem dX3_clear_172 : decode cX3_clear 172 = .ok (.goto (-14), 3) := dk_167 255 242 (dk_at dksX3_clear_7 6 rfl rfl)
theorem dX3_clear_175 : decode cX3_clear 175 = .ok (.iinc 2 1, 3) := dk_132 2 1 (dk_at dksX3_clear_7 9 rfl rfl)
theorem dX3_clear_178 : decode cX3_clear 178 = .ok (.goto (-27), 3) := dk_167 255 229 (dk_at dksX3_clear_7 12 rfl rfl)
theorem dX3_clear_181 : decode cX3_clear 181 = .ok (.iconst 0, 1) := dk_3 (dk_at dksX3_clear_7 15 rfl rfl)
theorem dX3_clear_182 : decode cX3_clear 182 = .ok (.istore_n 2, 1) := dk_61 (dk_at dksX3_clear_7 16 rfl rfl)
theorem dX3_clear_183 : decode cX3_clear 183 = .ok (.iload_n 2, 1) := dk_28 (dk_at dksX3_clear_7 17 rfl rfl)
theorem dX3_clear_184 : decode cX3_clear 184 = .ok (.aload_n 0, 1) := dk_42 (dk_at dksX3_clear_7 18 rfl rfl)
theorem dX3_clear_185 : decode cX3_clear 185 = .ok (.getfield 201, 3) := dk_180 0 201 (dk_at dksX3_clear_7 19 rfl rfl)
theorem dX3_clear_188 : decode cX3_clear 188 = .ok (.if_icmp .ge 87, 3) := dk_162 0 87 (dk_at dksX3_clear_8 0 rfl rfl)
theorem dX3_clear_191 : decode cX3_clear 191 = .ok (.aload_n 0, 1) := dk_42 (dk_at dksX3_clear_8 3 rfl rfl)
theorem dX3_clear_192 : decode cX3_clear 192 = .ok (.getfield 31, 3) := dk_180 0 31 (dk_at dksX3_clear_8 4 rfl rfl)
theorem dX3_clear_195 : decode cX3_clear 195 = .ok (.iload_n 2, 1) := dk_28 (dk_at dksX3_clear_8 7 rfl rfl)
theorem dX3_clear_196 : decode cX3_clear 196 = .ok (.iaload, 1) := dk_46 (dk_at dksX3_clear_8 8 rfl rfl)
theorem dX3_clear_197 : decode cX3_clear 197 = .ok (.iconst 1, 1) := dk_4 (dk_at dksX3_clear_8 9 rfl rfl)
theorem dX3_clear_198 : decode cX3_clear 198 = .ok (.if_icmp .ne 13, 3) := dk_160 0 13 (dk_at dksX3_clear_8 10 rfl rfl)
theorem dX3_clear_201 : decode cX3_clear 201 = .ok (.aload_n 0, 1) := dk_42 (dk_at dksX3_clear_8 13 rfl rfl)
theorem dX3_clear_202 : decode cX3_clear 202 = .ok (.getfield 40, 3) := dk_180 0 40 (dk_at dksX3_clear_8 14 rfl rfl)
theorem dX3_clear_205 : decode cX3_clear 205 = .ok (.iload_n 2, 1) := dk_28 (dk_at dksX3_clear_8 17 rfl rfl)
theorem dX3_clear_206 : decode cX3_clear 206 = .ok (.iaload, 1) := dk_46 (dk_at dksX3_clear_8 18 rfl rfl)
theorem dX3_clear_207 : decode cX3_clear 207 = .ok (.ineg, 1) := dk_116 (dk_at dksX3_clear_8 19 rfl rfl)
theorem dX3_clear_208 : decode cX3_clear 208 = .ok (.goto 9, 3) := dk_167 0 9 (dk_at dksX3_clear_8 20 rfl rfl)
theorem dX3_clear_211 : decode cX3_clear 211 = .ok (.aload_n 0, 1) := dk_42 (dk_at dksX3_clear_8 23 rfl rfl)
theorem dX3_clear_212 : decode cX3_clear 212 = .ok (.getfield 40, 3) := dk_180 0 40 (dk_at dksX3_clear_9 0 rfl rfl)
theorem dX3_clear_215 : decode cX3_clear 215 = .ok (.iload_n 2, 1) := dk_28 (dk_at dksX3_clear_9 3 rfl rfl)
theorem dX3_clear_216 : decode cX3_clear 216 = .ok (.iaload, 1) := dk_46 (dk_at dksX3_clear_9 4 rfl rfl)
theorem dX3_clear_217 : decode cX3_clear 217 = .ok (.istore_n 3, 1) := dk_62 (dk_at dksX3_clear_9 5 rfl rfl)
theorem dX3_clear_218 : decode cX3_clear 218 = .ok (.aload_n 0, 1) := dk_42 (dk_at dksX3_clear_9 6 rfl rfl)
theorem dX3_clear_219 : decode cX3_clear 219 = .ok (.aload_n 0, 1) := dk_42 (dk_at dksX3_clear_9 7 rfl rfl)
theorem dX3_clear_220 : decode cX3_clear 220 = .ok (.getfield 22, 3) := dk_180 0 22 (dk_at dksX3_clear_9 8 rfl rfl)
theorem dX3_clear_223 : decode cX3_clear 223 = .ok (.iload_n 2, 1) := dk_28 (dk_at dksX3_clear_9 11 rfl rfl)
theorem dX3_clear_224 : decode cX3_clear 224 = .ok (.iaload, 1) := dk_46 (dk_at dksX3_clear_9 12 rfl rfl)
theorem dX3_clear_225 : decode cX3_clear 225 = .ok (.aload_n 0, 1) := dk_42 (dk_at dksX3_clear_9 13 rfl rfl)
theorem dX3_clear_226 : decode cX3_clear 226 = .ok (.getfield 25, 3) := dk_180 0 25 (dk_at dksX3_clear_9 14 rfl rfl)
theorem dX3_clear_229 : decode cX3_clear 229 = .ok (.iload_n 2, 1) := dk_28 (dk_at dksX3_clear_9 17 rfl rfl)
theorem dX3_clear_230 : decode cX3_clear 230 = .ok (.iaload, 1) := dk_46 (dk_at dksX3_clear_9 18 rfl rfl)
theorem dX3_clear_231 : decode cX3_clear 231 = .ok (.aload_n 0, 1) := dk_42 (dk_at dksX3_clear_9 19 rfl rfl)
theorem dX3_clear_232 : decode cX3_clear 232 = .ok (.getfield 28, 3) := dk_180 0 28 (dk_at dksX3_clear_9 20 rfl rfl)
theorem dX3_clear_235 : decode cX3_clear 235 = .ok (.iload_n 2, 1) := dk_28 (dk_at dksX3_clear_9 23 rfl rfl)
theorem dX3_clear_236 : decode cX3_clear 236 = .ok (.iaload, 1) := dk_46 (dk_at dksX3_clear_10 0 rfl rfl)
theorem dX3_clear_237 : decode cX3_clear 237 = .ok (.iload_n 3, 1) := dk_29 (dk_at dksX3_clear_10 1 rfl rfl)
theorem dX3_clear_238 : decode cX3_clear 238 = .ok (.aload_n 0, 1) := dk_42 (dk_at dksX3_clear_10 2 rfl rfl)
theorem dX3_clear_239 : decode cX3_clear 239 = .ok (.getfield 130, 3) := dk_180 0 130 (dk_at dksX3_clear_10 3 rfl rfl)
theorem dX3_clear_242 : decode cX3_clear 242 = .ok (.bipush 12, 2) := dk_16 12 (dk_at dksX3_clear_10 6 rfl rfl)
theorem dX3_clear_244 : decode cX3_clear 244 = .ok (.aload_n 0, 1) := dk_42 (dk_at dksX3_clear_10 8 rfl rfl)
theorem dX3_clear_245 : decode cX3_clear 245 = .ok (.getfield 183, 3) := dk_180 0 183 (dk_at dksX3_clear_10 9 rfl rfl)
theorem dX3_clear_248 : decode cX3_clear 248 = .ok (.imul, 1) := dk_104 (dk_at dksX3_clear_10 12 rfl rfl)
theorem dX3_clear_249 : decode cX3_clear 249 = .ok (.iconst 4, 1) := dk_7 (dk_at dksX3_clear_10 13 rfl rfl)
theorem dX3_clear_250 : decode cX3_clear 250 = .ok (.aload_n 0, 1) := dk_42 (dk_at dksX3_clear_10 14 rfl rfl)
theorem dX3_clear_251 : decode cX3_clear 251 = .ok (.getfield 25, 3) := dk_180 0 25 (dk_at dksX3_clear_10 15 rfl rfl)
theorem dX3_clear_254 : decode cX3_clear 254 = .ok (.iload_n 2, 1) := dk_28 (dk_at dksX3_clear_10 18 rfl rfl)
theorem dX3_clear_255 : decode cX3_clear 255 = .ok (.iaload, 1) := dk_46 (dk_at dksX3_clear_10 19 rfl rfl)
theorem dX3_clear_256 : decode cX3_clear 256 = .ok (.imul, 1) := dk_104 (dk_at dksX3_clear_10 20 rfl rfl)
theorem dX3_clear_257 : decode cX3_clear 257 = .ok (.iadd, 1) := dk_96 (dk_at dksX3_clear_10 21 rfl rfl)
theorem dX3_clear_258 : decode cX3_clear 258 = .ok (.aload_n 0, 1) := dk_42 (dk_at dksX3_clear_10 22 rfl rfl)
theorem dX3_clear_259 : decode cX3_clear 259 = .ok (.getfield 28, 3) := dk_180 0 28 (dk_at dksX3_clear_11 0 rfl rfl)
theorem dX3_clear_262 : decode cX3_clear 262 = .ok (.iload_n 2, 1) := dk_28 (dk_at dksX3_clear_11 3 rfl rfl)
theorem dX3_clear_263 : decode cX3_clear 263 = .ok (.iaload, 1) := dk_46 (dk_at dksX3_clear_11 4 rfl rfl)
theorem dX3_clear_264 : decode cX3_clear 264 = .ok (.iadd, 1) := dk_96 (dk_at dksX3_clear_11 5 rfl rfl)
theorem dX3_clear_265 : decode cX3_clear 265 = .ok (.iaload, 1) := dk_46 (dk_at dksX3_clear_11 6 rfl rfl)
theorem dX3_clear_266 : decode cX3_clear 266 = .ok (.invokevirtual 287, 3) := dk_182 1 31 (dk_at dksX3_clear_11 7 rfl rfl)
theorem dX3_clear_269 : decode cX3_clear 269 = .ok (.iinc 2 1, 3) := dk_132 2 1 (dk_at dksX3_clear_11 10 rfl rfl)
theorem dX3_clear_272 : decode cX3_clear 272 = .ok (.goto (-89), 3) := dk_167 255 167 (dk_at dksX3_clear_11 13 rfl rfl)
theorem dX3_clear_275 : decode cX3_clear 275 = .ok (.iconst 0, 1) := dk_3 (dk_at dksX3_clear_11 16 rfl rfl)
theorem dX3_clear_276 : decode cX3_clear 276 = .ok (.istore_n 2, 1) := dk_61 (dk_at dksX3_clear_11 17 rfl rfl)
theorem dX3_clear_277 : decode cX3_clear 277 = .ok (.iload_n 2, 1) := dk_28 (dk_at dksX3_clear_11 18 rfl rfl)
theorem dX3_clear_278 : decode cX3_clear 278 = .ok (.aload_n 0, 1) := dk_42 (dk_at dksX3_clear_11 19 rfl rfl)
theorem dX3_clear_279 : decode cX3_clear 279 = .ok (.getfield 204, 3) := dk_180 0 204 (dk_at dksX3_clear_11 20 rfl rfl)
theorem dX3_clear_282 : decode cX3_clear 282 = .ok (.if_icmp .ge 134, 3) := dk_162 0 134 (dk_at dksX3_clear_12 0 rfl rfl)
theorem dX3_clear_285 : decode cX3_clear 285 = .ok (.iconst 0, 1) := dk_3 (dk_at dksX3_clear_12 3 rfl rfl)
theorem dX3_clear_286 : decode cX3_clear 286 = .ok (.istore_n 3, 1) := dk_62 (dk_at dksX3_clear_12 4 rfl rfl)
theorem dX3_clear_287 : decode cX3_clear 287 = .ok (.iload_n 3, 1) := dk_29 (dk_at dksX3_clear_12 5 rfl rfl)
theorem dX3_clear_288 : decode cX3_clear 288 = .ok (.iconst 4, 1) := dk_7 (dk_at dksX3_clear_12 6 rfl rfl)
theorem dX3_clear_289 : decode cX3_clear 289 = .ok (.if_icmp .ge 121, 3) := dk_162 0 121 (dk_at dksX3_clear_12 7 rfl rfl)
theorem dX3_clear_292 : decode cX3_clear 292 = .ok (.aload_n 0, 1) := dk_42 (dk_at dksX3_clear_12 10 rfl rfl)
theorem dX3_clear_293 : decode cX3_clear 293 = .ok (.getfield 275, 3) := dk_180 1 19 (dk_at dksX3_clear_12 11 rfl rfl)
theorem dX3_clear_296 : decode cX3_clear 296 = .ok (.iload_n 2, 1) := dk_28 (dk_at dksX3_clear_12 14 rfl rfl)
theorem dX3_clear_297 : decode cX3_clear 297 = .ok (.ishr, 1) := dk_122 (dk_at dksX3_clear_12 15 rfl rfl)
theorem dX3_clear_298 : decode cX3_clear 298 = .ok (.iconst 1, 1) := dk_4 (dk_at dksX3_clear_12 16 rfl rfl)
theorem dX3_clear_299 : decode cX3_clear 299 = .ok (.iand, 1) := dk_126 (dk_at dksX3_clear_12 17 rfl rfl)
theorem dX3_clear_300 : decode cX3_clear 300 = .ok (.iconst 1, 1) := dk_4 (dk_at dksX3_clear_12 18 rfl rfl)
theorem dX3_clear_301 : decode cX3_clear 301 = .ok (.if_icmp .ne 21, 3) := dk_160 0 21 (dk_at dksX3_clear_12 19 rfl rfl)
theorem dX3_clear_304 : decode cX3_clear 304 = .ok (.aload_n 0, 1) := dk_42 (dk_at dksX3_clear_12 22 rfl rfl)
theorem dX3_clear_305 : decode cX3_clear 305 = .ok (.getfield 52, 3) := dk_180 0 52 (dk_at dksX3_clear_13 0 rfl rfl)
theorem dX3_clear_308 : decode cX3_clear 308 = .ok (.iload_n 2, 1) := dk_28 (dk_at dksX3_clear_13 3 rfl rfl)
theorem dX3_clear_309 : decode cX3_clear 309 = .ok (.iaload, 1) := dk_46 (dk_at dksX3_clear_13 4 rfl rfl)
theorem dX3_clear_310 : decode cX3_clear 310 = .ok (.iload_n 3, 1) := dk_29 (dk_at dksX3_clear_13 5 rfl rfl)
theorem dX3_clear_311 : decode cX3_clear 311 = .ok (.ishr, 1) := dk_122 (dk_at dksX3_clear_13 6 rfl rfl)
theorem dX3_clear_312 : decode cX3_clear 312 = .ok (.iconst 1, 1) := dk_4 (dk_at dksX3_clear_13 7 rfl rfl)
theorem dX3_clear_313 : decode cX3_clear 313 = .ok (.iand, 1) := dk_126 (dk_at dksX3_clear_13 8 rfl rfl)
theorem dX3_clear_314 : decode cX3_clear 314 = .ok (.iconst 1, 1) := dk_4 (dk_at dksX3_clear_13 9 rfl rfl)
theorem dX3_clear_315 : decode cX3_clear 315 = .ok (.if_icmp .ne 7, 3) := dk_160 0 7 (dk_at dksX3_clear_13 10 rfl rfl)
theorem dX3_clear_318 : decode cX3_clear 318 = .ok (.iconst 1, 1) := dk_4 (dk_at dksX3_clear_13 13 rfl rfl)
theorem dX3_clear_319 : decode cX3_clear 319 = .ok (.goto 4, 3) := dk_167 0 4 (dk_at dksX3_clear_13 14 rfl rfl)
theorem dX3_clear_322 : decode cX3_clear 322 = .ok (.iconst 0, 1) := dk_3 (dk_at dksX3_clear_13 17 rfl rfl)
theorem dX3_clear_323 : decode cX3_clear 323 = .ok (.istore 4, 2) := dk_54 4 (dk_at dksX3_clear_13 18 rfl rfl)
theorem dX3_clear_325 : decode cX3_clear 325 = .ok (.iload 4, 2) := dk_21 4 (dk_at dksX3_clear_13 20 rfl rfl)
theorem dX3_clear_327 : decode cX3_clear 327 = .ok (.ifCond .ne 7, 3) := dk_154 0 7 (dk_at dksX3_clear_14 0 rfl rfl)
theorem dX3_clear_330 : decode cX3_clear 330 = .ok (.iconst 0, 1) := dk_3 (dk_at dksX3_clear_14 3 rfl rfl)
theorem dX3_clear_331 : decode cX3_clear 331 = .ok (.goto 29, 3) := dk_167 0 29 (dk_at dksX3_clear_14 4 rfl rfl)
theorem dX3_clear_334 : decode cX3_clear 334 = .ok (.aload_n 0, 1) := dk_42 (dk_at dksX3_clear_14 7 rfl rfl)
theorem dX3_clear_335 : decode cX3_clear 335 = .ok (.getfield 55, 3) := dk_180 0 55 (dk_at dksX3_clear_14 8 rfl rfl)
theorem dX3_clear_338 : decode cX3_clear 338 = .ok (.iload_n 2, 1) := dk_28 (dk_at dksX3_clear_14 11 rfl rfl)
theorem dX3_clear_339 : decode cX3_clear 339 = .ok (.iaload, 1) := dk_46 (dk_at dksX3_clear_14 12 rfl rfl)
theorem dX3_clear_340 : decode cX3_clear 340 = .ok (.iconst 1, 1) := dk_4 (dk_at dksX3_clear_14 13 rfl rfl)
theorem dX3_clear_341 : decode cX3_clear 341 = .ok (.if_icmp .ne 13, 3) := dk_160 0 13 (dk_at dksX3_clear_14 14 rfl rfl)
theorem dX3_clear_344 : decode cX3_clear 344 = .ok (.aload_n 0, 1) := dk_42 (dk_at dksX3_clear_14 17 rfl rfl)
theorem dX3_clear_345 : decode cX3_clear 345 = .ok (.getfield 61, 3) := dk_180 0 61 (dk_at dksX3_clear_14 18 rfl rfl)
theorem dX3_clear_348 : decode cX3_clear 348 = .ok (.iload_n 2, 1) := dk_28 (dk_at dksX3_clear_14 21 rfl rfl)
theorem dX3_clear_349 : decode cX3_clear 349 = .ok (.iaload, 1) := dk_46 (dk_at dksX3_clear_14 22 rfl rfl)
theorem dX3_clear_350 : decode cX3_clear 350 = .ok (.ineg, 1) := dk_116 (dk_at dksX3_clear_14 23 rfl rfl)
theorem dX3_clear_351 : decode cX3_clear 351 = .ok (.goto 9, 3) := dk_167 0 9 (dk_at dksX3_clear_15 0 rfl rfl)
theorem dX3_clear_354 : decode cX3_clear 354 = .ok (.aload_n 0, 1) := dk_42 (dk_at dksX3_clear_15 3 rfl rfl)
theorem dX3_clear_355 : decode cX3_clear 355 = .ok (.getfield 61, 3) := dk_180 0 61 (dk_at dksX3_clear_15 4 rfl rfl)
theorem dX3_clear_358 : decode cX3_clear 358 = .ok (.iload_n 2, 1) := dk_28 (dk_at dksX3_clear_15 7 rfl rfl)
theorem dX3_clear_359 : decode cX3_clear 359 = .ok (.iaload, 1) := dk_46 (dk_at dksX3_clear_15 8 rfl rfl)
theorem dX3_clear_360 : decode cX3_clear 360 = .ok (.istore 5, 2) := dk_54 5 (dk_at dksX3_clear_15 9 rfl rfl)
theorem dX3_clear_362 : decode cX3_clear 362 = .ok (.aload_n 0, 1) := dk_42 (dk_at dksX3_clear_15 11 rfl rfl)
theorem dX3_clear_363 : decode cX3_clear 363 = .ok (.aload_n 0, 1) := dk_42 (dk_at dksX3_clear_15 12 rfl rfl)
theorem dX3_clear_364 : decode cX3_clear 364 = .ok (.getfield 46, 3) := dk_180 0 46 (dk_at dksX3_clear_15 13 rfl rfl)
theorem dX3_clear_367 : decode cX3_clear 367 = .ok (.iload_n 2, 1) := dk_28 (dk_at dksX3_clear_15 16 rfl rfl)
theorem dX3_clear_368 : decode cX3_clear 368 = .ok (.iaload, 1) := dk_46 (dk_at dksX3_clear_15 17 rfl rfl)
theorem dX3_clear_369 : decode cX3_clear 369 = .ok (.aload_n 0, 1) := dk_42 (dk_at dksX3_clear_15 18 rfl rfl)
theorem dX3_clear_370 : decode cX3_clear 370 = .ok (.getfield 49, 3) := dk_180 0 49 (dk_at dksX3_clear_15 19 rfl rfl)
theorem dX3_clear_373 : decode cX3_clear 373 = .ok (.iload_n 2, 1) := dk_28 (dk_at dksX3_clear_15 22 rfl rfl)
theorem dX3_clear_374 : decode cX3_clear 374 = .ok (.iaload, 1) := dk_46 (dk_at dksX3_clear_15 23 rfl rfl)
theorem dX3_clear_375 : decode cX3_clear 375 = .ok (.iload_n 3, 1) := dk_29 (dk_at dksX3_clear_16 0 rfl rfl)
theorem dX3_clear_376 : decode cX3_clear 376 = .ok (.iload 5, 2) := dk_21 5 (dk_at dksX3_clear_16 1 rfl rfl)
theorem dX3_clear_378 : decode cX3_clear 378 = .ok (.aload_n 0, 1) := dk_42 (dk_at dksX3_clear_16 3 rfl rfl)
theorem dX3_clear_379 : decode cX3_clear 379 = .ok (.getfield 130, 3) := dk_180 0 130 (dk_at dksX3_clear_16 4 rfl rfl)
theorem dX3_clear_382 : decode cX3_clear 382 = .ok (.bipush 12, 2) := dk_16 12 (dk_at dksX3_clear_16 7 rfl rfl)
theorem dX3_clear_384 : decode cX3_clear 384 = .ok (.aload_n 0, 1) := dk_42 (dk_at dksX3_clear_16 9 rfl rfl)
theorem dX3_clear_385 : decode cX3_clear 385 = .ok (.getfield 183, 3) := dk_180 0 183 (dk_at dksX3_clear_16 10 rfl rfl)
theorem dX3_clear_388 : decode cX3_clear 388 = .ok (.imul, 1) := dk_104 (dk_at dksX3_clear_16 13 rfl rfl)
theorem dX3_clear_389 : decode cX3_clear 389 = .ok (.iconst 4, 1) := dk_7 (dk_at dksX3_clear_16 14 rfl rfl)
theorem dX3_clear_390 : decode cX3_clear 390 = .ok (.aload_n 0, 1) := dk_42 (dk_at dksX3_clear_16 15 rfl rfl)
theorem dX3_clear_391 : decode cX3_clear 391 = .ok (.getfield 49, 3) := dk_180 0 49 (dk_at dksX3_clear_16 16 rfl rfl)
theorem dX3_clear_394 : decode cX3_clear 394 = .ok (.iload_n 2, 1) := dk_28 (dk_at dksX3_clear_16 19 rfl rfl)
theorem dX3_clear_395 : decode cX3_clear 395 = .ok (.iaload, 1) := dk_46 (dk_at dksX3_clear_16 20 rfl rfl)
theorem dX3_clear_396 : decode cX3_clear 396 = .ok (.imul, 1) := dk_104 (dk_at dksX3_clear_16 21 rfl rfl)
theorem dX3_clear_397 : decode cX3_clear 397 = .ok (.iadd, 1) := dk_96 (dk_at dksX3_clear_16 22 rfl rfl)
theorem dX3_clear_398 : decode cX3_clear 398 = .ok (.iload_n 3, 1) := dk_29 (dk_at dksX3_clear_16 23 rfl rfl)
theorem dX3_clear_399 : decode cX3_clear 399 = .ok (.iadd, 1) := dk_96 (dk_at dksX3_clear_17 0 rfl rfl)
theorem dX3_clear_400 : decode cX3_clear 400 = .ok (.iaload, 1) := dk_46 (dk_at dksX3_clear_17 1 rfl rfl)
theorem dX3_clear_401 : decode cX3_clear 401 = .ok (.invokevirtual 287, 3) := dk_182 1 31 (dk_at dksX3_clear_17 2 rfl rfl)
theorem dX3_clear_404 : decode cX3_clear 404 = .ok (.iinc 3 1, 3) := dk_132 3 1 (dk_at dksX3_clear_17 5 rfl rfl)
theorem dX3_clear_407 : decode cX3_clear 407 = .ok (.goto (-120), 3) := dk_167 255 136 (dk_at dksX3_clear_17 8 rfl rfl)
theorem dX3_clear_410 : decode cX3_clear 410 = .ok (.iinc 2 1, 3) := dk_132 2 1 (dk_at dksX3_clear_17 11 rfl rfl)
theorem dX3_clear_413 : decode cX3_clear 413 = .ok (.goto (-136), 3) := dk_167 255 120 (dk_at dksX3_clear_17 14 rfl rfl)
theorem dX3_clear_416 : decode cX3_clear 416 = .ok (.iconst 0, 1) := dk_3 (dk_at dksX3_clear_17 17 rfl rfl)
theorem dX3_clear_417 : decode cX3_clear 417 = .ok (.istore_n 2, 1) := dk_61 (dk_at dksX3_clear_17 18 rfl rfl)
theorem dX3_clear_418 : decode cX3_clear 418 = .ok (.iload_n 2, 1) := dk_28 (dk_at dksX3_clear_17 19 rfl rfl)
theorem dX3_clear_419 : decode cX3_clear 419 = .ok (.iconst 3, 1) := dk_6 (dk_at dksX3_clear_17 20 rfl rfl)
theorem dX3_clear_420 : decode cX3_clear 420 = .ok (.if_icmp .ge 33, 3) := dk_162 0 33 (dk_at dksX3_clear_17 21 rfl rfl)
theorem dX3_clear_423 : decode cX3_clear 423 = .ok (.iconst 0, 1) := dk_3 (dk_at dksX3_clear_18 0 rfl rfl)
theorem dX3_clear_424 : decode cX3_clear 424 = .ok (.istore_n 3, 1) := dk_62 (dk_at dksX3_clear_18 1 rfl rfl)
theorem dX3_clear_425 : decode cX3_clear 425 = .ok (.iload_n 3, 1) := dk_29 (dk_at dksX3_clear_18 2 rfl rfl)
theorem dX3_clear_426 : decode cX3_clear 426 = .ok (.iconst 3, 1) := dk_6 (dk_at dksX3_clear_18 3 rfl rfl)
theorem dX3_clear_427 : decode cX3_clear 427 = .ok (.if_icmp .ge 20, 3) := dk_162 0 20 (dk_at dksX3_clear_18 4 rfl rfl)
theorem dX3_clear_430 : decode cX3_clear 430 = .ok (.iload_n 2, 1) := dk_28 (dk_at dksX3_clear_18 7 rfl rfl)
theorem dX3_clear_431 : decode cX3_clear 431 = .ok (.iload_n 3, 1) := dk_29 (dk_at dksX3_clear_18 8 rfl rfl)
theorem dX3_clear_432 : decode cX3_clear 432 = .ok (.if_icmp .eq 9, 3) := dk_159 0 9 (dk_at dksX3_clear_18 9 rfl rfl)
theorem dX3_clear_435 : decode cX3_clear 435 = .ok (.aload_n 0, 1) := dk_42 (dk_at dksX3_clear_18 12 rfl rfl)
theorem dX3_clear_436 : decode cX3_clear 436 = .ok (.iload_n 2, 1) := dk_28 (dk_at dksX3_clear_18 13 rfl rfl)
theorem dX3_clear_437 : decode cX3_clear 437 = .ok (.iload_n 3, 1) := dk_29 (dk_at dksX3_clear_18 14 rfl rfl)
theorem dX3_clear_438 : decode cX3_clear 438 = .ok (.invokevirtual 291, 3) := dk_182 1 35 (dk_at dksX3_clear_18 15 rfl rfl)
theorem dX3_clear_441 : decode cX3_clear 441 = .ok (.iinc 3 1, 3) := dk_132 3 1 (dk_at dksX3_clear_18 18 rfl rfl)
theorem dX3_clear_444 : decode cX3_clear 444 = .ok (.goto (-19), 3) := dk_167 255 237 (dk_at dksX3_clear_18 21 rfl rfl)
theorem dX3_clear_447 : decode cX3_clear 447 = .ok (.iinc 2 1, 3) := dk_132 2 1 (dk_at dksX3_clear_19 0 rfl rfl)
theorem dX3_clear_450 : decode cX3_clear 450 = .ok (.goto (-32), 3) := dk_167 255 224 (dk_at dksX3_clear_19 3 rfl rfl)
theorem dX3_clear_453 : decode cX3_clear 453 = .ok (.aload_n 0, 1) := dk_42 (dk_at dksX3_clear_19 6 rfl rfl)
theorem dX3_clear_454 : decode cX3_clear 454 = .ok (.iconst 1, 1) := dk_4 (dk_at dksX3_clear_19 7 rfl rfl)
theorem dX3_clear_455 : decode cX3_clear 455 = .ok (.putfield 192, 3) := dk_181 0 192 (dk_at dksX3_clear_19 8 rfl rfl)
theorem dX3_clear_458 : decode cX3_clear 458 = .ok (.iload_n 1, 1) := dk_27 (dk_at dksX3_clear_19 11 rfl rfl)
theorem dX3_clear_459 : decode cX3_clear 459 = .ok (.ireturn, 1) := dk_172 (dk_at dksX3_clear_19 12 rfl rfl)
abbrev cX3_forgets : ByteArray := prog_15_method_15_code
def yX3_forgets : MethodName := ⟨RX3, "forgets", "()V"⟩
def dkwX3_forgets_0 : List UInt8 := [3, 60, 27, 16, 40, 162, 0, 16, 42, 180, 0, 43, 27, 3, 79, 132, 1, 1, 167, 255, 240, 177]
abbrev dktX3_forgets_0 : List UInt8 := dkwX3_forgets_0 ++ []
theorem dksX3_forgets_0 : cX3_forgets.data.toList.drop 0 = dktX3_forgets_0 := by decide +kernel
theorem dX3_forgets_0 : decode cX3_forgets 0 = .ok (.iconst 0, 1) := dk_3 (dk_at dksX3_forgets_0 0 rfl rfl)
theorem dX3_forgets_1 : decode cX3_forgets 1 = .ok (.istore_n 1, 1) := dk_60 (dk_at dksX3_forgets_0 1 rfl rfl)
theorem dX3_forgets_2 : decode cX3_forgets 2 = .ok (.iload_n 1, 1) := dk_27 (dk_at dksX3_forgets_0 2 rfl rfl)
theorem dX3_forgets_3 : decode cX3_forgets 3 = .ok (.bipush 40, 2) := dk_16 40 (dk_at dksX3_forgets_0 3 rfl rfl)
theorem dX3_forgets_5 : decode cX3_forgets 5 = .ok (.if_icmp .ge 16, 3) := dk_162 0 16 (dk_at dksX3_forgets_0 5 rfl rfl)
theorem dX3_forgets_8 : decode cX3_forgets 8 = .ok (.aload_n 0, 1) := dk_42 (dk_at dksX3_forgets_0 8 rfl rfl)
theorem dX3_forgets_9 : decode cX3_forgets 9 = .ok (.getfield 43, 3) := dk_180 0 43 (dk_at dksX3_forgets_0 9 rfl rfl)
theorem dX3_forgets_12 : decode cX3_forgets 12 = .ok (.iload_n 1, 1) := dk_27 (dk_at dksX3_forgets_0 12 rfl rfl)
theorem dX3_forgets_13 : decode cX3_forgets 13 = .ok (.iconst 0, 1) := dk_3 (dk_at dksX3_forgets_0 13 rfl rfl)
theorem dX3_forgets_14 : decode cX3_forgets 14 = .ok (.iastore, 1) := dk_79 (dk_at dksX3_forgets_0 14 rfl rfl)
theorem dX3_forgets_15 : decode cX3_forgets 15 = .ok (.iinc 1 1, 3) := dk_132 1 1 (dk_at dksX3_forgets_0 15 rfl rfl)
theorem dX3_forgets_18 : decode cX3_forgets 18 = .ok (.goto (-16), 3) := dk_167 255 240 (dk_at dksX3_forgets_0 18 rfl rfl)
theorem dX3_forgets_21 : decode cX3_forgets 21 = .ok (.return_, 1) := dk_177 (dk_at dksX3_forgets_0 21 rfl rfl)
abbrev cX3_weighs : ByteArray := prog_15_method_17_code
def yX3_weighs : MethodName := ⟨RX3, "weighs", "(II)V"⟩
def dkwX3_weighs_6 : List UInt8 := [180, 0, 163, 21, 4, 21, 6, 79, 132, 6, 1, 167, 255, 182, 132, 3, 1, 167, 255, 119, 177]
abbrev dktX3_weighs_6 : List UInt8 := dkwX3_weighs_6 ++ []
def dkwX3_weighs_5 : List UInt8 := [54, 7, 21, 7, 42, 180, 0, 160, 21, 4, 46, 164, 0, 21, 42, 180, 0, 160, 21, 4, 21, 7, 79, 42]
abbrev dktX3_weighs_5 : List UInt8 := dkwX3_weighs_5 ++ dktX3_weighs_6
def dkwX3_weighs_4 : List UInt8 := [180, 0, 217, 163, 0, 59, 42, 180, 0, 157, 21, 6, 46, 42, 180, 0, 154, 21, 5, 21, 6, 96, 46, 100]
abbrev dktX3_weighs_4 : List UInt8 := dkwX3_weighs_4 ++ dktX3_weighs_5
def dkwX3_weighs_3 : List UInt8 := [21, 5, 116, 167, 0, 4, 3, 54, 6, 21, 6, 42, 180, 0, 220, 163, 0, 71, 21, 5, 21, 6, 96, 42]
abbrev dktX3_weighs_3 : List UInt8 := dkwX3_weighs_3 ++ dktX3_weighs_4
def dkwX3_weighs_2 : List UInt8 := [54, 5, 42, 180, 0, 160, 21, 4, 18, 223, 79, 42, 180, 0, 163, 21, 4, 3, 79, 21, 5, 156, 0, 9]
abbrev dktX3_weighs_2 : List UInt8 := dkwX3_weighs_2 ++ dktX3_weighs_3
def dkwX3_weighs_1 : List UInt8 := [29, 17, 0, 161, 162, 0, 136, 17, 0, 161, 7, 27, 104, 28, 96, 104, 29, 96, 54, 4, 29, 16, 80, 100]
abbrev dktX3_weighs_1 : List UInt8 := dkwX3_weighs_1 ++ dktX3_weighs_2
def dkwX3_weighs_0 : List UInt8 := [42, 42, 27, 28, 3, 182, 0, 214, 181, 0, 217, 42, 42, 27, 28, 4, 182, 0, 214, 181, 0, 220, 3, 62]
abbrev dktX3_weighs_0 : List UInt8 := dkwX3_weighs_0 ++ dktX3_weighs_1
theorem dksX3_weighs_0 : cX3_weighs.data.toList.drop 0 = dktX3_weighs_0 := by decide +kernel
theorem dksX3_weighs_1 : cX3_weighs.data.toList.drop 24 = dktX3_weighs_1 := dk_seg dksX3_weighs_0 24 rfl rfl
theorem dksX3_weighs_2 : cX3_weighs.data.toList.drop 48 = dktX3_weighs_2 := dk_seg dksX3_weighs_1 24 rfl rfl
theorem dksX3_weighs_3 : cX3_weighs.data.toList.drop 72 = dktX3_weighs_3 := dk_seg dksX3_weighs_2 24 rfl rfl
theorem dksX3_weighs_4 : cX3_weighs.data.toList.drop 96 = dktX3_weighs_4 := dk_seg dksX3_weighs_3 24 rfl rfl
theorem dksX3_weighs_5 : cX3_weighs.data.toList.drop 120 = dktX3_weighs_5 := dk_seg dksX3_weighs_4 24 rfl rfl
theorem dksX3_weighs_6 : cX3_weighs.data.toList.drop 144 = dktX3_weighs_6 := dk_seg dksX3_weighs_5 24 rfl rfl
theorem dX3_weighs_0 : decode cX3_weighs 0 = .ok (.aload_n 0, 1) := dk_42 (dk_at dksX3_weighs_0 0 rfl rfl)
theorem dX3_weighs_1 : decode cX3_weighs 1 = .ok (.aload_n 0, 1) := dk_42 (dk_at dksX3_weighs_0 1 rfl rfl)
theorem dX3_weighs_2 : decode cX3_weighs 2 = .ok (.iload_n 1, 1) := dk_27 (dk_at dksX3_weighs_0 2 rfl rfl)
theorem dX3_weighs_3 : decode cX3_weighs 3 = .ok (.iload_n 2, 1) := dk_28 (dk_at dksX3_weighs_0 3 rfl rfl)
theorem dX3_weighs_4 : decode cX3_weighs 4 = .ok (.iconst 0, 1) := dk_3 (dk_at dksX3_weighs_0 4 rfl rfl)
theorem dX3_weighs_5 : decode cX3_weighs 5 = .ok (.invokevirtual 214, 3) := dk_182 0 214 (dk_at dksX3_weighs_0 5 rfl rfl)
theorem dX3_weighs_8 : decode cX3_weighs 8 = .ok (.putfield 217, 3) := dk_181 0 217 (dk_at dksX3_weighs_0 8 rfl rfl)
theorem dX3_weighs_11 : decode cX3_weighs 11 = .ok (.aload_n 0, 1) := dk_42 (dk_at dksX3_weighs_0 11 rfl rfl)
theorem dX3_weighs_12 : decode cX3_weighs 12 = .ok (.aload_n 0, 1) := dk_42 (dk_at dksX3_weighs_0 12 rfl rfl)
theorem dX3_weighs_13 : decode cX3_weighs 13 = .ok (.iload_n 1, 1) := dk_27 (dk_at dksX3_weighs_0 13 rfl rfl)
theorem dX3_weighs_14 : decode cX3_weighs 14 = .ok (.iload_n 2, 1) := dk_28 (dk_at dksX3_weighs_0 14 rfl rfl)
theorem dX3_weighs_15 : decode cX3_weighs 15 = .ok (.iconst 1, 1) := dk_4 (dk_at dksX3_weighs_0 15 rfl rfl)
theorem dX3_weighs_16 : decode cX3_weighs 16 = .ok (.invokevirtual 214, 3) := dk_182 0 214 (dk_at dksX3_weighs_0 16 rfl rfl)
theorem dX3_weighs_19 : decode cX3_weighs 19 = .ok (.putfield 220, 3) := dk_181 0 220 (dk_at dksX3_weighs_0 19 rfl rfl)
theorem dX3_weighs_22 : decode cX3_weighs 22 = .ok (.iconst 0, 1) := dk_3 (dk_at dksX3_weighs_0 22 rfl rfl)
theorem dX3_weighs_23 : decode cX3_weighs 23 = .ok (.istore_n 3, 1) := dk_62 (dk_at dksX3_weighs_0 23 rfl rfl)
theorem dX3_weighs_24 : decode cX3_weighs 24 = .ok (.iload_n 3, 1) := dk_29 (dk_at dksX3_weighs_1 0 rfl rfl)
theorem dX3_weighs_25 : decode cX3_weighs 25 = .ok (.sipush 161, 3) := dk_17 0 161 (dk_at dksX3_weighs_1 1 rfl rfl)
theorem dX3_weighs_28 : decode cX3_weighs 28 = .ok (.if_icmp .ge 136, 3) := dk_162 0 136 (dk_at dksX3_weighs_1 4 rfl rfl)
theorem dX3_weighs_31 : decode cX3_weighs 31 = .ok (.sipush 161, 3) := dk_17 0 161 (dk_at dksX3_weighs_1 7 rfl rfl)
theorem dX3_weighs_34 : decode cX3_weighs 34 = .ok (.iconst 4, 1) := dk_7 (dk_at dksX3_weighs_1 10 rfl rfl)
theorem dX3_weighs_35 : decode cX3_weighs 35 = .ok (.iload_n 1, 1) := dk_27 (dk_at dksX3_weighs_1 11 rfl rfl)
theorem dX3_weighs_36 : decode cX3_weighs 36 = .ok (.imul, 1) := dk_104 (dk_at dksX3_weighs_1 12 rfl rfl)
theorem dX3_weighs_37 : decode cX3_weighs 37 = .ok (.iload_n 2, 1) := dk_28 (dk_at dksX3_weighs_1 13 rfl rfl)
theorem dX3_weighs_38 : decode cX3_weighs 38 = .ok (.iadd, 1) := dk_96 (dk_at dksX3_weighs_1 14 rfl rfl)
theorem dX3_weighs_39 : decode cX3_weighs 39 = .ok (.imul, 1) := dk_104 (dk_at dksX3_weighs_1 15 rfl rfl)
theorem dX3_weighs_40 : decode cX3_weighs 40 = .ok (.iload_n 3, 1) := dk_29 (dk_at dksX3_weighs_1 16 rfl rfl)
theorem dX3_weighs_41 : decode cX3_weighs 41 = .ok (.iadd, 1) := dk_96 (dk_at dksX3_weighs_1 17 rfl rfl)
theorem dX3_weighs_42 : decode cX3_weighs 42 = .ok (.istore 4, 2) := dk_54 4 (dk_at dksX3_weighs_1 18 rfl rfl)
theorem dX3_weighs_44 : decode cX3_weighs 44 = .ok (.iload_n 3, 1) := dk_29 (dk_at dksX3_weighs_1 20 rfl rfl)
theorem dX3_weighs_45 : decode cX3_weighs 45 = .ok (.bipush 80, 2) := dk_16 80 (dk_at dksX3_weighs_1 21 rfl rfl)
theorem dX3_weighs_47 : decode cX3_weighs 47 = .ok (.isub, 1) := dk_100 (dk_at dksX3_weighs_1 23 rfl rfl)
theorem dX3_weighs_48 : decode cX3_weighs 48 = .ok (.istore 5, 2) := dk_54 5 (dk_at dksX3_weighs_2 0 rfl rfl)
theorem dX3_weighs_50 : decode cX3_weighs 50 = .ok (.aload_n 0, 1) := dk_42 (dk_at dksX3_weighs_2 2 rfl rfl)
theorem dX3_weighs_51 : decode cX3_weighs 51 = .ok (.getfield 160, 3) := dk_180 0 160 (dk_at dksX3_weighs_2 3 rfl rfl)
theorem dX3_weighs_54 : decode cX3_weighs 54 = .ok (.iload 4, 2) := dk_21 4 (dk_at dksX3_weighs_2 6 rfl rfl)
theorem dX3_weighs_56 : decode cX3_weighs 56 = .ok (.ldc 223, 2) := dk_18 223 (dk_at dksX3_weighs_2 8 rfl rfl)
theorem dX3_weighs_58 : decode cX3_weighs 58 = .ok (.iastore, 1) := dk_79 (dk_at dksX3_weighs_2 10 rfl rfl)
theorem dX3_weighs_59 : decode cX3_weighs 59 = .ok (.aload_n 0, 1) := dk_42 (dk_at dksX3_weighs_2 11 rfl rfl)
theorem dX3_weighs_60 : decode cX3_weighs 60 = .ok (.getfield 163, 3) := dk_180 0 163 (dk_at dksX3_weighs_2 12 rfl rfl)
theorem dX3_weighs_63 : decode cX3_weighs 63 = .ok (.iload 4, 2) := dk_21 4 (dk_at dksX3_weighs_2 15 rfl rfl)
theorem dX3_weighs_65 : decode cX3_weighs 65 = .ok (.iconst 0, 1) := dk_3 (dk_at dksX3_weighs_2 17 rfl rfl)
theorem dX3_weighs_66 : decode cX3_weighs 66 = .ok (.iastore, 1) := dk_79 (dk_at dksX3_weighs_2 18 rfl rfl)
theorem dX3_weighs_67 : decode cX3_weighs 67 = .ok (.iload 5, 2) := dk_21 5 (dk_at dksX3_weighs_2 19 rfl rfl)
theorem dX3_weighs_69 : decode cX3_weighs 69 = .ok (.ifCond .ge 9, 3) := dk_156 0 9 (dk_at dksX3_weighs_2 21 rfl rfl)
theorem dX3_weighs_72 : decode cX3_weighs 72 = .ok (.iload 5, 2) := dk_21 5 (dk_at dksX3_weighs_3 0 rfl rfl)
theorem dX3_weighs_74 : decode cX3_weighs 74 = .ok (.ineg, 1) := dk_116 (dk_at dksX3_weighs_3 2 rfl rfl)
theorem dX3_weighs_75 : decode cX3_weighs 75 = .ok (.goto 4, 3) := dk_167 0 4 (dk_at dksX3_weighs_3 3 rfl rfl)
theorem dX3_weighs_78 : decode cX3_weighs 78 = .ok (.iconst 0, 1) := dk_3 (dk_at dksX3_weighs_3 6 rfl rfl)
theorem dX3_weighs_79 : decode cX3_weighs 79 = .ok (.istore 6, 2) := dk_54 6 (dk_at dksX3_weighs_3 7 rfl rfl)
theorem dX3_weighs_81 : decode cX3_weighs 81 = .ok (.iload 6, 2) := dk_21 6 (dk_at dksX3_weighs_3 9 rfl rfl)
theorem dX3_weighs_83 : decode cX3_weighs 83 = .ok (.aload_n 0, 1) := dk_42 (dk_at dksX3_weighs_3 11 rfl rfl)
theorem dX3_weighs_84 : decode cX3_weighs 84 = .ok (.getfield 220, 3) := dk_180 0 220 (dk_at dksX3_weighs_3 12 rfl rfl)
theorem dX3_weighs_87 : decode cX3_weighs 87 = .ok (.if_icmp .gt 71, 3) := dk_163 0 71 (dk_at dksX3_weighs_3 15 rfl rfl)
theorem dX3_weighs_90 : decode cX3_weighs 90 = .ok (.iload 5, 2) := dk_21 5 (dk_at dksX3_weighs_3 18 rfl rfl)
theorem dX3_weighs_92 : decode cX3_weighs 92 = .ok (.iload 6, 2) := dk_21 6 (dk_at dksX3_weighs_3 20 rfl rfl)
theorem dX3_weighs_94 : decode cX3_weighs 94 = .ok (.iadd, 1) := dk_96 (dk_at dksX3_weighs_3 22 rfl rfl)
theorem dX3_weighs_95 : decode cX3_weighs 95 = .ok (.aload_n 0, 1) := dk_42 (dk_at dksX3_weighs_3 23 rfl rfl)
theorem dX3_weighs_96 : decode cX3_weighs 96 = .ok (.getfield 217, 3) := dk_180 0 217 (dk_at dksX3_weighs_4 0 rfl rfl)
theorem dX3_weighs_99 : decode cX3_weighs 99 = .ok (.if_icmp .gt 59, 3) := dk_163 0 59 (dk_at dksX3_weighs_4 3 rfl rfl)
theorem dX3_weighs_102 : decode cX3_weighs 102 = .ok (.aload_n 0, 1) := dk_42 (dk_at dksX3_weighs_4 6 rfl rfl)
theorem dX3_weighs_103 : decode cX3_weighs 103 = .ok (.getfield 157, 3) := dk_180 0 157 (dk_at dksX3_weighs_4 7 rfl rfl)
theorem dX3_weighs_106 : decode cX3_weighs 106 = .ok (.iload 6, 2) := dk_21 6 (dk_at dksX3_weighs_4 10 rfl rfl)
theorem dX3_weighs_108 : decode cX3_weighs 108 = .ok (.iaload, 1) := dk_46 (dk_at dksX3_weighs_4 12 rfl rfl)
theorem dX3_weighs_109 : decode cX3_weighs 109 = .ok (.aload_n 0, 1) := dk_42 (dk_at dksX3_weighs_4 13 rfl rfl)
theorem dX3_weighs_110 : decode cX3_weighs 110 = .ok (.getfield 154, 3) := dk_180 0 154 (dk_at dksX3_weighs_4 14 rfl rfl)
theorem dX3_weighs_113 : decode cX3_weighs 113 = .ok (.iload 5, 2) := dk_21 5 (dk_at dksX3_weighs_4 17 rfl rfl)
theorem dX3_weighs_115 : decode cX3_weighs 115 = .ok (.iload 6, 2) := dk_21 6 (dk_at dksX3_weighs_4 19 rfl rfl)
theorem dX3_weighs_117 : decode cX3_weighs 117 = .ok (.iadd, 1) := dk_96 (dk_at dksX3_weighs_4 21 rfl rfl)
theorem dX3_weighs_118 : decode cX3_weighs 118 = .ok (.iaload, 1) := dk_46 (dk_at dksX3_weighs_4 22 rfl rfl)
theorem dX3_weighs_119 : decode cX3_weighs 119 = .ok (.isub, 1) := dk_100 (dk_at dksX3_weighs_4 23 rfl rfl)
theorem dX3_weighs_120 : decode cX3_weighs 120 = .ok (.istore 7, 2) := dk_54 7 (dk_at dksX3_weighs_5 0 rfl rfl)
theorem dX3_weighs_122 : decode cX3_weighs 122 = .ok (.iload 7, 2) := dk_21 7 (dk_at dksX3_weighs_5 2 rfl rfl)
theorem dX3_weighs_124 : decode cX3_weighs 124 = .ok (.aload_n 0, 1) := dk_42 (dk_at dksX3_weighs_5 4 rfl rfl)
theorem dX3_weighs_125 : decode cX3_weighs 125 = .ok (.getfield 160, 3) := dk_180 0 160 (dk_at dksX3_weighs_5 5 rfl rfl)
theorem dX3_weighs_128 : decode cX3_weighs 128 = .ok (.iload 4, 2) := dk_21 4 (dk_at dksX3_weighs_5 8 rfl rfl)
theorem dX3_weighs_130 : decode cX3_weighs 130 = .ok (.iaload, 1) := dk_46 (dk_at dksX3_weighs_5 10 rfl rfl)
theorem dX3_weighs_131 : decode cX3_weighs 131 = .ok (.if_icmp .le 21, 3) := dk_164 0 21 (dk_at dksX3_weighs_5 11 rfl rfl)
theorem dX3_weighs_134 : decode cX3_weighs 134 = .ok (.aload_n 0, 1) := dk_42 (dk_at dksX3_weighs_5 14 rfl rfl)
theorem dX3_weighs_135 : decode cX3_weighs 135 = .ok (.getfield 160, 3) := dk_180 0 160 (dk_at dksX3_weighs_5 15 rfl rfl)
theorem dX3_weighs_138 : decode cX3_weighs 138 = .ok (.iload 4, 2) := dk_21 4 (dk_at dksX3_weighs_5 18 rfl rfl)
theorem dX3_weighs_140 : decode cX3_weighs 140 = .ok (.iload 7, 2) := dk_21 7 (dk_at dksX3_weighs_5 20 rfl rfl)
theorem dX3_weighs_142 : decode cX3_weighs 142 = .ok (.iastore, 1) := dk_79 (dk_at dksX3_weighs_5 22 rfl rfl)
theorem dX3_weighs_143 : decode cX3_weighs 143 = .ok (.aload_n 0, 1) := dk_42 (dk_at dksX3_weighs_5 23 rfl rfl)
theorem dX3_weighs_144 : decode cX3_weighs 144 = .ok (.getfield 163, 3) := dk_180 0 163 (dk_at dksX3_weighs_6 0 rfl rfl)
theorem dX3_weighs_147 : decode cX3_weighs 147 = .ok (.iload 4, 2) := dk_21 4 (dk_at dksX3_weighs_6 3 rfl rfl)
theorem dX3_weighs_149 : decode cX3_weighs 149 = .ok (.iload 6, 2) := dk_21 6 (dk_at dksX3_weighs_6 5 rfl rfl)
theorem dX3_weighs_151 : decode cX3_weighs 151 = .ok (.iastore, 1) := dk_79 (dk_at dksX3_weighs_6 7 rfl rfl)
theorem dX3_weighs_152 : decode cX3_weighs 152 = .ok (.iinc 6 1, 3) := dk_132 6 1 (dk_at dksX3_weighs_6 8 rfl rfl)
theorem dX3_weighs_155 : decode cX3_weighs 155 = .ok (.goto (-74), 3) := dk_167 255 182 (dk_at dksX3_weighs_6 11 rfl rfl)
theorem dX3_weighs_158 : decode cX3_weighs 158 = .ok (.iinc 3 1, 3) := dk_132 3 1 (dk_at dksX3_weighs_6 14 rfl rfl)
theorem dX3_weighs_161 : decode cX3_weighs 161 = .ok (.goto (-137), 3) := dk_167 255 119 (dk_at dksX3_weighs_6 17 rfl rfl)
theorem dX3_weighs_164 : decode cX3_weighs 164 = .ok (.return_, 1) := dk_177 (dk_at dksX3_weighs_6 20 rfl rfl)
abbrev cX3_sums : ByteArray := prog_15_method_16_code
def yX3_sums : MethodName := ⟨RX3, "sums", "(III)I"⟩
def dkwX3_sums_5 : List UInt8 := [167, 255, 153, 21, 4, 172]
abbrev dktX3_sums_5 : List UInt8 := dkwX3_sums_5 ++ []
def dkwX3_sums_4 : List UInt8 := [180, 0, 34, 21, 5, 46, 96, 79, 132, 6, 1, 167, 255, 182, 42, 27, 28, 29, 182, 0, 210, 54, 5]
abbrev dktX3_sums_4 : List UInt8 := dkwX3_sums_4 ++ dktX3_sums_5
def dkwX3_sums_3 : List UInt8 := [46, 96, 79, 167, 0, 27, 42, 180, 0, 154, 21, 4, 42, 180, 0, 154, 21, 4, 4, 100, 46, 42]
abbrev dktX3_sums_3 : List UInt8 := dkwX3_sums_3 ++ dktX3_sums_4
def dkwX3_sums_2 : List UInt8 := [160, 0, 30, 42, 180, 0, 157, 21, 4, 42, 180, 0, 157, 21, 4, 4, 100, 46, 42, 180, 0, 34, 21, 5]
abbrev dktX3_sums_2 : List UInt8 := dkwX3_sums_2 ++ dktX3_sums_3
def dkwX3_sums_1 : List UInt8 := [4, 79, 3, 54, 6, 21, 6, 42, 180, 0, 37, 21, 5, 46, 162, 0, 68, 132, 4, 1, 29, 4]
abbrev dktX3_sums_1 : List UInt8 := dkwX3_sums_1 ++ dktX3_sums_2
def dkwX3_sums_0 : List UInt8 := [3, 54, 4, 42, 27, 28, 29, 182, 0, 210, 54, 5, 21, 5, 2, 159, 0, 103, 42, 180, 0, 43, 21, 5]
abbrev dktX3_sums_0 : List UInt8 := dkwX3_sums_0 ++ dktX3_sums_1
theorem dksX3_sums_0 : cX3_sums.data.toList.drop 0 = dktX3_sums_0 := by decide +kernel
theorem dksX3_sums_1 : cX3_sums.data.toList.drop 24 = dktX3_sums_1 := dk_seg dksX3_sums_0 24 rfl rfl
theorem dksX3_sums_2 : cX3_sums.data.toList.drop 46 = dktX3_sums_2 := dk_seg dksX3_sums_1 22 rfl rfl
theorem dksX3_sums_3 : cX3_sums.data.toList.drop 70 = dktX3_sums_3 := dk_seg dksX3_sums_2 24 rfl rfl
theorem dksX3_sums_4 : cX3_sums.data.toList.drop 92 = dktX3_sums_4 := dk_seg dksX3_sums_3 22 rfl rfl
theorem dksX3_sums_5 : cX3_sums.data.toList.drop 115 = dktX3_sums_5 := dk_seg dksX3_sums_4 23 rfl rfl
theorem dX3_sums_0 : decode cX3_sums 0 = .ok (.iconst 0, 1) := dk_3 (dk_at dksX3_sums_0 0 rfl rfl)
theorem dX3_sums_1 : decode cX3_sums 1 = .ok (.istore 4, 2) := dk_54 4 (dk_at dksX3_sums_0 1 rfl rfl)
theorem dX3_sums_3 : decode cX3_sums 3 = .ok (.aload_n 0, 1) := dk_42 (dk_at dksX3_sums_0 3 rfl rfl)
theorem dX3_sums_4 : decode cX3_sums 4 = .ok (.iload_n 1, 1) := dk_27 (dk_at dksX3_sums_0 4 rfl rfl)
theorem dX3_sums_5 : decode cX3_sums 5 = .ok (.iload_n 2, 1) := dk_28 (dk_at dksX3_sums_0 5 rfl rfl)
theorem dX3_sums_6 : decode cX3_sums 6 = .ok (.iload_n 3, 1) := dk_29 (dk_at dksX3_sums_0 6 rfl rfl)
theorem dX3_sums_7 : decode cX3_sums 7 = .ok (.invokevirtual 210, 3) := dk_182 0 210 (dk_at dksX3_sums_0 7 rfl rfl)
theorem dX3_sums_10 : decode cX3_sums 10 = .ok (.istore 5, 2) := dk_54 5 (dk_at dksX3_sums_0 10 rfl rfl)
theorem dX3_sums_12 : decode cX3_sums 12 = .ok (.iload 5, 2) := dk_21 5 (dk_at dksX3_sums_0 12 rfl rfl)
theorem dX3_sums_14 : decode cX3_sums 14 = .ok (.iconst (-1), 1) := dk_2 (dk_at dksX3_sums_0 14 rfl rfl)
theorem dX3_sums_15 : decode cX3_sums 15 = .ok (.if_icmp .eq 103, 3) := dk_159 0 103 (dk_at dksX3_sums_0 15 rfl rfl)
theorem dX3_sums_18 : decode cX3_sums 18 = .ok (.aload_n 0, 1) := dk_42 (dk_at dksX3_sums_0 18 rfl rfl)
theorem dX3_sums_19 : decode cX3_sums 19 = .ok (.getfield 43, 3) := dk_180 0 43 (dk_at dksX3_sums_0 19 rfl rfl)
theorem dX3_sums_22 : decode cX3_sums 22 = .ok (.iload 5, 2) := dk_21 5 (dk_at dksX3_sums_0 22 rfl rfl)
theorem dX3_sums_24 : decode cX3_sums 24 = .ok (.iconst 1, 1) := dk_4 (dk_at dksX3_sums_1 0 rfl rfl)
theorem dX3_sums_25 : decode cX3_sums 25 = .ok (.iastore, 1) := dk_79 (dk_at dksX3_sums_1 1 rfl rfl)
theorem dX3_sums_26 : decode cX3_sums 26 = .ok (.iconst 0, 1) := dk_3 (dk_at dksX3_sums_1 2 rfl rfl)
theorem dX3_sums_27 : decode cX3_sums 27 = .ok (.istore 6, 2) := dk_54 6 (dk_at dksX3_sums_1 3 rfl rfl)
theorem dX3_sums_29 : decode cX3_sums 29 = .ok (.iload 6, 2) := dk_21 6 (dk_at dksX3_sums_1 5 rfl rfl)
theorem dX3_sums_31 : decode cX3_sums 31 = .ok (.aload_n 0, 1) := dk_42 (dk_at dksX3_sums_1 7 rfl rfl)
theorem dX3_sums_32 : decode cX3_sums 32 = .ok (.getfield 37, 3) := dk_180 0 37 (dk_at dksX3_sums_1 8 rfl rfl)
theorem dX3_sums_35 : decode cX3_sums 35 = .ok (.iload 5, 2) := dk_21 5 (dk_at dksX3_sums_1 11 rfl rfl)
theorem dX3_sums_37 : decode cX3_sums 37 = .ok (.iaload, 1) := dk_46 (dk_at dksX3_sums_1 13 rfl rfl)
theorem dX3_sums_38 : decode cX3_sums 38 = .ok (.if_icmp .ge 68, 3) := dk_162 0 68 (dk_at dksX3_sums_1 14 rfl rfl)
theorem dX3_sums_41 : decode cX3_sums 41 = .ok (.iinc 4 1, 3) := dk_132 4 1 (dk_at dksX3_sums_1 17 rfl rfl)
theorem dX3_sums_44 : decode cX3_sums 44 = .ok (.iload_n 3, 1) := dk_29 (dk_at dksX3_sums_1 20 rfl rfl)
theorem dX3_sums_45 : decode cX3_sums 45 = .ok (.iconst 1, 1) := dk_4 (dk_at dksX3_sums_1 21 rfl rfl)
theorem dX3_sums_46 : decode cX3_sums 46 = .ok (.if_icmp .ne 30, 3) := dk_160 0 30 (dk_at dksX3_sums_2 0 rfl rfl)
theorem dX3_sums_49 : decode cX3_sums 49 = .ok (.aload_n 0, 1) := dk_42 (dk_at dksX3_sums_2 3 rfl rfl)
theorem dX3_sums_50 : decode cX3_sums 50 = .ok (.getfield 157, 3) := dk_180 0 157 (dk_at dksX3_sums_2 4 rfl rfl)
theorem dX3_sums_53 : decode cX3_sums 53 = .ok (.iload 4, 2) := dk_21 4 (dk_at dksX3_sums_2 7 rfl rfl)
theorem dX3_sums_55 : decode cX3_sums 55 = .ok (.aload_n 0, 1) := dk_42 (dk_at dksX3_sums_2 9 rfl rfl)
theorem dX3_sums_56 : decode cX3_sums 56 = .ok (.getfield 157, 3) := dk_180 0 157 (dk_at dksX3_sums_2 10 rfl rfl)
theorem dX3_sums_59 : decode cX3_sums 59 = .ok (.iload 4, 2) := dk_21 4 (dk_at dksX3_sums_2 13 rfl rfl)
theorem dX3_sums_61 : decode cX3_sums 61 = .ok (.iconst 1, 1) := dk_4 (dk_at dksX3_sums_2 15 rfl rfl)
theorem dX3_sums_62 : decode cX3_sums 62 = .ok (.isub, 1) := dk_100 (dk_at dksX3_sums_2 16 rfl rfl)
theorem dX3_sums_63 : decode cX3_sums 63 = .ok (.iaload, 1) := dk_46 (dk_at dksX3_sums_2 17 rfl rfl)
theorem dX3_sums_64 : decode cX3_sums 64 = .ok (.aload_n 0, 1) := dk_42 (dk_at dksX3_sums_2 18 rfl rfl)
theorem dX3_sums_65 : decode cX3_sums 65 = .ok (.getfield 34, 3) := dk_180 0 34 (dk_at dksX3_sums_2 19 rfl rfl)
theorem dX3_sums_68 : decode cX3_sums 68 = .ok (.iload 5, 2) := dk_21 5 (dk_at dksX3_sums_2 22 rfl rfl)
theorem dX3_sums_70 : decode cX3_sums 70 = .ok (.iaload, 1) := dk_46 (dk_at dksX3_sums_3 0 rfl rfl)
theorem dX3_sums_71 : decode cX3_sums 71 = .ok (.iadd, 1) := dk_96 (dk_at dksX3_sums_3 1 rfl rfl)
theorem dX3_sums_72 : decode cX3_sums 72 = .ok (.iastore, 1) := dk_79 (dk_at dksX3_sums_3 2 rfl rfl)
theorem dX3_sums_73 : decode cX3_sums 73 = .ok (.goto 27, 3) := dk_167 0 27 (dk_at dksX3_sums_3 3 rfl rfl)
theorem dX3_sums_76 : decode cX3_sums 76 = .ok (.aload_n 0, 1) := dk_42 (dk_at dksX3_sums_3 6 rfl rfl)
theorem dX3_sums_77 : decode cX3_sums 77 = .ok (.getfield 154, 3) := dk_180 0 154 (dk_at dksX3_sums_3 7 rfl rfl)
theorem dX3_sums_80 : decode cX3_sums 80 = .ok (.iload 4, 2) := dk_21 4 (dk_at dksX3_sums_3 10 rfl rfl)
theorem dX3_sums_82 : decode cX3_sums 82 = .ok (.aload_n 0, 1) := dk_42 (dk_at dksX3_sums_3 12 rfl rfl)
theorem dX3_sums_83 : decode cX3_sums 83 = .ok (.getfield 154, 3) := dk_180 0 154 (dk_at dksX3_sums_3 13 rfl rfl)
theorem dX3_sums_86 : decode cX3_sums 86 = .ok (.iload 4, 2) := dk_21 4 (dk_at dksX3_sums_3 16 rfl rfl)
theorem dX3_sums_88 : decode cX3_sums 88 = .ok (.iconst 1, 1) := dk_4 (dk_at dksX3_sums_3 18 rfl rfl)
theorem dX3_sums_89 : decode cX3_sums 89 = .ok (.isub, 1) := dk_100 (dk_at dksX3_sums_3 19 rfl rfl)
theorem dX3_sums_90 : decode cX3_sums 90 = .ok (.iaload, 1) := dk_46 (dk_at dksX3_sums_3 20 rfl rfl)
theorem dX3_sums_91 : decode cX3_sums 91 = .ok (.aload_n 0, 1) := dk_42 (dk_at dksX3_sums_3 21 rfl rfl)
theorem dX3_sums_92 : decode cX3_sums 92 = .ok (.getfield 34, 3) := dk_180 0 34 (dk_at dksX3_sums_4 0 rfl rfl)
theorem dX3_sums_95 : decode cX3_sums 95 = .ok (.iload 5, 2) := dk_21 5 (dk_at dksX3_sums_4 3 rfl rfl)
theorem dX3_sums_97 : decode cX3_sums 97 = .ok (.iaload, 1) := dk_46 (dk_at dksX3_sums_4 5 rfl rfl)
theorem dX3_sums_98 : decode cX3_sums 98 = .ok (.iadd, 1) := dk_96 (dk_at dksX3_sums_4 6 rfl rfl)
theorem dX3_sums_99 : decode cX3_sums 99 = .ok (.iastore, 1) := dk_79 (dk_at dksX3_sums_4 7 rfl rfl)
theorem dX3_sums_100 : decode cX3_sums 100 = .ok (.iinc 6 1, 3) := dk_132 6 1 (dk_at dksX3_sums_4 8 rfl rfl)
theorem dX3_sums_103 : decode cX3_sums 103 = .ok (.goto (-74), 3) := dk_167 255 182 (dk_at dksX3_sums_4 11 rfl rfl)
theorem dX3_sums_106 : decode cX3_sums 106 = .ok (.aload_n 0, 1) := dk_42 (dk_at dksX3_sums_4 14 rfl rfl)
theorem dX3_sums_107 : decode cX3_sums 107 = .ok (.iload_n 1, 1) := dk_27 (dk_at dksX3_sums_4 15 rfl rfl)
theorem dX3_sums_108 : decode cX3_sums 108 = .ok (.iload_n 2, 1) := dk_28 (dk_at dksX3_sums_4 16 rfl rfl)
theorem dX3_sums_109 : decode cX3_sums 109 = .ok (.iload_n 3, 1) := dk_29 (dk_at dksX3_sums_4 17 rfl rfl)
theorem dX3_sums_110 : decode cX3_sums 110 = .ok (.invokevirtual 210, 3) := dk_182 0 210 (dk_at dksX3_sums_4 18 rfl rfl)
theorem dX3_sums_113 : decode cX3_sums 113 = .ok (.istore 5, 2) := dk_54 5 (dk_at dksX3_sums_4 21 rfl rfl)
theorem dX3_sums_115 : decode cX3_sums 115 = .ok (.goto (-103), 3) := dk_167 255 153 (dk_at dksX3_sums_5 0 rfl rfl)
theorem dX3_sums_118 : decode cX3_sums 118 = .ok (.iload 4, 2) := dk_21 4 (dk_at dksX3_sums_5 3 rfl rfl)
theorem dX3_sums_120 : decode cX3_sums 120 = .ok (.ireturn, 1) := dk_172 (dk_at dksX3_sums_5 5 rfl rfl)
abbrev cX3_nextBid : ByteArray := prog_15_method_14_code
def yX3_nextBid : MethodName := ⟨RX3, "nextBid", "(III)I"⟩
def dkwX3_nextBid_6 : List UInt8 := [54, 4, 132, 5, 1, 167, 255, 120, 21, 4, 172]
abbrev dktX3_nextBid_6 : List UInt8 := dkwX3_nextBid_6 ++ []
def dkwX3_nextBid_5 : List UInt8 := [167, 0, 4, 3, 54, 7, 21, 6, 153, 0, 13, 21, 7, 153, 0, 8, 21, 5, 167, 0, 5, 21, 4]
abbrev dktX3_nextBid_5 : List UInt8 := dkwX3_nextBid_5 ++ dktX3_nextBid_6
def dkwX3_nextBid_4 : List UInt8 := [164, 0, 27, 167, 0, 20, 42, 180, 0, 34, 21, 5, 46, 42, 180, 0, 34, 21, 4, 46, 162, 0, 7, 4]
abbrev dktX3_nextBid_4 : List UInt8 := dkwX3_nextBid_4 ++ dktX3_nextBid_5
def dkwX3_nextBid_3 : List UInt8 := [159, 0, 45, 29, 4, 160, 0, 23, 42, 180, 0, 34, 21, 5, 46, 42, 180, 0, 34, 21, 4, 46]
abbrev dktX3_nextBid_3 : List UInt8 := dkwX3_nextBid_3 ++ dktX3_nextBid_4
def dkwX3_nextBid_2 : List UInt8 := [160, 0, 18, 42, 180, 0, 31, 21, 5, 46, 29, 160, 0, 7, 4, 167, 0, 4, 3, 54, 6, 21, 4, 2]
abbrev dktX3_nextBid_2 : List UInt8 := dkwX3_nextBid_2 ++ dktX3_nextBid_3
def dkwX3_nextBid_1 : List UInt8 := [154, 0, 40, 42, 180, 0, 25, 21, 5, 46, 27, 160, 0, 29, 42, 180, 0, 28, 21, 5, 46, 28]
abbrev dktX3_nextBid_1 : List UInt8 := dkwX3_nextBid_1 ++ dktX3_nextBid_2
def dkwX3_nextBid_0 : List UInt8 := [2, 54, 4, 3, 54, 5, 21, 5, 42, 180, 0, 201, 162, 0, 133, 42, 180, 0, 43, 21, 5, 46]
abbrev dktX3_nextBid_0 : List UInt8 := dkwX3_nextBid_0 ++ dktX3_nextBid_1
theorem dksX3_nextBid_0 : cX3_nextBid.data.toList.drop 0 = dktX3_nextBid_0 := by decide +kernel
theorem dksX3_nextBid_1 : cX3_nextBid.data.toList.drop 22 = dktX3_nextBid_1 := dk_seg dksX3_nextBid_0 22 rfl rfl
theorem dksX3_nextBid_2 : cX3_nextBid.data.toList.drop 44 = dktX3_nextBid_2 := dk_seg dksX3_nextBid_1 22 rfl rfl
theorem dksX3_nextBid_3 : cX3_nextBid.data.toList.drop 68 = dktX3_nextBid_3 := dk_seg dksX3_nextBid_2 24 rfl rfl
theorem dksX3_nextBid_4 : cX3_nextBid.data.toList.drop 90 = dktX3_nextBid_4 := dk_seg dksX3_nextBid_3 22 rfl rfl
theorem dksX3_nextBid_5 : cX3_nextBid.data.toList.drop 114 = dktX3_nextBid_5 := dk_seg dksX3_nextBid_4 24 rfl rfl
theorem dksX3_nextBid_6 : cX3_nextBid.data.toList.drop 137 = dktX3_nextBid_6 := dk_seg dksX3_nextBid_5 23 rfl rfl
theorem dX3_nextBid_0 : decode cX3_nextBid 0 = .ok (.iconst (-1), 1) := dk_2 (dk_at dksX3_nextBid_0 0 rfl rfl)
theorem dX3_nextBid_1 : decode cX3_nextBid 1 = .ok (.istore 4, 2) := dk_54 4 (dk_at dksX3_nextBid_0 1 rfl rfl)
theorem dX3_nextBid_3 : decode cX3_nextBid 3 = .ok (.iconst 0, 1) := dk_3 (dk_at dksX3_nextBid_0 3 rfl rfl)
theorem dX3_nextBid_4 : decode cX3_nextBid 4 = .ok (.istore 5, 2) := dk_54 5 (dk_at dksX3_nextBid_0 4 rfl rfl)
theorem dX3_nextBid_6 : decode cX3_nextBid 6 = .ok (.iload 5, 2) := dk_21 5 (dk_at dksX3_nextBid_0 6 rfl rfl)
theorem dX3_nextBid_8 : decode cX3_nextBid 8 = .ok (.aload_n 0, 1) := dk_42 (dk_at dksX3_nextBid_0 8 rfl rfl)
theorem dX3_nextBid_9 : decode cX3_nextBid 9 = .ok (.getfield 201, 3) := dk_180 0 201 (dk_at dksX3_nextBid_0 9 rfl rfl)
theorem dX3_nextBid_12 : decode cX3_nextBid 12 = .ok (.if_icmp .ge 133, 3) := dk_162 0 133 (dk_at dksX3_nextBid_0 12 rfl rfl)
theorem dX3_nextBid_15 : decode cX3_nextBid 15 = .ok (.aload_n 0, 1) := dk_42 (dk_at dksX3_nextBid_0 15 rfl rfl)
theorem dX3_nextBid_16 : decode cX3_nextBid 16 = .ok (.getfield 43, 3) := dk_180 0 43 (dk_at dksX3_nextBid_0 16 rfl rfl)
theorem dX3_nextBid_19 : decode cX3_nextBid 19 = .ok (.iload 5, 2) := dk_21 5 (dk_at dksX3_nextBid_0 19 rfl rfl)
theorem dX3_nextBid_21 : decode cX3_nextBid 21 = .ok (.iaload, 1) := dk_46 (dk_at dksX3_nextBid_0 21 rfl rfl)
theorem dX3_nextBid_22 : decode cX3_nextBid 22 = .ok (.ifCond .ne 40, 3) := dk_154 0 40 (dk_at dksX3_nextBid_1 0 rfl rfl)
theorem dX3_nextBid_25 : decode cX3_nextBid 25 = .ok (.aload_n 0, 1) := dk_42 (dk_at dksX3_nextBid_1 3 rfl rfl)
theorem dX3_nextBid_26 : decode cX3_nextBid 26 = .ok (.getfield 25, 3) := dk_180 0 25 (dk_at dksX3_nextBid_1 4 rfl rfl)
theorem dX3_nextBid_29 : decode cX3_nextBid 29 = .ok (.iload 5, 2) := dk_21 5 (dk_at dksX3_nextBid_1 7 rfl rfl)
theorem dX3_nextBid_31 : decode cX3_nextBid 31 = .ok (.iaload, 1) := dk_46 (dk_at dksX3_nextBid_1 9 rfl rfl)
theorem dX3_nextBid_32 : decode cX3_nextBid 32 = .ok (.iload_n 1, 1) := dk_27 (dk_at dksX3_nextBid_1 10 rfl rfl)
theorem dX3_nextBid_33 : decode cX3_nextBid 33 = .ok (.if_icmp .ne 29, 3) := dk_160 0 29 (dk_at dksX3_nextBid_1 11 rfl rfl)
theorem dX3_nextBid_36 : decode cX3_nextBid 36 = .ok (.aload_n 0, 1) := dk_42 (dk_at dksX3_nextBid_1 14 rfl rfl)
theorem dX3_nextBid_37 : decode cX3_nextBid 37 = .ok (.getfield 28, 3) := dk_180 0 28 (dk_at dksX3_nextBid_1 15 rfl rfl)
theorem dX3_nextBid_40 : decode cX3_nextBid 40 = .ok (.iload 5, 2) := dk_21 5 (dk_at dksX3_nextBid_1 18 rfl rfl)
theorem dX3_nextBid_42 : decode cX3_nextBid 42 = .ok (.iaload, 1) := dk_46 (dk_at dksX3_nextBid_1 20 rfl rfl)
theorem dX3_nextBid_43 : decode cX3_nextBid 43 = .ok (.iload_n 2, 1) := dk_28 (dk_at dksX3_nextBid_1 21 rfl rfl)
theorem dX3_nextBid_44 : decode cX3_nextBid 44 = .ok (.if_icmp .ne 18, 3) := dk_160 0 18 (dk_at dksX3_nextBid_2 0 rfl rfl)
theorem dX3_nextBid_47 : decode cX3_nextBid 47 = .ok (.aload_n 0, 1) := dk_42 (dk_at dksX3_nextBid_2 3 rfl rfl)
theorem dX3_nextBid_48 : decode cX3_nextBid 48 = .ok (.getfield 31, 3) := dk_180 0 31 (dk_at dksX3_nextBid_2 4 rfl rfl)
theorem dX3_nextBid_51 : decode cX3_nextBid 51 = .ok (.iload 5, 2) := dk_21 5 (dk_at dksX3_nextBid_2 7 rfl rfl)
theorem dX3_nextBid_53 : decode cX3_nextBid 53 = .ok (.iaload, 1) := dk_46 (dk_at dksX3_nextBid_2 9 rfl rfl)
theorem dX3_nextBid_54 : decode cX3_nextBid 54 = .ok (.iload_n 3, 1) := dk_29 (dk_at dksX3_nextBid_2 10 rfl rfl)
theorem dX3_nextBid_55 : decode cX3_nextBid 55 = .ok (.if_icmp .ne 7, 3) := dk_160 0 7 (dk_at dksX3_nextBid_2 11 rfl rfl)
theorem dX3_nextBid_58 : decode cX3_nextBid 58 = .ok (.iconst 1, 1) := dk_4 (dk_at dksX3_nextBid_2 14 rfl rfl)
theorem dX3_nextBid_59 : decode cX3_nextBid 59 = .ok (.goto 4, 3) := dk_167 0 4 (dk_at dksX3_nextBid_2 15 rfl rfl)
theorem dX3_nextBid_62 : decode cX3_nextBid 62 = .ok (.iconst 0, 1) := dk_3 (dk_at dksX3_nextBid_2 18 rfl rfl)
theorem dX3_nextBid_63 : decode cX3_nextBid 63 = .ok (.istore 6, 2) := dk_54 6 (dk_at dksX3_nextBid_2 19 rfl rfl)
theorem dX3_nextBid_65 : decode cX3_nextBid 65 = .ok (.iload 4, 2) := dk_21 4 (dk_at dksX3_nextBid_2 21 rfl rfl)
theorem dX3_nextBid_67 : decode cX3_nextBid 67 = .ok (.iconst (-1), 1) := dk_2 (dk_at dksX3_nextBid_2 23 rfl rfl)
theorem dX3_nextBid_68 : decode cX3_nextBid 68 = .ok (.if_icmp .eq 45, 3) := dk_159 0 45 (dk_at dksX3_nextBid_3 0 rfl rfl)
theorem dX3_nextBid_71 : decode cX3_nextBid 71 = .ok (.iload_n 3, 1) := dk_29 (dk_at dksX3_nextBid_3 3 rfl rfl)
theorem dX3_nextBid_72 : decode cX3_nextBid 72 = .ok (.iconst 1, 1) := dk_4 (dk_at dksX3_nextBid_3 4 rfl rfl)
theorem dX3_nextBid_73 : decode cX3_nextBid 73 = .ok (.if_icmp .ne 23, 3) := dk_160 0 23 (dk_at dksX3_nextBid_3 5 rfl rfl)
theorem dX3_nextBid_76 : decode cX3_nextBid 76 = .ok (.aload_n 0, 1) := dk_42 (dk_at dksX3_nextBid_3 8 rfl rfl)
theorem dX3_nextBid_77 : decode cX3_nextBid 77 = .ok (.getfield 34, 3) := dk_180 0 34 (dk_at dksX3_nextBid_3 9 rfl rfl)
theorem dX3_nextBid_80 : decode cX3_nextBid 80 = .ok (.iload 5, 2) := dk_21 5 (dk_at dksX3_nextBid_3 12 rfl rfl)
theorem dX3_nextBid_82 : decode cX3_nextBid 82 = .ok (.iaload, 1) := dk_46 (dk_at dksX3_nextBid_3 14 rfl rfl)
theorem dX3_nextBid_83 : decode cX3_nextBid 83 = .ok (.aload_n 0, 1) := dk_42 (dk_at dksX3_nextBid_3 15 rfl rfl)
theorem dX3_nextBid_84 : decode cX3_nextBid 84 = .ok (.getfield 34, 3) := dk_180 0 34 (dk_at dksX3_nextBid_3 16 rfl rfl)
theorem dX3_nextBid_87 : decode cX3_nextBid 87 = .ok (.iload 4, 2) := dk_21 4 (dk_at dksX3_nextBid_3 19 rfl rfl)
theorem dX3_nextBid_89 : decode cX3_nextBid 89 = .ok (.iaload, 1) := dk_46 (dk_at dksX3_nextBid_3 21 rfl rfl)
theorem dX3_nextBid_90 : decode cX3_nextBid 90 = .ok (.if_icmp .le 27, 3) := dk_164 0 27 (dk_at dksX3_nextBid_4 0 rfl rfl)
theorem dX3_nextBid_93 : decode cX3_nextBid 93 = .ok (.goto 20, 3) := dk_167 0 20 (dk_at dksX3_nextBid_4 3 rfl rfl)
theorem dX3_nextBid_96 : decode cX3_nextBid 96 = .ok (.aload_n 0, 1) := dk_42 (dk_at dksX3_nextBid_4 6 rfl rfl)
theorem dX3_nextBid_97 : decode cX3_nextBid 97 = .ok (.getfield 34, 3) := dk_180 0 34 (dk_at dksX3_nextBid_4 7 rfl rfl)
theorem dX3_nextBid_100 : decode cX3_nextBid 100 = .ok (.iload 5, 2) := dk_21 5 (dk_at dksX3_nextBid_4 10 rfl rfl)
theorem dX3_nextBid_102 : decode cX3_nextBid 102 = .ok (.iaload, 1) := dk_46 (dk_at dksX3_nextBid_4 12 rfl rfl)
theorem dX3_nextBid_103 : decode cX3_nextBid 103 = .ok (.aload_n 0, 1) := dk_42 (dk_at dksX3_nextBid_4 13 rfl rfl)
theorem dX3_nextBid_104 : decode cX3_nextBid 104 = .ok (.getfield 34, 3) := dk_180 0 34 (dk_at dksX3_nextBid_4 14 rfl rfl)
theorem dX3_nextBid_107 : decode cX3_nextBid 107 = .ok (.iload 4, 2) := dk_21 4 (dk_at dksX3_nextBid_4 17 rfl rfl)
theorem dX3_nextBid_109 : decode cX3_nextBid 109 = .ok (.iaload, 1) := dk_46 (dk_at dksX3_nextBid_4 19 rfl rfl)
theorem dX3_nextBid_110 : decode cX3_nextBid 110 = .ok (.if_icmp .ge 7, 3) := dk_162 0 7 (dk_at dksX3_nextBid_4 20 rfl rfl)
theorem dX3_nextBid_113 : decode cX3_nextBid 113 = .ok (.iconst 1, 1) := dk_4 (dk_at dksX3_nextBid_4 23 rfl rfl)
theorem dX3_nextBid_114 : decode cX3_nextBid 114 = .ok (.goto 4, 3) := dk_167 0 4 (dk_at dksX3_nextBid_5 0 rfl rfl)
theorem dX3_nextBid_117 : decode cX3_nextBid 117 = .ok (.iconst 0, 1) := dk_3 (dk_at dksX3_nextBid_5 3 rfl rfl)
theorem dX3_nextBid_118 : decode cX3_nextBid 118 = .ok (.istore 7, 2) := dk_54 7 (dk_at dksX3_nextBid_5 4 rfl rfl)
theorem dX3_nextBid_120 : decode cX3_nextBid 120 = .ok (.iload 6, 2) := dk_21 6 (dk_at dksX3_nextBid_5 6 rfl rfl)
theorem dX3_nextBid_122 : decode cX3_nextBid 122 = .ok (.ifCond .eq 13, 3) := dk_153 0 13 (dk_at dksX3_nextBid_5 8 rfl rfl)
theorem dX3_nextBid_125 : decode cX3_nextBid 125 = .ok (.iload 7, 2) := dk_21 7 (dk_at dksX3_nextBid_5 11 rfl rfl)
theorem dX3_nextBid_127 : decode cX3_nextBid 127 = .ok (.ifCond .eq 8, 3) := dk_153 0 8 (dk_at dksX3_nextBid_5 13 rfl rfl)
theorem dX3_nextBid_130 : decode cX3_nextBid 130 = .ok (.iload 5, 2) := dk_21 5 (dk_at dksX3_nextBid_5 16 rfl rfl)
theorem dX3_nextBid_132 : decode cX3_nextBid 132 = .ok (.goto 5, 3) := dk_167 0 5 (dk_at dksX3_nextBid_5 18 rfl rfl)
theorem dX3_nextBid_135 : decode cX3_nextBid 135 = .ok (.iload 4, 2) := dk_21 4 (dk_at dksX3_nextBid_5 21 rfl rfl)
theorem dX3_nextBid_137 : decode cX3_nextBid 137 = .ok (.istore 4, 2) := dk_54 4 (dk_at dksX3_nextBid_6 0 rfl rfl)
theorem dX3_nextBid_139 : decode cX3_nextBid 139 = .ok (.iinc 5 1, 3) := dk_132 5 1 (dk_at dksX3_nextBid_6 2 rfl rfl)
theorem dX3_nextBid_142 : decode cX3_nextBid 142 = .ok (.goto (-136), 3) := dk_167 255 120 (dk_at dksX3_nextBid_6 5 rfl rfl)
theorem dX3_nextBid_145 : decode cX3_nextBid 145 = .ok (.iload 4, 2) := dk_21 4 (dk_at dksX3_nextBid_6 8 rfl rfl)
theorem dX3_nextBid_147 : decode cX3_nextBid 147 = .ok (.ireturn, 1) := dk_172 (dk_at dksX3_nextBid_6 10 rfl rfl)
abbrev cX3_isAllowed : ByteArray := prog_15_method_23_code
def yX3_isAllowed : MethodName := ⟨RX3, "isAllowed", "(I)Z"⟩
def dkwX3_isAllowed_5 : List UInt8 := [46, 159, 0, 7, 4, 167, 0, 4, 3, 61, 132, 5, 1, 167, 255, 197, 132, 3, 1, 167, 255, 124, 28, 172]
abbrev dktX3_isAllowed_5 : List UInt8 := dkwX3_isAllowed_5 ++ []
def dkwX3_isAllowed_4 : List UInt8 := [160, 0, 28, 42, 180, 0, 67, 29, 46, 158, 0, 19, 42, 180, 0, 67, 29, 46, 42, 180, 0, 67, 21, 5]
abbrev dktX3_isAllowed_4 : List UInt8 := dkwX3_isAllowed_4 ++ dktX3_isAllowed_5
def dkwX3_isAllowed_3 : List UInt8 := [54, 5, 21, 5, 29, 162, 0, 59, 28, 153, 0, 47, 21, 4, 153, 0, 38, 27, 21, 5, 122, 4, 126, 4]
abbrev dktX3_isAllowed_3 : List UInt8 := dkwX3_isAllowed_3 ++ dktX3_isAllowed_4
def dkwX3_isAllowed_2 : List UInt8 := [27, 42, 180, 0, 64, 29, 46, 4, 100, 122, 4, 126, 4, 160, 0, 7, 4, 167, 0, 4, 3, 61, 3]
abbrev dktX3_isAllowed_2 : List UInt8 := dkwX3_isAllowed_2 ++ dktX3_isAllowed_3
def dkwX3_isAllowed_1 : List UInt8 := [167, 0, 4, 3, 54, 4, 28, 153, 0, 37, 21, 4, 153, 0, 28, 42, 180, 0, 64, 29, 46, 153, 0, 19]
abbrev dktX3_isAllowed_1 : List UInt8 := dkwX3_isAllowed_1 ++ dktX3_isAllowed_2
def dkwX3_isAllowed_0 : List UInt8 := [4, 61, 3, 62, 29, 42, 180, 0, 204, 162, 0, 130, 27, 29, 122, 4, 126, 4, 160, 0, 7, 4]
abbrev dktX3_isAllowed_0 : List UInt8 := dkwX3_isAllowed_0 ++ dktX3_isAllowed_1
theorem dksX3_isAllowed_0 : cX3_isAllowed.data.toList.drop 0 = dktX3_isAllowed_0 := by decide +kernel
theorem dksX3_isAllowed_1 : cX3_isAllowed.data.toList.drop 22 = dktX3_isAllowed_1 := dk_seg dksX3_isAllowed_0 22 rfl rfl
theorem dksX3_isAllowed_2 : cX3_isAllowed.data.toList.drop 46 = dktX3_isAllowed_2 := dk_seg dksX3_isAllowed_1 24 rfl rfl
theorem dksX3_isAllowed_3 : cX3_isAllowed.data.toList.drop 69 = dktX3_isAllowed_3 := dk_seg dksX3_isAllowed_2 23 rfl rfl
theorem dksX3_isAllowed_4 : cX3_isAllowed.data.toList.drop 93 = dktX3_isAllowed_4 := dk_seg dksX3_isAllowed_3 24 rfl rfl
theorem dksX3_isAllowed_5 : cX3_isAllowed.data.toList.drop 117 = dktX3_isAllowed_5 := dk_seg dksX3_isAllowed_4 24 rfl rfl
theorem dX3_isAllowed_0 : decode cX3_isAllowed 0 = .ok (.iconst 1, 1) := dk_4 (dk_at dksX3_isAllowed_0 0 rfl rfl)
theorem dX3_isAllowed_1 : decode cX3_isAllowed 1 = .ok (.istore_n 2, 1) := dk_61 (dk_at dksX3_isAllowed_0 1 rfl rfl)
theorem dX3_isAllowed_2 : decode cX3_isAllowed 2 = .ok (.iconst 0, 1) := dk_3 (dk_at dksX3_isAllowed_0 2 rfl rfl)
theorem dX3_isAllowed_3 : decode cX3_isAllowed 3 = .ok (.istore_n 3, 1) := dk_62 (dk_at dksX3_isAllowed_0 3 rfl rfl)
theorem dX3_isAllowed_4 : decode cX3_isAllowed 4 = .ok (.iload_n 3, 1) := dk_29 (dk_at dksX3_isAllowed_0 4 rfl rfl)
theorem dX3_isAllowed_5 : decode cX3_isAllowed 5 = .ok (.aload_n 0, 1) := dk_42 (dk_at dksX3_isAllowed_0 5 rfl rfl)
theorem dX3_isAllowed_6 : decode cX3_isAllowed 6 = .ok (.getfield 204, 3) := dk_180 0 204 (dk_at dksX3_isAllowed_0 6 rfl rfl)
theorem dX3_isAllowed_9 : decode cX3_isAllowed 9 = .ok (.if_icmp .ge 130, 3) := dk_162 0 130 (dk_at dksX3_isAllowed_0 9 rfl rfl)
theorem dX3_isAllowed_12 : decode cX3_isAllowed 12 = .ok (.iload_n 1, 1) := dk_27 (dk_at dksX3_isAllowed_0 12 rfl rfl)
theorem dX3_isAllowed_13 : decode cX3_isAllowed 13 = .ok (.iload_n 3, 1) := dk_29 (dk_at dksX3_isAllowed_0 13 rfl rfl)
theorem dX3_isAllowed_14 : decode cX3_isAllowed 14 = .ok (.ishr, 1) := dk_122 (dk_at dksX3_isAllowed_0 14 rfl rfl)
theorem dX3_isAllowed_15 : decode cX3_isAllowed 15 = .ok (.iconst 1, 1) := dk_4 (dk_at dksX3_isAllowed_0 15 rfl rfl)
theorem dX3_isAllowed_16 : decode cX3_isAllowed 16 = .ok (.iand, 1) := dk_126 (dk_at dksX3_isAllowed_0 16 rfl rfl)
theorem dX3_isAllowed_17 : decode cX3_isAllowed 17 = .ok (.iconst 1, 1) := dk_4 (dk_at dksX3_isAllowed_0 17 rfl rfl)
theorem dX3_isAllowed_18 : decode cX3_isAllowed 18 = .ok (.if_icmp .ne 7, 3) := dk_160 0 7 (dk_at dksX3_isAllowed_0 18 rfl rfl)
theorem dX3_isAllowed_21 : decode cX3_isAllowed 21 = .ok (.iconst 1, 1) := dk_4 (dk_at dksX3_isAllowed_0 21 rfl rfl)
theorem dX3_isAllowed_22 : decode cX3_isAllowed 22 = .ok (.goto 4, 3) := dk_167 0 4 (dk_at dksX3_isAllowed_1 0 rfl rfl)
theorem dX3_isAllowed_25 : decode cX3_isAllowed 25 = .ok (.iconst 0, 1) := dk_3 (dk_at dksX3_isAllowed_1 3 rfl rfl)
theorem dX3_isAllowed_26 : decode cX3_isAllowed 26 = .ok (.istore 4, 2) := dk_54 4 (dk_at dksX3_isAllowed_1 4 rfl rfl)
theorem dX3_isAllowed_28 : decode cX3_isAllowed 28 = .ok (.iload_n 2, 1) := dk_28 (dk_at dksX3_isAllowed_1 6 rfl rfl)
theorem dX3_isAllowed_29 : decode cX3_isAllowed 29 = .ok (.ifCond .eq 37, 3) := dk_153 0 37 (dk_at dksX3_isAllowed_1 7 rfl rfl)
theorem dX3_isAllowed_32 : decode cX3_isAllowed 32 = .ok (.iload 4, 2) := dk_21 4 (dk_at dksX3_isAllowed_1 10 rfl rfl)
theorem dX3_isAllowed_34 : decode cX3_isAllowed 34 = .ok (.ifCond .eq 28, 3) := dk_153 0 28 (dk_at dksX3_isAllowed_1 12 rfl rfl)
theorem dX3_isAllowed_37 : decode cX3_isAllowed 37 = .ok (.aload_n 0, 1) := dk_42 (dk_at dksX3_isAllowed_1 15 rfl rfl)
theorem dX3_isAllowed_38 : decode cX3_isAllowed 38 = .ok (.getfield 64, 3) := dk_180 0 64 (dk_at dksX3_isAllowed_1 16 rfl rfl)
theorem dX3_isAllowed_41 : decode cX3_isAllowed 41 = .ok (.iload_n 3, 1) := dk_29 (dk_at dksX3_isAllowed_1 19 rfl rfl)
theorem dX3_isAllowed_42 : decode cX3_isAllowed 42 = .ok (.iaload, 1) := dk_46 (dk_at dksX3_isAllowed_1 20 rfl rfl)
theorem dX3_isAllowed_43 : decode cX3_isAllowed 43 = .ok (.ifCond .eq 19, 3) := dk_153 0 19 (dk_at dksX3_isAllowed_1 21 rfl rfl)
theorem dX3_isAllowed_46 : decode cX3_isAllowed 46 = .ok (.iload_n 1, 1) := dk_27 (dk_at dksX3_isAllowed_2 0 rfl rfl)
theorem dX3_isAllowed_47 : decode cX3_isAllowed 47 = .ok (.aload_n 0, 1) := dk_42 (dk_at dksX3_isAllowed_2 1 rfl rfl)
theorem dX3_isAllowed_48 : decode cX3_isAllowed 48 = .ok (.getfield 64, 3) := dk_180 0 64 (dk_at dksX3_isAllowed_2 2 rfl rfl)
theorem dX3_isAllowed_51 : decode cX3_isAllowed 51 = .ok (.iload_n 3, 1) := dk_29 (dk_at dksX3_isAllowed_2 5 rfl rfl)
theorem dX3_isAllowed_52 : decode cX3_isAllowed 52 = .ok (.iaload, 1) := dk_46 (dk_at dksX3_isAllowed_2 6 rfl rfl)
theorem dX3_isAllowed_53 : decode cX3_isAllowed 53 = .ok (.iconst 1, 1) := dk_4 (dk_at dksX3_isAllowed_2 7 rfl rfl)
theorem dX3_isAllowed_54 : decode cX3_isAllowed 54 = .ok (.isub, 1) := dk_100 (dk_at dksX3_isAllowed_2 8 rfl rfl)
theorem dX3_isAllowed_55 : decode cX3_isAllowed 55 = .ok (.ishr, 1) := dk_122 (dk_at dksX3_isAllowed_2 9 rfl rfl)
theorem dX3_isAllowed_56 : decode cX3_isAllowed 56 = .ok (.iconst 1, 1) := dk_4 (dk_at dksX3_isAllowed_2 10 rfl rfl)
theorem dX3_isAllowed_57 : decode cX3_isAllowed 57 = .ok (.iand, 1) := dk_126 (dk_at dksX3_isAllowed_2 11 rfl rfl)
theorem dX3_isAllowed_58 : decode cX3_isAllowed 58 = .ok (.iconst 1, 1) := dk_4 (dk_at dksX3_isAllowed_2 12 rfl rfl)
theorem dX3_isAllowed_59 : decode cX3_isAllowed 59 = .ok (.if_icmp .ne 7, 3) := dk_160 0 7 (dk_at dksX3_isAllowed_2 13 rfl rfl)
theorem dX3_isAllowed_62 : decode cX3_isAllowed 62 = .ok (.iconst 1, 1) := dk_4 (dk_at dksX3_isAllowed_2 16 rfl rfl)
theorem dX3_isAllowed_63 : decode cX3_isAllowed 63 = .ok (.goto 4, 3) := dk_167 0 4 (dk_at dksX3_isAllowed_2 17 rfl rfl)
theorem dX3_isAllowed_66 : decode cX3_isAllowed 66 = .ok (.iconst 0, 1) := dk_3 (dk_at dksX3_isAllowed_2 20 rfl rfl)
theorem dX3_isAllowed_67 : decode cX3_isAllowed 67 = .ok (.istore_n 2, 1) := dk_61 (dk_at dksX3_isAllowed_2 21 rfl rfl)
theorem dX3_isAllowed_68 : decode cX3_isAllowed 68 = .ok (.iconst 0, 1) := dk_3 (dk_at dksX3_isAllowed_2 22 rfl rfl)
theorem dX3_isAllowed_69 : decode cX3_isAllowed 69 = .ok (.istore 5, 2) := dk_54 5 (dk_at dksX3_isAllowed_3 0 rfl rfl)
theorem dX3_isAllowed_71 : decode cX3_isAllowed 71 = .ok (.iload 5, 2) := dk_21 5 (dk_at dksX3_isAllowed_3 2 rfl rfl)
theorem dX3_isAllowed_73 : decode cX3_isAllowed 73 = .ok (.iload_n 3, 1) := dk_29 (dk_at dksX3_isAllowed_3 4 rfl rfl)
theorem dX3_isAllowed_74 : decode cX3_isAllowed 74 = .ok (.if_icmp .ge 59, 3) := dk_162 0 59 (dk_at dksX3_isAllowed_3 5 rfl rfl)
theorem dX3_isAllowed_77 : decode cX3_isAllowed 77 = .ok (.iload_n 2, 1) := dk_28 (dk_at dksX3_isAllowed_3 8 rfl rfl)
theorem dX3_isAllowed_78 : decode cX3_isAllowed 78 = .ok (.ifCond .eq 47, 3) := dk_153 0 47 (dk_at dksX3_isAllowed_3 9 rfl rfl)
theorem dX3_isAllowed_81 : decode cX3_isAllowed 81 = .ok (.iload 4, 2) := dk_21 4 (dk_at dksX3_isAllowed_3 12 rfl rfl)
theorem dX3_isAllowed_83 : decode cX3_isAllowed 83 = .ok (.ifCond .eq 38, 3) := dk_153 0 38 (dk_at dksX3_isAllowed_3 14 rfl rfl)
theorem dX3_isAllowed_86 : decode cX3_isAllowed 86 = .ok (.iload_n 1, 1) := dk_27 (dk_at dksX3_isAllowed_3 17 rfl rfl)
theorem dX3_isAllowed_87 : decode cX3_isAllowed 87 = .ok (.iload 5, 2) := dk_21 5 (dk_at dksX3_isAllowed_3 18 rfl rfl)
theorem dX3_isAllowed_89 : decode cX3_isAllowed 89 = .ok (.ishr, 1) := dk_122 (dk_at dksX3_isAllowed_3 20 rfl rfl)
theorem dX3_isAllowed_90 : decode cX3_isAllowed 90 = .ok (.iconst 1, 1) := dk_4 (dk_at dksX3_isAllowed_3 21 rfl rfl)
theorem dX3_isAllowed_91 : decode cX3_isAllowed 91 = .ok (.iand, 1) := dk_126 (dk_at dksX3_isAllowed_3 22 rfl rfl)
theorem dX3_isAllowed_92 : decode cX3_isAllowed 92 = .ok (.iconst 1, 1) := dk_4 (dk_at dksX3_isAllowed_3 23 rfl rfl)
theorem dX3_isAllowed_93 : decode cX3_isAllowed 93 = .ok (.if_icmp .ne 28, 3) := dk_160 0 28 (dk_at dksX3_isAllowed_4 0 rfl rfl)
theorem dX3_isAllowed_96 : decode cX3_isAllowed 96 = .ok (.aload_n 0, 1) := dk_42 (dk_at dksX3_isAllowed_4 3 rfl rfl)
theorem dX3_isAllowed_97 : decode cX3_isAllowed 97 = .ok (.getfield 67, 3) := dk_180 0 67 (dk_at dksX3_isAllowed_4 4 rfl rfl)
theorem dX3_isAllowed_100 : decode cX3_isAllowed 100 = .ok (.iload_n 3, 1) := dk_29 (dk_at dksX3_isAllowed_4 7 rfl rfl)
theorem dX3_isAllowed_101 : decode cX3_isAllowed 101 = .ok (.iaload, 1) := dk_46 (dk_at dksX3_isAllowed_4 8 rfl rfl)
theorem dX3_isAllowed_102 : decode cX3_isAllowed 102 = .ok (.ifCond .le 19, 3) := dk_158 0 19 (dk_at dksX3_isAllowed_4 9 rfl rfl)
theorem dX3_isAllowed_105 : decode cX3_isAllowed 105 = .ok (.aload_n 0, 1) := dk_42 (dk_at dksX3_isAllowed_4 12 rfl rfl)
theorem dX3_isAllowed_106 : decode cX3_isAllowed 106 = .ok (.getfield 67, 3) := dk_180 0 67 (dk_at dksX3_isAllowed_4 13 rfl rfl)
theorem dX3_isAllowed_109 : decode cX3_isAllowed 109 = .ok (.iload_n 3, 1) := dk_29 (dk_at dksX3_isAllowed_4 16 rfl rfl)
theorem dX3_isAllowed_110 : decode cX3_isAllowed 110 = .ok (.iaload, 1) := dk_46 (dk_at dksX3_isAllowed_4 17 rfl rfl)
theorem dX3_isAllowed_111 : decode cX3_isAllowed 111 = .ok (.aload_n 0, 1) := dk_42 (dk_at dksX3_isAllowed_4 18 rfl rfl)
theorem dX3_isAllowed_112 : decode cX3_isAllowed 112 = .ok (.getfield 67, 3) := dk_180 0 67 (dk_at dksX3_isAllowed_4 19 rfl rfl)
theorem dX3_isAllowed_115 : decode cX3_isAllowed 115 = .ok (.iload 5, 2) := dk_21 5 (dk_at dksX3_isAllowed_4 22 rfl rfl)
theorem dX3_isAllowed_117 : decode cX3_isAllowed 117 = .ok (.iaload, 1) := dk_46 (dk_at dksX3_isAllowed_5 0 rfl rfl)
theorem dX3_isAllowed_118 : decode cX3_isAllowed 118 = .ok (.if_icmp .eq 7, 3) := dk_159 0 7 (dk_at dksX3_isAllowed_5 1 rfl rfl)
theorem dX3_isAllowed_121 : decode cX3_isAllowed 121 = .ok (.iconst 1, 1) := dk_4 (dk_at dksX3_isAllowed_5 4 rfl rfl)
theorem dX3_isAllowed_122 : decode cX3_isAllowed 122 = .ok (.goto 4, 3) := dk_167 0 4 (dk_at dksX3_isAllowed_5 5 rfl rfl)
theorem dX3_isAllowed_125 : decode cX3_isAllowed 125 = .ok (.iconst 0, 1) := dk_3 (dk_at dksX3_isAllowed_5 8 rfl rfl)
theorem dX3_isAllowed_126 : decode cX3_isAllowed 126 = .ok (.istore_n 2, 1) := dk_61 (dk_at dksX3_isAllowed_5 9 rfl rfl)
theorem dX3_isAllowed_127 : decode cX3_isAllowed 127 = .ok (.iinc 5 1, 3) := dk_132 5 1 (dk_at dksX3_isAllowed_5 10 rfl rfl)
theorem dX3_isAllowed_130 : decode cX3_isAllowed 130 = .ok (.goto (-59), 3) := dk_167 255 197 (dk_at dksX3_isAllowed_5 13 rfl rfl)
theorem dX3_isAllowed_133 : decode cX3_isAllowed 133 = .ok (.iinc 3 1, 3) := dk_132 3 1 (dk_at dksX3_isAllowed_5 16 rfl rfl)
theorem dX3_isAllowed_136 : decode cX3_isAllowed 136 = .ok (.goto (-132), 3) := dk_167 255 124 (dk_at dksX3_isAllowed_5 19 rfl rfl)
theorem dX3_isAllowed_139 : decode cX3_isAllowed 139 = .ok (.iload_n 2, 1) := dk_28 (dk_at dksX3_isAllowed_5 22 rfl rfl)
theorem dX3_isAllowed_140 : decode cX3_isAllowed 140 = .ok (.ireturn, 1) := dk_172 (dk_at dksX3_isAllowed_5 23 rfl rfl)
abbrev cX3_tries : ByteArray := prog_15_method_29_code
def yX3_tries : MethodName := ⟨RX3, "tries", "(I)I"⟩
def dkwX3_tries_7 : List UInt8 := [182, 1, 5, 156, 0, 6, 18, 223, 172, 132, 3, 1, 167, 255, 220, 28, 172]
abbrev dktX3_tries_7 : List UInt8 := dkwX3_tries_7 ++ []
def dkwX3_tries_6 : List UInt8 := [180, 0, 204, 162, 0, 34, 27, 29, 122, 4, 126, 4, 160, 0, 19, 42, 29, 42, 180, 0, 172, 3]
abbrev dktX3_tries_6 : List UInt8 := dkwX3_tries_6 ++ dktX3_tries_7
def dkwX3_tries_5 : List UInt8 := [21, 4, 100, 167, 0, 4, 3, 79, 132, 5, 1, 167, 255, 211, 132, 3, 1, 167, 255, 133, 3, 62, 29, 42]
abbrev dktX3_tries_5 : List UInt8 := dkwX3_tries_5 ++ dktX3_tries_6
def dkwX3_tries_4 : List UInt8 := [182, 1, 2, 54, 6, 42, 180, 0, 172, 7, 21, 5, 104, 29, 96, 21, 6, 21, 4, 164, 0, 11, 21, 6]
abbrev dktX3_tries_4 : List UInt8 := dkwX3_tries_4 ++ dktX3_tries_5
def dkwX3_tries_3 : List UInt8 := [42, 180, 0, 238, 116, 42, 180, 0, 241, 100, 79, 3, 54, 5, 21, 5, 6, 162, 0, 45, 42, 29, 21, 5]
abbrev dktX3_tries_3 : List UInt8 := dkwX3_tries_3 ++ dktX3_tries_4
def dkwX3_tries_2 : List UInt8 := [180, 0, 238, 79, 42, 180, 0, 169, 7, 29, 96, 42, 180, 0, 241, 79, 42, 180, 0, 169, 16, 8, 29, 96]
abbrev dktX3_tries_2 : List UInt8 := dkwX3_tries_2 ++ dktX3_tries_3
def dkwX3_tries_1 : List UInt8 := [54, 4, 21, 4, 18, 223, 160, 0, 6, 18, 223, 172, 28, 21, 4, 96, 61, 42, 180, 0, 169, 29, 42]
abbrev dktX3_tries_1 : List UInt8 := dkwX3_tries_1 ++ dktX3_tries_2
def dkwX3_tries_0 : List UInt8 := [42, 27, 182, 0, 251, 42, 27, 182, 0, 255, 61, 3, 62, 29, 7, 162, 0, 124, 42, 29, 2, 182, 1, 2]
abbrev dktX3_tries_0 : List UInt8 := dkwX3_tries_0 ++ dktX3_tries_1
theorem dksX3_tries_0 : cX3_tries.data.toList.drop 0 = dktX3_tries_0 := by decide +kernel
theorem dksX3_tries_1 : cX3_tries.data.toList.drop 24 = dktX3_tries_1 := dk_seg dksX3_tries_0 24 rfl rfl
theorem dksX3_tries_2 : cX3_tries.data.toList.drop 47 = dktX3_tries_2 := dk_seg dksX3_tries_1 23 rfl rfl
theorem dksX3_tries_3 : cX3_tries.data.toList.drop 71 = dktX3_tries_3 := dk_seg dksX3_tries_2 24 rfl rfl
theorem dksX3_tries_4 : cX3_tries.data.toList.drop 95 = dktX3_tries_4 := dk_seg dksX3_tries_3 24 rfl rfl
theorem dksX3_tries_5 : cX3_tries.data.toList.drop 119 = dktX3_tries_5 := dk_seg dksX3_tries_4 24 rfl rfl
theorem dksX3_tries_6 : cX3_tries.data.toList.drop 143 = dktX3_tries_6 := dk_seg dksX3_tries_5 24 rfl rfl
theorem dksX3_tries_7 : cX3_tries.data.toList.drop 165 = dktX3_tries_7 := dk_seg dksX3_tries_6 22 rfl rfl
theorem dX3_tries_0 : decode cX3_tries 0 = .ok (.aload_n 0, 1) := dk_42 (dk_at dksX3_tries_0 0 rfl rfl)
theorem dX3_tries_1 : decode cX3_tries 1 = .ok (.iload_n 1, 1) := dk_27 (dk_at dksX3_tries_0 1 rfl rfl)
theorem dX3_tries_2 : decode cX3_tries 2 = .ok (.invokevirtual 251, 3) := dk_182 0 251 (dk_at dksX3_tries_0 2 rfl rfl)
theorem dX3_tries_5 : decode cX3_tries 5 = .ok (.aload_n 0, 1) := dk_42 (dk_at dksX3_tries_0 5 rfl rfl)
theorem dX3_tries_6 : decode cX3_tries 6 = .ok (.iload_n 1, 1) := dk_27 (dk_at dksX3_tries_0 6 rfl rfl)
theorem dX3_tries_7 : decode cX3_tries 7 = .ok (.invokevirtual 255, 3) := dk_182 0 255 (dk_at dksX3_tries_0 7 rfl rfl)
theorem dX3_tries_10 : decode cX3_tries 10 = .ok (.istore_n 2, 1) := dk_61 (dk_at dksX3_tries_0 10 rfl rfl)
theorem dX3_tries_11 : decode cX3_tries 11 = .ok (.iconst 0, 1) := dk_3 (dk_at dksX3_tries_0 11 rfl rfl)
theorem dX3_tries_12 : decode cX3_tries 12 = .ok (.istore_n 3, 1) := dk_62 (dk_at dksX3_tries_0 12 rfl rfl)
theorem dX3_tries_13 : decode cX3_tries 13 = .ok (.iload_n 3, 1) := dk_29 (dk_at dksX3_tries_0 13 rfl rfl)
theorem dX3_tries_14 : decode cX3_tries 14 = .ok (.iconst 4, 1) := dk_7 (dk_at dksX3_tries_0 14 rfl rfl)
theorem dX3_tries_15 : decode cX3_tries 15 = .ok (.if_icmp .ge 124, 3) := dk_162 0 124 (dk_at dksX3_tries_0 15 rfl rfl)
theorem dX3_tries_18 : decode cX3_tries 18 = .ok (.aload_n 0, 1) := dk_42 (dk_at dksX3_tries_0 18 rfl rfl)
theorem dX3_tries_19 : decode cX3_tries 19 = .ok (.iload_n 3, 1) := dk_29 (dk_at dksX3_tries_0 19 rfl rfl)
theorem dX3_tries_20 : decode cX3_tries 20 = .ok (.iconst (-1), 1) := dk_2 (dk_at dksX3_tries_0 20 rfl rfl)
theorem dX3_tries_21 : decode cX3_tries 21 = .ok (.invokevirtual 258, 3) := dk_182 1 2 (dk_at dksX3_tries_0 21 rfl rfl)
theorem dX3_tries_24 : decode cX3_tries 24 = .ok (.istore 4, 2) := dk_54 4 (dk_at dksX3_tries_1 0 rfl rfl)
theorem dX3_tries_26 : decode cX3_tries 26 = .ok (.iload 4, 2) := dk_21 4 (dk_at dksX3_tries_1 2 rfl rfl)
theorem dX3_tries_28 : decode cX3_tries 28 = .ok (.ldc 223, 2) := dk_18 223 (dk_at dksX3_tries_1 4 rfl rfl)
theorem dX3_tries_30 : decode cX3_tries 30 = .ok (.if_icmp .ne 6, 3) := dk_160 0 6 (dk_at dksX3_tries_1 6 rfl rfl)
theorem dX3_tries_33 : decode cX3_tries 33 = .ok (.ldc 223, 2) := dk_18 223 (dk_at dksX3_tries_1 9 rfl rfl)
theorem dX3_tries_35 : decode cX3_tries 35 = .ok (.ireturn, 1) := dk_172 (dk_at dksX3_tries_1 11 rfl rfl)
theorem dX3_tries_36 : decode cX3_tries 36 = .ok (.iload_n 2, 1) := dk_28 (dk_at dksX3_tries_1 12 rfl rfl)
theorem dX3_tries_37 : decode cX3_tries 37 = .ok (.iload 4, 2) := dk_21 4 (dk_at dksX3_tries_1 13 rfl rfl)
theorem dX3_tries_39 : decode cX3_tries 39 = .ok (.iadd, 1) := dk_96 (dk_at dksX3_tries_1 15 rfl rfl)
theorem dX3_tries_40 : decode cX3_tries 40 = .ok (.istore_n 2, 1) := dk_61 (dk_at dksX3_tries_1 16 rfl rfl)
theorem dX3_tries_41 : decode cX3_tries 41 = .ok (.aload_n 0, 1) := dk_42 (dk_at dksX3_tries_1 17 rfl rfl)
theorem dX3_tries_42 : decode cX3_tries 42 = .ok (.getfield 169, 3) := dk_180 0 169 (dk_at dksX3_tries_1 18 rfl rfl)
theorem dX3_tries_45 : decode cX3_tries 45 = .ok (.iload_n 3, 1) := dk_29 (dk_at dksX3_tries_1 21 rfl rfl)
theorem dX3_tries_46 : decode cX3_tries 46 = .ok (.aload_n 0, 1) := dk_42 (dk_at dksX3_tries_1 22 rfl rfl)
theorem dX3_tries_47 : decode cX3_tries 47 = .ok (.getfield 238, 3) := dk_180 0 238 (dk_at dksX3_tries_2 0 rfl rfl)
theorem dX3_tries_50 : decode cX3_tries 50 = .ok (.iastore, 1) := dk_79 (dk_at dksX3_tries_2 3 rfl rfl)
theorem dX3_tries_51 : decode cX3_tries 51 = .ok (.aload_n 0, 1) := dk_42 (dk_at dksX3_tries_2 4 rfl rfl)
theorem dX3_tries_52 : decode cX3_tries 52 = .ok (.getfield 169, 3) := dk_180 0 169 (dk_at dksX3_tries_2 5 rfl rfl)
theorem dX3_tries_55 : decode cX3_tries 55 = .ok (.iconst 4, 1) := dk_7 (dk_at dksX3_tries_2 8 rfl rfl)
theorem dX3_tries_56 : decode cX3_tries 56 = .ok (.iload_n 3, 1) := dk_29 (dk_at dksX3_tries_2 9 rfl rfl)
theorem dX3_tries_57 : decode cX3_tries 57 = .ok (.iadd, 1) := dk_96 (dk_at dksX3_tries_2 10 rfl rfl)
theorem dX3_tries_58 : decode cX3_tries 58 = .ok (.aload_n 0, 1) := dk_42 (dk_at dksX3_tries_2 11 rfl rfl)
theorem dX3_tries_59 : decode cX3_tries 59 = .ok (.getfield 241, 3) := dk_180 0 241 (dk_at dksX3_tries_2 12 rfl rfl)
theorem dX3_tries_62 : decode cX3_tries 62 = .ok (.iastore, 1) := dk_79 (dk_at dksX3_tries_2 15 rfl rfl)
theorem dX3_tries_63 : decode cX3_tries 63 = .ok (.aload_n 0, 1) := dk_42 (dk_at dksX3_tries_2 16 rfl rfl)
theorem dX3_tries_64 : decode cX3_tries 64 = .ok (.getfield 169, 3) := dk_180 0 169 (dk_at dksX3_tries_2 17 rfl rfl)
theorem dX3_tries_67 : decode cX3_tries 67 = .ok (.bipush 8, 2) := dk_16 8 (dk_at dksX3_tries_2 20 rfl rfl)
theorem dX3_tries_69 : decode cX3_tries 69 = .ok (.iload_n 3, 1) := dk_29 (dk_at dksX3_tries_2 22 rfl rfl)
theorem dX3_tries_70 : decode cX3_tries 70 = .ok (.iadd, 1) := dk_96 (dk_at dksX3_tries_2 23 rfl rfl)
theorem dX3_tries_71 : decode cX3_tries 71 = .ok (.aload_n 0, 1) := dk_42 (dk_at dksX3_tries_3 0 rfl rfl)
theorem dX3_tries_72 : decode cX3_tries 72 = .ok (.getfield 238, 3) := dk_180 0 238 (dk_at dksX3_tries_3 1 rfl rfl)
theorem dX3_tries_75 : decode cX3_tries 75 = .ok (.ineg, 1) := dk_116 (dk_at dksX3_tries_3 4 rfl rfl)
theorem dX3_tries_76 : decode cX3_tries 76 = .ok (.aload_n 0, 1) := dk_42 (dk_at dksX3_tries_3 5 rfl rfl)
theorem dX3_tries_77 : decode cX3_tries 77 = .ok (.getfield 241, 3) := dk_180 0 241 (dk_at dksX3_tries_3 6 rfl rfl)
theorem dX3_tries_80 : decode cX3_tries 80 = .ok (.isub, 1) := dk_100 (dk_at dksX3_tries_3 9 rfl rfl)
theorem dX3_tries_81 : decode cX3_tries 81 = .ok (.iastore, 1) := dk_79 (dk_at dksX3_tries_3 10 rfl rfl)
theorem dX3_tries_82 : decode cX3_tries 82 = .ok (.iconst 0, 1) := dk_3 (dk_at dksX3_tries_3 11 rfl rfl)
theorem dX3_tries_83 : decode cX3_tries 83 = .ok (.istore 5, 2) := dk_54 5 (dk_at dksX3_tries_3 12 rfl rfl)
theorem dX3_tries_85 : decode cX3_tries 85 = .ok (.iload 5, 2) := dk_21 5 (dk_at dksX3_tries_3 14 rfl rfl)
theorem dX3_tries_87 : decode cX3_tries 87 = .ok (.iconst 3, 1) := dk_6 (dk_at dksX3_tries_3 16 rfl rfl)
theorem dX3_tries_88 : decode cX3_tries 88 = .ok (.if_icmp .ge 45, 3) := dk_162 0 45 (dk_at dksX3_tries_3 17 rfl rfl)
theorem dX3_tries_91 : decode cX3_tries 91 = .ok (.aload_n 0, 1) := dk_42 (dk_at dksX3_tries_3 20 rfl rfl)
theorem dX3_tries_92 : decode cX3_tries 92 = .ok (.iload_n 3, 1) := dk_29 (dk_at dksX3_tries_3 21 rfl rfl)
theorem dX3_tries_93 : decode cX3_tries 93 = .ok (.iload 5, 2) := dk_21 5 (dk_at dksX3_tries_3 22 rfl rfl)
theorem dX3_tries_95 : decode cX3_tries 95 = .ok (.invokevirtual 258, 3) := dk_182 1 2 (dk_at dksX3_tries_4 0 rfl rfl)
theorem dX3_tries_98 : decode cX3_tries 98 = .ok (.istore 6, 2) := dk_54 6 (dk_at dksX3_tries_4 3 rfl rfl)
theorem dX3_tries_100 : decode cX3_tries 100 = .ok (.aload_n 0, 1) := dk_42 (dk_at dksX3_tries_4 5 rfl rfl)
theorem dX3_tries_101 : decode cX3_tries 101 = .ok (.getfield 172, 3) := dk_180 0 172 (dk_at dksX3_tries_4 6 rfl rfl)
theorem dX3_tries_104 : decode cX3_tries 104 = .ok (.iconst 4, 1) := dk_7 (dk_at dksX3_tries_4 9 rfl rfl)
theorem dX3_tries_105 : decode cX3_tries 105 = .ok (.iload 5, 2) := dk_21 5 (dk_at dksX3_tries_4 10 rfl rfl)
theorem dX3_tries_107 : decode cX3_tries 107 = .ok (.imul, 1) := dk_104 (dk_at dksX3_tries_4 12 rfl rfl)
theorem dX3_tries_108 : decode cX3_tries 108 = .ok (.iload_n 3, 1) := dk_29 (dk_at dksX3_tries_4 13 rfl rfl)
theorem dX3_tries_109 : decode cX3_tries 109 = .ok (.iadd, 1) := dk_96 (dk_at dksX3_tries_4 14 rfl rfl)
theorem dX3_tries_110 : decode cX3_tries 110 = .ok (.iload 6, 2) := dk_21 6 (dk_at dksX3_tries_4 15 rfl rfl)
theorem dX3_tries_112 : decode cX3_tries 112 = .ok (.iload 4, 2) := dk_21 4 (dk_at dksX3_tries_4 17 rfl rfl)
theorem dX3_tries_114 : decode cX3_tries 114 = .ok (.if_icmp .le 11, 3) := dk_164 0 11 (dk_at dksX3_tries_4 19 rfl rfl)
theorem dX3_tries_117 : decode cX3_tries 117 = .ok (.iload 6, 2) := dk_21 6 (dk_at dksX3_tries_4 22 rfl rfl)
theorem dX3_tries_119 : decode cX3_tries 119 = .ok (.iload 4, 2) := dk_21 4 (dk_at dksX3_tries_5 0 rfl rfl)
theorem dX3_tries_121 : decode cX3_tries 121 = .ok (.isub, 1) := dk_100 (dk_at dksX3_tries_5 2 rfl rfl)
theorem dX3_tries_122 : decode cX3_tries 122 = .ok (.goto 4, 3) := dk_167 0 4 (dk_at dksX3_tries_5 3 rfl rfl)
theorem dX3_tries_125 : decode cX3_tries 125 = .ok (.iconst 0, 1) := dk_3 (dk_at dksX3_tries_5 6 rfl rfl)
theorem dX3_tries_126 : decode cX3_tries 126 = .ok (.iastore, 1) := dk_79 (dk_at dksX3_tries_5 7 rfl rfl)
theorem dX3_tries_127 : decode cX3_tries 127 = .ok (.iinc 5 1, 3) := dk_132 5 1 (dk_at dksX3_tries_5 8 rfl rfl)
theorem dX3_tries_130 : decode cX3_tries 130 = .ok (.goto (-45), 3) := dk_167 255 211 (dk_at dksX3_tries_5 11 rfl rfl)
theorem dX3_tries_133 : decode cX3_tries 133 = .ok (.iinc 3 1, 3) := dk_132 3 1 (dk_at dksX3_tries_5 14 rfl rfl)
theorem dX3_tries_136 : decode cX3_tries 136 = .ok (.goto (-123), 3) := dk_167 255 133 (dk_at dksX3_tries_5 17 rfl rfl)
theorem dX3_tries_139 : decode cX3_tries 139 = .ok (.iconst 0, 1) := dk_3 (dk_at dksX3_tries_5 20 rfl rfl)
theorem dX3_tries_140 : decode cX3_tries 140 = .ok (.istore_n 3, 1) := dk_62 (dk_at dksX3_tries_5 21 rfl rfl)
theorem dX3_tries_141 : decode cX3_tries 141 = .ok (.iload_n 3, 1) := dk_29 (dk_at dksX3_tries_5 22 rfl rfl)
theorem dX3_tries_142 : decode cX3_tries 142 = .ok (.aload_n 0, 1) := dk_42 (dk_at dksX3_tries_5 23 rfl rfl)
theorem dX3_tries_143 : decode cX3_tries 143 = .ok (.getfield 204, 3) := dk_180 0 204 (dk_at dksX3_tries_6 0 rfl rfl)
theorem dX3_tries_146 : decode cX3_tries 146 = .ok (.if_icmp .ge 34, 3) := dk_162 0 34 (dk_at dksX3_tries_6 3 rfl rfl)
theorem dX3_tries_149 : decode cX3_tries 149 = .ok (.iload_n 1, 1) := dk_27 (dk_at dksX3_tries_6 6 rfl rfl)
theorem dX3_tries_150 : decode cX3_tries 150 = .ok (.iload_n 3, 1) := dk_29 (dk_at dksX3_tries_6 7 rfl rfl)
theorem dX3_tries_151 : decode cX3_tries 151 = .ok (.ishr, 1) := dk_122 (dk_at dksX3_tries_6 8 rfl rfl)
theorem dX3_tries_152 : decode cX3_tries 152 = .ok (.iconst 1, 1) := dk_4 (dk_at dksX3_tries_6 9 rfl rfl)
theorem dX3_tries_153 : decode cX3_tries 153 = .ok (.iand, 1) := dk_126 (dk_at dksX3_tries_6 10 rfl rfl)
theorem dX3_tries_154 : decode cX3_tries 154 = .ok (.iconst 1, 1) := dk_4 (dk_at dksX3_tries_6 11 rfl rfl)
theorem dX3_tries_155 : decode cX3_tries 155 = .ok (.if_icmp .ne 19, 3) := dk_160 0 19 (dk_at dksX3_tries_6 12 rfl rfl)
theorem dX3_tries_158 : decode cX3_tries 158 = .ok (.aload_n 0, 1) := dk_42 (dk_at dksX3_tries_6 15 rfl rfl)
theorem dX3_tries_159 : decode cX3_tries 159 = .ok (.iload_n 3, 1) := dk_29 (dk_at dksX3_tries_6 16 rfl rfl)
theorem dX3_tries_160 : decode cX3_tries 160 = .ok (.aload_n 0, 1) := dk_42 (dk_at dksX3_tries_6 17 rfl rfl)
theorem dX3_tries_161 : decode cX3_tries 161 = .ok (.getfield 172, 3) := dk_180 0 172 (dk_at dksX3_tries_6 18 rfl rfl)
theorem dX3_tries_164 : decode cX3_tries 164 = .ok (.iconst 0, 1) := dk_3 (dk_at dksX3_tries_6 21 rfl rfl)
theorem dX3_tries_165 : decode cX3_tries 165 = .ok (.invokevirtual 261, 3) := dk_182 1 5 (dk_at dksX3_tries_7 0 rfl rfl)
theorem dX3_tries_168 : decode cX3_tries 168 = .ok (.ifCond .ge 6, 3) := dk_156 0 6 (dk_at dksX3_tries_7 3 rfl rfl)
theorem dX3_tries_171 : decode cX3_tries 171 = .ok (.ldc 223, 2) := dk_18 223 (dk_at dksX3_tries_7 6 rfl rfl)
theorem dX3_tries_173 : decode cX3_tries 173 = .ok (.ireturn, 1) := dk_172 (dk_at dksX3_tries_7 8 rfl rfl)
theorem dX3_tries_174 : decode cX3_tries 174 = .ok (.iinc 3 1, 3) := dk_132 3 1 (dk_at dksX3_tries_7 9 rfl rfl)
theorem dX3_tries_177 : decode cX3_tries 177 = .ok (.goto (-36), 3) := dk_167 255 220 (dk_at dksX3_tries_7 12 rfl rfl)
theorem dX3_tries_180 : decode cX3_tries 180 = .ok (.iload_n 2, 1) := dk_28 (dk_at dksX3_tries_7 15 rfl rfl)
theorem dX3_tries_181 : decode cX3_tries 181 = .ok (.ireturn, 1) := dk_172 (dk_at dksX3_tries_7 16 rfl rfl)
abbrev cX3_lays : ByteArray := prog_15_method_27_code
def yX3_lays : MethodName := ⟨RX3, "lays", "(I)V"⟩
def dkwX3_lays_5 : List UInt8 := [46, 96, 79, 132, 3, 1, 167, 255, 165, 132, 2, 1, 167, 255, 149, 177]
abbrev dktX3_lays_5 : List UInt8 := dkwX3_lays_5 ++ []
def dkwX3_lays_4 : List UInt8 := [180, 0, 55, 28, 46, 4, 160, 0, 13, 42, 180, 0, 61, 28, 46, 116, 167, 0, 9, 42, 180, 0, 61, 28]
abbrev dktX3_lays_4 : List UInt8 := dkwX3_lays_4 ++ dktX3_lays_5
def dkwX3_lays_3 : List UInt8 := [7, 42, 180, 0, 49, 28, 46, 104, 29, 96, 92, 46, 21, 4, 154, 0, 7, 3, 167, 0, 29, 42]
abbrev dktX3_lays_3 : List UInt8 := dkwX3_lays_3 ++ dktX3_lays_4
def dkwX3_lays_2 : List UInt8 := [180, 0, 52, 28, 46, 29, 122, 4, 126, 4, 160, 0, 7, 4, 167, 0, 4, 3, 54, 4, 42, 180, 0, 166]
abbrev dktX3_lays_2 : List UInt8 := dkwX3_lays_2 ++ dktX3_lays_3
def dkwX3_lays_1 : List UInt8 := [42, 180, 0, 204, 162, 0, 105, 3, 62, 29, 7, 162, 0, 92, 27, 28, 122, 4, 126, 4, 160, 0, 21, 42]
abbrev dktX3_lays_1 : List UInt8 := dkwX3_lays_1 ++ dktX3_lays_2
def dkwX3_lays_0 : List UInt8 := [3, 61, 28, 16, 12, 162, 0, 16, 42, 180, 0, 166, 28, 3, 79, 132, 2, 1, 167, 255, 240, 3, 61, 28]
abbrev dktX3_lays_0 : List UInt8 := dkwX3_lays_0 ++ dktX3_lays_1
theorem dksX3_lays_0 : cX3_lays.data.toList.drop 0 = dktX3_lays_0 := by decide +kernel
theorem dksX3_lays_1 : cX3_lays.data.toList.drop 24 = dktX3_lays_1 := dk_seg dksX3_lays_0 24 rfl rfl
theorem dksX3_lays_2 : cX3_lays.data.toList.drop 48 = dktX3_lays_2 := dk_seg dksX3_lays_1 24 rfl rfl
theorem dksX3_lays_3 : cX3_lays.data.toList.drop 72 = dktX3_lays_3 := dk_seg dksX3_lays_2 24 rfl rfl
theorem dksX3_lays_4 : cX3_lays.data.toList.drop 94 = dktX3_lays_4 := dk_seg dksX3_lays_3 22 rfl rfl
theorem dksX3_lays_5 : cX3_lays.data.toList.drop 118 = dktX3_lays_5 := dk_seg dksX3_lays_4 24 rfl rfl
theorem dX3_lays_0 : decode cX3_lays 0 = .ok (.iconst 0, 1) := dk_3 (dk_at dksX3_lays_0 0 rfl rfl)
theorem dX3_lays_1 : decode cX3_lays 1 = .ok (.istore_n 2, 1) := dk_61 (dk_at dksX3_lays_0 1 rfl rfl)
theorem dX3_lays_2 : decode cX3_lays 2 = .ok (.iload_n 2, 1) := dk_28 (dk_at dksX3_lays_0 2 rfl rfl)
theorem dX3_lays_3 : decode cX3_lays 3 = .ok (.bipush 12, 2) := dk_16 12 (dk_at dksX3_lays_0 3 rfl rfl)
theorem dX3_lays_5 : decode cX3_lays 5 = .ok (.if_icmp .ge 16, 3) := dk_162 0 16 (dk_at dksX3_lays_0 5 rfl rfl)
theorem dX3_lays_8 : decode cX3_lays 8 = .ok (.aload_n 0, 1) := dk_42 (dk_at dksX3_lays_0 8 rfl rfl)
theorem dX3_lays_9 : decode cX3_lays 9 = .ok (.getfield 166, 3) := dk_180 0 166 (dk_at dksX3_lays_0 9 rfl rfl)
theorem dX3_lays_12 : decode cX3_lays 12 = .ok (.iload_n 2, 1) := dk_28 (dk_at dksX3_lays_0 12 rfl rfl)
theorem dX3_lays_13 : decode cX3_lays 13 = .ok (.iconst 0, 1) := dk_3 (dk_at dksX3_lays_0 13 rfl rfl)
theorem dX3_lays_14 : decode cX3_lays 14 = .ok (.iastore, 1) := dk_79 (dk_at dksX3_lays_0 14 rfl rfl)
theorem dX3_lays_15 : decode cX3_lays 15 = .ok (.iinc 2 1, 3) := dk_132 2 1 (dk_at dksX3_lays_0 15 rfl rfl)
theorem dX3_lays_18 : decode cX3_lays 18 = .ok (.goto (-16), 3) := dk_167 255 240 (dk_at dksX3_lays_0 18 rfl rfl)
theorem dX3_lays_21 : decode cX3_lays 21 = .ok (.iconst 0, 1) := dk_3 (dk_at dksX3_lays_0 21 rfl rfl)
theorem dX3_lays_22 : decode cX3_lays 22 = .ok (.istore_n 2, 1) := dk_61 (dk_at dksX3_lays_0 22 rfl rfl)
theorem dX3_lays_23 : decode cX3_lays 23 = .ok (.iload_n 2, 1) := dk_28 (dk_at dksX3_lays_0 23 rfl rfl)
theorem dX3_lays_24 : decode cX3_lays 24 = .ok (.aload_n 0, 1) := dk_42 (dk_at dksX3_lays_1 0 rfl rfl)
theorem dX3_lays_25 : decode cX3_lays 25 = .ok (.getfield 204, 3) := dk_180 0 204 (dk_at dksX3_lays_1 1 rfl rfl)
theorem dX3_lays_28 : decode cX3_lays 28 = .ok (.if_icmp .ge 105, 3) := dk_162 0 105 (dk_at dksX3_lays_1 4 rfl rfl)
theorem dX3_lays_31 : decode cX3_lays 31 = .ok (.iconst 0, 1) := dk_3 (dk_at dksX3_lays_1 7 rfl rfl)
theorem dX3_lays_32 : decode cX3_lays 32 = .ok (.istore_n 3, 1) := dk_62 (dk_at dksX3_lays_1 8 rfl rfl)
theorem dX3_lays_33 : decode cX3_lays 33 = .ok (.iload_n 3, 1) := dk_29 (dk_at dksX3_lays_1 9 rfl rfl)
theorem dX3_lays_34 : decode cX3_lays 34 = .ok (.iconst 4, 1) := dk_7 (dk_at dksX3_lays_1 10 rfl rfl)
theorem dX3_lays_35 : decode cX3_lays 35 = .ok (.if_icmp .ge 92, 3) := dk_162 0 92 (dk_at dksX3_lays_1 11 rfl rfl)
theorem dX3_lays_38 : decode cX3_lays 38 = .ok (.iload_n 1, 1) := dk_27 (dk_at dksX3_lays_1 14 rfl rfl)
theorem dX3_lays_39 : decode cX3_lays 39 = .ok (.iload_n 2, 1) := dk_28 (dk_at dksX3_lays_1 15 rfl rfl)
theorem dX3_lays_40 : decode cX3_lays 40 = .ok (.ishr, 1) := dk_122 (dk_at dksX3_lays_1 16 rfl rfl)
theorem dX3_lays_41 : decode cX3_lays 41 = .ok (.iconst 1, 1) := dk_4 (dk_at dksX3_lays_1 17 rfl rfl)
theorem dX3_lays_42 : decode cX3_lays 42 = .ok (.iand, 1) := dk_126 (dk_at dksX3_lays_1 18 rfl rfl)
theorem dX3_lays_43 : decode cX3_lays 43 = .ok (.iconst 1, 1) := dk_4 (dk_at dksX3_lays_1 19 rfl rfl)
theorem dX3_lays_44 : decode cX3_lays 44 = .ok (.if_icmp .ne 21, 3) := dk_160 0 21 (dk_at dksX3_lays_1 20 rfl rfl)
theorem dX3_lays_47 : decode cX3_lays 47 = .ok (.aload_n 0, 1) := dk_42 (dk_at dksX3_lays_1 23 rfl rfl)
theorem dX3_lays_48 : decode cX3_lays 48 = .ok (.getfield 52, 3) := dk_180 0 52 (dk_at dksX3_lays_2 0 rfl rfl)
theorem dX3_lays_51 : decode cX3_lays 51 = .ok (.iload_n 2, 1) := dk_28 (dk_at dksX3_lays_2 3 rfl rfl)
theorem dX3_lays_52 : decode cX3_lays 52 = .ok (.iaload, 1) := dk_46 (dk_at dksX3_lays_2 4 rfl rfl)
theorem dX3_lays_53 : decode cX3_lays 53 = .ok (.iload_n 3, 1) := dk_29 (dk_at dksX3_lays_2 5 rfl rfl)
theorem dX3_lays_54 : decode cX3_lays 54 = .ok (.ishr, 1) := dk_122 (dk_at dksX3_lays_2 6 rfl rfl)
theorem dX3_lays_55 : decode cX3_lays 55 = .ok (.iconst 1, 1) := dk_4 (dk_at dksX3_lays_2 7 rfl rfl)
theorem dX3_lays_56 : decode cX3_lays 56 = .ok (.iand, 1) := dk_126 (dk_at dksX3_lays_2 8 rfl rfl)
theorem dX3_lays_57 : decode cX3_lays 57 = .ok (.iconst 1, 1) := dk_4 (dk_at dksX3_lays_2 9 rfl rfl)
theorem dX3_lays_58 : decode cX3_lays 58 = .ok (.if_icmp .ne 7, 3) := dk_160 0 7 (dk_at dksX3_lays_2 10 rfl rfl)
theorem dX3_lays_61 : decode cX3_lays 61 = .ok (.iconst 1, 1) := dk_4 (dk_at dksX3_lays_2 13 rfl rfl)
theorem dX3_lays_62 : decode cX3_lays 62 = .ok (.goto 4, 3) := dk_167 0 4 (dk_at dksX3_lays_2 14 rfl rfl)
theorem dX3_lays_65 : decode cX3_lays 65 = .ok (.iconst 0, 1) := dk_3 (dk_at dksX3_lays_2 17 rfl rfl)
theorem dX3_lays_66 : decode cX3_lays 66 = .ok (.istore 4, 2) := dk_54 4 (dk_at dksX3_lays_2 18 rfl rfl)
theorem dX3_lays_68 : decode cX3_lays 68 = .ok (.aload_n 0, 1) := dk_42 (dk_at dksX3_lays_2 20 rfl rfl)
theorem dX3_lays_69 : decode cX3_lays 69 = .ok (.getfield 166, 3) := dk_180 0 166 (dk_at dksX3_lays_2 21 rfl rfl)
theorem dX3_lays_72 : decode cX3_lays 72 = .ok (.iconst 4, 1) := dk_7 (dk_at dksX3_lays_3 0 rfl rfl)
theorem dX3_lays_73 : decode cX3_lays 73 = .ok (.aload_n 0, 1) := dk_42 (dk_at dksX3_lays_3 1 rfl rfl)
theorem dX3_lays_74 : decode cX3_lays 74 = .ok (.getfield 49, 3) := dk_180 0 49 (dk_at dksX3_lays_3 2 rfl rfl)
theorem dX3_lays_77 : decode cX3_lays 77 = .ok (.iload_n 2, 1) := dk_28 (dk_at dksX3_lays_3 5 rfl rfl)
theorem dX3_lays_78 : decode cX3_lays 78 = .ok (.iaload, 1) := dk_46 (dk_at dksX3_lays_3 6 rfl rfl)
theorem dX3_lays_79 : decode cX3_lays 79 = .ok (.imul, 1) := dk_104 (dk_at dksX3_lays_3 7 rfl rfl)
theorem dX3_lays_80 : decode cX3_lays 80 = .ok (.iload_n 3, 1) := dk_29 (dk_at dksX3_lays_3 8 rfl rfl)
theorem dX3_lays_81 : decode cX3_lays 81 = .ok (.iadd, 1) := dk_96 (dk_at dksX3_lays_3 9 rfl rfl)
theorem dX3_lays_82 : decode cX3_lays 82 = .ok (.dup2, 1) := dk_92 (dk_at dksX3_lays_3 10 rfl rfl)
theorem dX3_lays_83 : decode cX3_lays 83 = .ok (.iaload, 1) := dk_46 (dk_at dksX3_lays_3 11 rfl rfl)
theorem dX3_lays_84 : decode cX3_lays 84 = .ok (.iload 4, 2) := dk_21 4 (dk_at dksX3_lays_3 12 rfl rfl)
theorem dX3_lays_86 : decode cX3_lays 86 = .ok (.ifCond .ne 7, 3) := dk_154 0 7 (dk_at dksX3_lays_3 14 rfl rfl)
theorem dX3_lays_89 : decode cX3_lays 89 = .ok (.iconst 0, 1) := dk_3 (dk_at dksX3_lays_3 17 rfl rfl)
theorem dX3_lays_90 : decode cX3_lays 90 = .ok (.goto 29, 3) := dk_167 0 29 (dk_at dksX3_lays_3 18 rfl rfl)
theorem dX3_lays_93 : decode cX3_lays 93 = .ok (.aload_n 0, 1) := dk_42 (dk_at dksX3_lays_3 21 rfl rfl)
theorem dX3_lays_94 : decode cX3_lays 94 = .ok (.getfield 55, 3) := dk_180 0 55 (dk_at dksX3_lays_4 0 rfl rfl)
theorem dX3_lays_97 : decode cX3_lays 97 = .ok (.iload_n 2, 1) := dk_28 (dk_at dksX3_lays_4 3 rfl rfl)
theorem dX3_lays_98 : decode cX3_lays 98 = .ok (.iaload, 1) := dk_46 (dk_at dksX3_lays_4 4 rfl rfl)
theorem dX3_lays_99 : decode cX3_lays 99 = .ok (.iconst 1, 1) := dk_4 (dk_at dksX3_lays_4 5 rfl rfl)
theorem dX3_lays_100 : decode cX3_lays 100 = .ok (.if_icmp .ne 13, 3) := dk_160 0 13 (dk_at dksX3_lays_4 6 rfl rfl)
theorem dX3_lays_103 : decode cX3_lays 103 = .ok (.aload_n 0, 1) := dk_42 (dk_at dksX3_lays_4 9 rfl rfl)
theorem dX3_lays_104 : decode cX3_lays 104 = .ok (.getfield 61, 3) := dk_180 0 61 (dk_at dksX3_lays_4 10 rfl rfl)
theorem dX3_lays_107 : decode cX3_lays 107 = .ok (.iload_n 2, 1) := dk_28 (dk_at dksX3_lays_4 13 rfl rfl)
theorem dX3_lays_108 : decode cX3_lays 108 = .ok (.iaload, 1) := dk_46 (dk_at dksX3_lays_4 14 rfl rfl)
theorem dX3_lays_109 : decode cX3_lays 109 = .ok (.ineg, 1) := dk_116 (dk_at dksX3_lays_4 15 rfl rfl)
theorem dX3_lays_110 : decode cX3_lays 110 = .ok (.goto 9, 3) := dk_167 0 9 (dk_at dksX3_lays_4 16 rfl rfl)
theorem dX3_lays_113 : decode cX3_lays 113 = .ok (.aload_n 0, 1) := dk_42 (dk_at dksX3_lays_4 19 rfl rfl)
theorem dX3_lays_114 : decode cX3_lays 114 = .ok (.getfield 61, 3) := dk_180 0 61 (dk_at dksX3_lays_4 20 rfl rfl)
theorem dX3_lays_117 : decode cX3_lays 117 = .ok (.iload_n 2, 1) := dk_28 (dk_at dksX3_lays_4 23 rfl rfl)
theorem dX3_lays_118 : decode cX3_lays 118 = .ok (.iaload, 1) := dk_46 (dk_at dksX3_lays_5 0 rfl rfl)
theorem dX3_lays_119 : decode cX3_lays 119 = .ok (.iadd, 1) := dk_96 (dk_at dksX3_lays_5 1 rfl rfl)
theorem dX3_lays_120 : decode cX3_lays 120 = .ok (.iastore, 1) := dk_79 (dk_at dksX3_lays_5 2 rfl rfl)
theorem dX3_lays_121 : decode cX3_lays 121 = .ok (.iinc 3 1, 3) := dk_132 3 1 (dk_at dksX3_lays_5 3 rfl rfl)
theorem dX3_lays_124 : decode cX3_lays 124 = .ok (.goto (-91), 3) := dk_167 255 165 (dk_at dksX3_lays_5 6 rfl rfl)
theorem dX3_lays_127 : decode cX3_lays 127 = .ok (.iinc 2 1, 3) := dk_132 2 1 (dk_at dksX3_lays_5 9 rfl rfl)
theorem dX3_lays_130 : decode cX3_lays 130 = .ok (.goto (-107), 3) := dk_167 255 149 (dk_at dksX3_lays_5 12 rfl rfl)
theorem dX3_lays_133 : decode cX3_lays 133 = .ok (.return_, 1) := dk_177 (dk_at dksX3_lays_5 15 rfl rfl)
abbrev cX3_worthOfBlocks : ByteArray := prog_15_method_28_code
def yX3_worthOfBlocks : MethodName := ⟨RX3, "worthOfBlocks", "(I)I"⟩
def dkwX3_worthOfBlocks_3 : List UInt8 := [167, 255, 191, 28, 172]
abbrev dktX3_worthOfBlocks_3 : List UInt8 := dkwX3_worthOfBlocks_3 ++ []
def dkwX3_worthOfBlocks_2 : List UInt8 := [180, 0, 55, 29, 46, 4, 160, 0, 8, 21, 4, 167, 0, 6, 21, 4, 116, 96, 61, 132, 3, 1]
abbrev dktX3_worthOfBlocks_2 : List UInt8 := dkwX3_worthOfBlocks_2 ++ dktX3_worthOfBlocks_3
def dkwX3_worthOfBlocks_1 : List UInt8 := [104, 42, 29, 182, 0, 248, 104, 54, 4, 28, 27, 29, 122, 4, 126, 154, 0, 7, 3, 167, 0, 21, 42]
abbrev dktX3_worthOfBlocks_1 : List UInt8 := dkwX3_worthOfBlocks_1 ++ dktX3_worthOfBlocks_2
def dkwX3_worthOfBlocks_0 : List UInt8 := [3, 61, 3, 62, 29, 42, 180, 0, 204, 162, 0, 63, 42, 180, 0, 58, 29, 46, 42, 180, 0, 61, 29, 46]
abbrev dktX3_worthOfBlocks_0 : List UInt8 := dkwX3_worthOfBlocks_0 ++ dktX3_worthOfBlocks_1
theorem dksX3_worthOfBlocks_0 : cX3_worthOfBlocks.data.toList.drop 0 = dktX3_worthOfBlocks_0 := by decide +kernel
theorem dksX3_worthOfBlocks_1 : cX3_worthOfBlocks.data.toList.drop 24 = dktX3_worthOfBlocks_1 := dk_seg dksX3_worthOfBlocks_0 24 rfl rfl
theorem dksX3_worthOfBlocks_2 : cX3_worthOfBlocks.data.toList.drop 47 = dktX3_worthOfBlocks_2 := dk_seg dksX3_worthOfBlocks_1 23 rfl rfl
theorem dksX3_worthOfBlocks_3 : cX3_worthOfBlocks.data.toList.drop 69 = dktX3_worthOfBlocks_3 := dk_seg dksX3_worthOfBlocks_2 22 rfl rfl
theorem dX3_worthOfBlocks_0 : decode cX3_worthOfBlocks 0 = .ok (.iconst 0, 1) := dk_3 (dk_at dksX3_worthOfBlocks_0 0 rfl rfl)
theorem dX3_worthOfBlocks_1 : decode cX3_worthOfBlocks 1 = .ok (.istore_n 2, 1) := dk_61 (dk_at dksX3_worthOfBlocks_0 1 rfl rfl)
theorem dX3_worthOfBlocks_2 : decode cX3_worthOfBlocks 2 = .ok (.iconst 0, 1) := dk_3 (dk_at dksX3_worthOfBlocks_0 2 rfl rfl)
theorem dX3_worthOfBlocks_3 : decode cX3_worthOfBlocks 3 = .ok (.istore_n 3, 1) := dk_62 (dk_at dksX3_worthOfBlocks_0 3 rfl rfl)
theorem dX3_worthOfBlocks_4 : decode cX3_worthOfBlocks 4 = .ok (.iload_n 3, 1) := dk_29 (dk_at dksX3_worthOfBlocks_0 4 rfl rfl)
theorem dX3_worthOfBlocks_5 : decode cX3_worthOfBlocks 5 = .ok (.aload_n 0, 1) := dk_42 (dk_at dksX3_worthOfBlocks_0 5 rfl rfl)
theorem dX3_worthOfBlocks_6 : decode cX3_worthOfBlocks 6 = .ok (.getfield 204, 3) := dk_180 0 204 (dk_at dksX3_worthOfBlocks_0 6 rfl rfl)
theorem dX3_worthOfBlocks_9 : decode cX3_worthOfBlocks 9 = .ok (.if_icmp .ge 63, 3) := dk_162 0 63 (dk_at dksX3_worthOfBlocks_0 9 rfl rfl)
theorem dX3_worthOfBlocks_12 : decode cX3_worthOfBlocks 12 = .ok (.aload_n 0, 1) := dk_42 (dk_at dksX3_worthOfBlocks_0 12 rfl rfl)
theorem dX3_worthOfBlocks_13 : decode cX3_worthOfBlocks 13 = .ok (.getfield 58, 3) := dk_180 0 58 (dk_at dksX3_worthOfBlocks_0 13 rfl rfl)
theorem dX3_worthOfBlocks_16 : decode cX3_worthOfBlocks 16 = .ok (.iload_n 3, 1) := dk_29 (dk_at dksX3_worthOfBlocks_0 16 rfl rfl)
theorem dX3_worthOfBlocks_17 : decode cX3_worthOfBlocks 17 = .ok (.iaload, 1) := dk_46 (dk_at dksX3_worthOfBlocks_0 17 rfl rfl)
theorem dX3_worthOfBlocks_18 : decode cX3_worthOfBlocks 18 = .ok (.aload_n 0, 1) := dk_42 (dk_at dksX3_worthOfBlocks_0 18 rfl rfl)
theorem dX3_worthOfBlocks_19 : decode cX3_worthOfBlocks 19 = .ok (.getfield 61, 3) := dk_180 0 61 (dk_at dksX3_worthOfBlocks_0 19 rfl rfl)
theorem dX3_worthOfBlocks_22 : decode cX3_worthOfBlocks 22 = .ok (.iload_n 3, 1) := dk_29 (dk_at dksX3_worthOfBlocks_0 22 rfl rfl)
theorem dX3_worthOfBlocks_23 : decode cX3_worthOfBlocks 23 = .ok (.iaload, 1) := dk_46 (dk_at dksX3_worthOfBlocks_0 23 rfl rfl)
theorem dX3_worthOfBlocks_24 : decode cX3_worthOfBlocks 24 = .ok (.imul, 1) := dk_104 (dk_at dksX3_worthOfBlocks_1 0 rfl rfl)
theorem dX3_worthOfBlocks_25 : decode cX3_worthOfBlocks 25 = .ok (.aload_n 0, 1) := dk_42 (dk_at dksX3_worthOfBlocks_1 1 rfl rfl)
theorem dX3_worthOfBlocks_26 : decode cX3_worthOfBlocks 26 = .ok (.iload_n 3, 1) := dk_29 (dk_at dksX3_worthOfBlocks_1 2 rfl rfl)
theorem dX3_worthOfBlocks_27 : decode cX3_worthOfBlocks 27 = .ok (.invokevirtual 248, 3) := dk_182 0 248 (dk_at dksX3_worthOfBlocks_1 3 rfl rfl)
theorem dX3_worthOfBlocks_30 : decode cX3_worthOfBlocks 30 = .ok (.imul, 1) := dk_104 (dk_at dksX3_worthOfBlocks_1 6 rfl rfl)
theorem dX3_worthOfBlocks_31 : decode cX3_worthOfBlocks 31 = .ok (.istore 4, 2) := dk_54 4 (dk_at dksX3_worthOfBlocks_1 7 rfl rfl)
theorem dX3_worthOfBlocks_33 : decode cX3_worthOfBlocks 33 = .ok (.iload_n 2, 1) := dk_28 (dk_at dksX3_worthOfBlocks_1 9 rfl rfl)
theorem dX3_worthOfBlocks_34 : decode cX3_worthOfBlocks 34 = .ok (.iload_n 1, 1) := dk_27 (dk_at dksX3_worthOfBlocks_1 10 rfl rfl)
theorem dX3_worthOfBlocks_35 : decode cX3_worthOfBlocks 35 = .ok (.iload_n 3, 1) := dk_29 (dk_at dksX3_worthOfBlocks_1 11 rfl rfl)
theorem dX3_worthOfBlocks_36 : decode cX3_worthOfBlocks 36 = .ok (.ishr, 1) := dk_122 (dk_at dksX3_worthOfBlocks_1 12 rfl rfl)
theorem dX3_worthOfBlocks_37 : decode cX3_worthOfBlocks 37 = .ok (.iconst 1, 1) := dk_4 (dk_at dksX3_worthOfBlocks_1 13 rfl rfl)
theorem dX3_worthOfBlocks_38 : decode cX3_worthOfBlocks 38 = .ok (.iand, 1) := dk_126 (dk_at dksX3_worthOfBlocks_1 14 rfl rfl)
theorem dX3_worthOfBlocks_39 : decode cX3_worthOfBlocks 39 = .ok (.ifCond .ne 7, 3) := dk_154 0 7 (dk_at dksX3_worthOfBlocks_1 15 rfl rfl)
theorem dX3_worthOfBlocks_42 : decode cX3_worthOfBlocks 42 = .ok (.iconst 0, 1) := dk_3 (dk_at dksX3_worthOfBlocks_1 18 rfl rfl)
theorem dX3_worthOfBlocks_43 : decode cX3_worthOfBlocks 43 = .ok (.goto 21, 3) := dk_167 0 21 (dk_at dksX3_worthOfBlocks_1 19 rfl rfl)
theorem dX3_worthOfBlocks_46 : decode cX3_worthOfBlocks 46 = .ok (.aload_n 0, 1) := dk_42 (dk_at dksX3_worthOfBlocks_1 22 rfl rfl)
theorem dX3_worthOfBlocks_47 : decode cX3_worthOfBlocks 47 = .ok (.getfield 55, 3) := dk_180 0 55 (dk_at dksX3_worthOfBlocks_2 0 rfl rfl)
theorem dX3_worthOfBlocks_50 : decode cX3_worthOfBlocks 50 = .ok (.iload_n 3, 1) := dk_29 (dk_at dksX3_worthOfBlocks_2 3 rfl rfl)
theorem dX3_worthOfBlocks_51 : decode cX3_worthOfBlocks 51 = .ok (.iaload, 1) := dk_46 (dk_at dksX3_worthOfBlocks_2 4 rfl rfl)
theorem dX3_worthOfBlocks_52 : decode cX3_worthOfBlocks 52 = .ok (.iconst 1, 1) := dk_4 (dk_at dksX3_worthOfBlocks_2 5 rfl rfl)
theorem dX3_worthOfBlocks_53 : decode cX3_worthOfBlocks 53 = .ok (.if_icmp .ne 8, 3) := dk_160 0 8 (dk_at dksX3_worthOfBlocks_2 6 rfl rfl)
theorem dX3_worthOfBlocks_56 : decode cX3_worthOfBlocks 56 = .ok (.iload 4, 2) := dk_21 4 (dk_at dksX3_worthOfBlocks_2 9 rfl rfl)
theorem dX3_worthOfBlocks_58 : decode cX3_worthOfBlocks 58 = .ok (.goto 6, 3) := dk_167 0 6 (dk_at dksX3_worthOfBlocks_2 11 rfl rfl)
theorem dX3_worthOfBlocks_61 : decode cX3_worthOfBlocks 61 = .ok (.iload 4, 2) := dk_21 4 (dk_at dksX3_worthOfBlocks_2 14 rfl rfl)
theorem dX3_worthOfBlocks_63 : decode cX3_worthOfBlocks 63 = .ok (.ineg, 1) := dk_116 (dk_at dksX3_worthOfBlocks_2 16 rfl rfl)
theorem dX3_worthOfBlocks_64 : decode cX3_worthOfBlocks 64 = .ok (.iadd, 1) := dk_96 (dk_at dksX3_worthOfBlocks_2 17 rfl rfl)
theorem dX3_worthOfBlocks_65 : decode cX3_worthOfBlocks 65 = .ok (.istore_n 2, 1) := dk_61 (dk_at dksX3_worthOfBlocks_2 18 rfl rfl)
theorem dX3_worthOfBlocks_66 : decode cX3_worthOfBlocks 66 = .ok (.iinc 3 1, 3) := dk_132 3 1 (dk_at dksX3_worthOfBlocks_2 19 rfl rfl)
theorem dX3_worthOfBlocks_69 : decode cX3_worthOfBlocks 69 = .ok (.goto (-65), 3) := dk_167 255 191 (dk_at dksX3_worthOfBlocks_3 0 rfl rfl)
theorem dX3_worthOfBlocks_72 : decode cX3_worthOfBlocks 72 = .ok (.iload_n 2, 1) := dk_28 (dk_at dksX3_worthOfBlocks_3 3 rfl rfl)
theorem dX3_worthOfBlocks_73 : decode cX3_worthOfBlocks 73 = .ok (.ireturn, 1) := dk_172 (dk_at dksX3_worthOfBlocks_3 4 rfl rfl)
abbrev cX3_hoursOf : ByteArray := prog_15_method_25_code
def yX3_hoursOf : MethodName := ⟨RX3, "hoursOf", "(I)I"⟩
def dkwX3_hoursOf_1 : List UInt8 := [132, 3, 1, 167, 255, 235, 28, 172]
abbrev dktX3_hoursOf_1 : List UInt8 := dkwX3_hoursOf_1 ++ []
def dkwX3_hoursOf_0 : List UInt8 := [3, 61, 3, 62, 29, 7, 162, 0, 22, 28, 42, 180, 0, 52, 27, 46, 29, 122, 4, 126, 96, 61]
abbrev dktX3_hoursOf_0 : List UInt8 := dkwX3_hoursOf_0 ++ dktX3_hoursOf_1
theorem dksX3_hoursOf_0 : cX3_hoursOf.data.toList.drop 0 = dktX3_hoursOf_0 := by decide +kernel
theorem dksX3_hoursOf_1 : cX3_hoursOf.data.toList.drop 22 = dktX3_hoursOf_1 := dk_seg dksX3_hoursOf_0 22 rfl rfl
theorem dX3_hoursOf_0 : decode cX3_hoursOf 0 = .ok (.iconst 0, 1) := dk_3 (dk_at dksX3_hoursOf_0 0 rfl rfl)
theorem dX3_hoursOf_1 : decode cX3_hoursOf 1 = .ok (.istore_n 2, 1) := dk_61 (dk_at dksX3_hoursOf_0 1 rfl rfl)
theorem dX3_hoursOf_2 : decode cX3_hoursOf 2 = .ok (.iconst 0, 1) := dk_3 (dk_at dksX3_hoursOf_0 2 rfl rfl)
theorem dX3_hoursOf_3 : decode cX3_hoursOf 3 = .ok (.istore_n 3, 1) := dk_62 (dk_at dksX3_hoursOf_0 3 rfl rfl)
theorem dX3_hoursOf_4 : decode cX3_hoursOf 4 = .ok (.iload_n 3, 1) := dk_29 (dk_at dksX3_hoursOf_0 4 rfl rfl)
theorem dX3_hoursOf_5 : decode cX3_hoursOf 5 = .ok (.iconst 4, 1) := dk_7 (dk_at dksX3_hoursOf_0 5 rfl rfl)
theorem dX3_hoursOf_6 : decode cX3_hoursOf 6 = .ok (.if_icmp .ge 22, 3) := dk_162 0 22 (dk_at dksX3_hoursOf_0 6 rfl rfl)
theorem dX3_hoursOf_9 : decode cX3_hoursOf 9 = .ok (.iload_n 2, 1) := dk_28 (dk_at dksX3_hoursOf_0 9 rfl rfl)
theorem dX3_hoursOf_10 : decode cX3_hoursOf 10 = .ok (.aload_n 0, 1) := dk_42 (dk_at dksX3_hoursOf_0 10 rfl rfl)
theorem dX3_hoursOf_11 : decode cX3_hoursOf 11 = .ok (.getfield 52, 3) := dk_180 0 52 (dk_at dksX3_hoursOf_0 11 rfl rfl)
theorem dX3_hoursOf_14 : decode cX3_hoursOf 14 = .ok (.iload_n 1, 1) := dk_27 (dk_at dksX3_hoursOf_0 14 rfl rfl)
theorem dX3_hoursOf_15 : decode cX3_hoursOf 15 = .ok (.iaload, 1) := dk_46 (dk_at dksX3_hoursOf_0 15 rfl rfl)
theorem dX3_hoursOf_16 : decode cX3_hoursOf 16 = .ok (.iload_n 3, 1) := dk_29 (dk_at dksX3_hoursOf_0 16 rfl rfl)
theorem dX3_hoursOf_17 : decode cX3_hoursOf 17 = .ok (.ishr, 1) := dk_122 (dk_at dksX3_hoursOf_0 17 rfl rfl)
theorem dX3_hoursOf_18 : decode cX3_hoursOf 18 = .ok (.iconst 1, 1) := dk_4 (dk_at dksX3_hoursOf_0 18 rfl rfl)
theorem dX3_hoursOf_19 : decode cX3_hoursOf 19 = .ok (.iand, 1) := dk_126 (dk_at dksX3_hoursOf_0 19 rfl rfl)
theorem dX3_hoursOf_20 : decode cX3_hoursOf 20 = .ok (.iadd, 1) := dk_96 (dk_at dksX3_hoursOf_0 20 rfl rfl)
theorem dX3_hoursOf_21 : decode cX3_hoursOf 21 = .ok (.istore_n 2, 1) := dk_61 (dk_at dksX3_hoursOf_0 21 rfl rfl)
theorem dX3_hoursOf_22 : decode cX3_hoursOf 22 = .ok (.iinc 3 1, 3) := dk_132 3 1 (dk_at dksX3_hoursOf_1 0 rfl rfl)
theorem dX3_hoursOf_25 : decode cX3_hoursOf 25 = .ok (.goto (-21), 3) := dk_167 255 235 (dk_at dksX3_hoursOf_1 3 rfl rfl)
theorem dX3_hoursOf_28 : decode cX3_hoursOf 28 = .ok (.iload_n 2, 1) := dk_28 (dk_at dksX3_hoursOf_1 6 rfl rfl)
theorem dX3_hoursOf_29 : decode cX3_hoursOf 29 = .ok (.ireturn, 1) := dk_172 (dk_at dksX3_hoursOf_1 7 rfl rfl)
abbrev cX3_most : ByteArray := prog_15_method_22_code
def yX3_most : MethodName := ⟨RX3, "most", "(II)I"⟩
def dkwX3_most_9 : List UInt8 := [181, 0, 241, 132, 5, 1, 167, 255, 57, 132, 4, 1, 167, 255, 40, 29, 172]
abbrev dktX3_most_9 : List UInt8 := dkwX3_most_9 ++ []
def dkwX3_most_8 : List UInt8 := [21, 10, 29, 163, 0, 8, 21, 11, 153, 0, 18, 21, 10, 62, 42, 21, 4, 181, 0, 238, 42, 21, 5]
abbrev dktX3_most_8 : List UInt8 := dkwX3_most_8 ++ dktX3_most_9
def dkwX3_most_7 : List UInt8 := [184, 0, 234, 42, 180, 0, 238, 42, 180, 0, 241, 184, 0, 234, 162, 0, 7, 4, 167, 0, 4, 3, 54, 11]
abbrev dktX3_most_7 : List UInt8 := dkwX3_most_7 ++ dktX3_most_8
def dkwX3_most_6 : List UInt8 := [21, 9, 96, 54, 10, 21, 10, 18, 223, 164, 0, 34, 21, 10, 29, 160, 0, 28, 21, 4, 21, 5]
abbrev dktX3_most_6 : List UInt8 := dkwX3_most_6 ++ dktX3_most_7
def dkwX3_most_5 : List UInt8 := [21, 8, 18, 223, 159, 0, 10, 21, 9, 18, 223, 160, 0, 8, 18, 223, 167, 0, 11, 21, 7, 21, 8, 96]
abbrev dktX3_most_5 : List UInt8 := dkwX3_most_5 ++ dktX3_most_6
def dkwX3_most_4 : List UInt8 := [160, 0, 10, 21, 6, 4, 100, 167, 0, 5, 21, 6, 182, 0, 231, 54, 9, 21, 7, 18, 223, 159, 0, 17]
abbrev dktX3_most_4 : List UInt8 := dkwX3_most_4 ++ dktX3_most_5
def dkwX3_most_3 : List UInt8 := [28, 4, 160, 0, 10, 21, 5, 4, 100, 167, 0, 5, 21, 5, 182, 0, 231, 54, 8, 42, 5, 27, 28, 5]
abbrev dktX3_most_3 : List UInt8 := dkwX3_most_3 ++ dktX3_most_4
def dkwX3_most_2 : List UInt8 := [42, 3, 27, 28, 154, 0, 10, 21, 4, 4, 100, 167, 0, 5, 21, 4, 182, 0, 231, 54, 7, 42, 4, 27]
abbrev dktX3_most_2 : List UInt8 := dkwX3_most_2 ++ dktX3_most_3
def dkwX3_most_1 : List UInt8 := [163, 0, 198, 21, 4, 116, 21, 5, 100, 54, 6, 42, 21, 4, 21, 5, 21, 6, 182, 0, 228, 153, 0, 171]
abbrev dktX3_most_1 : List UInt8 := dkwX3_most_1 ++ dktX3_most_2
def dkwX3_most_0 : List UInt8 := [18, 223, 62, 16, 236, 54, 4, 21, 4, 16, 20, 163, 0, 215, 16, 236, 54, 5, 21, 5, 16, 20]
abbrev dktX3_most_0 : List UInt8 := dkwX3_most_0 ++ dktX3_most_1
theorem dksX3_most_0 : cX3_most.data.toList.drop 0 = dktX3_most_0 := by decide +kernel
theorem dksX3_most_1 : cX3_most.data.toList.drop 22 = dktX3_most_1 := dk_seg dksX3_most_0 22 rfl rfl
theorem dksX3_most_2 : cX3_most.data.toList.drop 46 = dktX3_most_2 := dk_seg dksX3_most_1 24 rfl rfl
theorem dksX3_most_3 : cX3_most.data.toList.drop 70 = dktX3_most_3 := dk_seg dksX3_most_2 24 rfl rfl
theorem dksX3_most_4 : cX3_most.data.toList.drop 94 = dktX3_most_4 := dk_seg dksX3_most_3 24 rfl rfl
theorem dksX3_most_5 : cX3_most.data.toList.drop 118 = dktX3_most_5 := dk_seg dksX3_most_4 24 rfl rfl
theorem dksX3_most_6 : cX3_most.data.toList.drop 142 = dktX3_most_6 := dk_seg dksX3_most_5 24 rfl rfl
theorem dksX3_most_7 : cX3_most.data.toList.drop 164 = dktX3_most_7 := dk_seg dksX3_most_6 22 rfl rfl
theorem dksX3_most_8 : cX3_most.data.toList.drop 188 = dktX3_most_8 := dk_seg dksX3_most_7 24 rfl rfl
theorem dksX3_most_9 : cX3_most.data.toList.drop 211 = dktX3_most_9 := dk_seg dksX3_most_8 23 rfl rfl
theorem dX3_most_0 : decode cX3_most 0 = .ok (.ldc 223, 2) := dk_18 223 (dk_at dksX3_most_0 0 rfl rfl)
theorem dX3_most_2 : decode cX3_most 2 = .ok (.istore_n 3, 1) := dk_62 (dk_at dksX3_most_0 2 rfl rfl)
theorem dX3_most_3 : decode cX3_most 3 = .ok (.bipush (-20), 2) := dk_16 236 (dk_at dksX3_most_0 3 rfl rfl)
theorem dX3_most_5 : decode cX3_most 5 = .ok (.istore 4, 2) := dk_54 4 (dk_at dksX3_most_0 5 rfl rfl)
theorem dX3_most_7 : decode cX3_most 7 = .ok (.iload 4, 2) := dk_21 4 (dk_at dksX3_most_0 7 rfl rfl)
theorem dX3_most_9 : decode cX3_most 9 = .ok (.bipush 20, 2) := dk_16 20 (dk_at dksX3_most_0 9 rfl rfl)
theorem dX3_most_11 : decode cX3_most 11 = .ok (.if_icmp .gt 215, 3) := dk_163 0 215 (dk_at dksX3_most_0 11 rfl rfl)
theorem dX3_most_14 : decode cX3_most 14 = .ok (.bipush (-20), 2) := dk_16 236 (dk_at dksX3_most_0 14 rfl rfl)
theorem dX3_most_16 : decode cX3_most 16 = .ok (.istore 5, 2) := dk_54 5 (dk_at dksX3_most_0 16 rfl rfl)
theorem dX3_most_18 : decode cX3_most 18 = .ok (.iload 5, 2) := dk_21 5 (dk_at dksX3_most_0 18 rfl rfl)
theorem dX3_most_20 : decode cX3_most 20 = .ok (.bipush 20, 2) := dk_16 20 (dk_at dksX3_most_0 20 rfl rfl)
theorem dX3_most_22 : decode cX3_most 22 = .ok (.if_icmp .gt 198, 3) := dk_163 0 198 (dk_at dksX3_most_1 0 rfl rfl)
theorem dX3_most_25 : decode cX3_most 25 = .ok (.iload 4, 2) := dk_21 4 (dk_at dksX3_most_1 3 rfl rfl)
theorem dX3_most_27 : decode cX3_most 27 = .ok (.ineg, 1) := dk_116 (dk_at dksX3_most_1 5 rfl rfl)
theorem dX3_most_28 : decode cX3_most 28 = .ok (.iload 5, 2) := dk_21 5 (dk_at dksX3_most_1 6 rfl rfl)
theorem dX3_most_30 : decode cX3_most 30 = .ok (.isub, 1) := dk_100 (dk_at dksX3_most_1 8 rfl rfl)
theorem dX3_most_31 : decode cX3_most 31 = .ok (.istore 6, 2) := dk_54 6 (dk_at dksX3_most_1 9 rfl rfl)
theorem dX3_most_33 : decode cX3_most 33 = .ok (.aload_n 0, 1) := dk_42 (dk_at dksX3_most_1 11 rfl rfl)
theorem dX3_most_34 : decode cX3_most 34 = .ok (.iload 4, 2) := dk_21 4 (dk_at dksX3_most_1 12 rfl rfl)
theorem dX3_most_36 : decode cX3_most 36 = .ok (.iload 5, 2) := dk_21 5 (dk_at dksX3_most_1 14 rfl rfl)
theorem dX3_most_38 : decode cX3_most 38 = .ok (.iload 6, 2) := dk_21 6 (dk_at dksX3_most_1 16 rfl rfl)
theorem dX3_most_40 : decode cX3_most 40 = .ok (.invokevirtual 228, 3) := dk_182 0 228 (dk_at dksX3_most_1 18 rfl rfl)
theorem dX3_most_43 : decode cX3_most 43 = .ok (.ifCond .eq 171, 3) := dk_153 0 171 (dk_at dksX3_most_1 21 rfl rfl)
theorem dX3_most_46 : decode cX3_most 46 = .ok (.aload_n 0, 1) := dk_42 (dk_at dksX3_most_2 0 rfl rfl)
theorem dX3_most_47 : decode cX3_most 47 = .ok (.iconst 0, 1) := dk_3 (dk_at dksX3_most_2 1 rfl rfl)
theorem dX3_most_48 : decode cX3_most 48 = .ok (.iload_n 1, 1) := dk_27 (dk_at dksX3_most_2 2 rfl rfl)
theorem dX3_most_49 : decode cX3_most 49 = .ok (.iload_n 2, 1) := dk_28 (dk_at dksX3_most_2 3 rfl rfl)
theorem dX3_most_50 : decode cX3_most 50 = .ok (.ifCond .ne 10, 3) := dk_154 0 10 (dk_at dksX3_most_2 4 rfl rfl)
theorem dX3_most_53 : decode cX3_most 53 = .ok (.iload 4, 2) := dk_21 4 (dk_at dksX3_most_2 7 rfl rfl)
theorem dX3_most_55 : decode cX3_most 55 = .ok (.iconst 1, 1) := dk_4 (dk_at dksX3_most_2 9 rfl rfl)
theorem dX3_most_56 : decode cX3_most 56 = .ok (.isub, 1) := dk_100 (dk_at dksX3_most_2 10 rfl rfl)
theorem dX3_most_57 : decode cX3_most 57 = .ok (.goto 5, 3) := dk_167 0 5 (dk_at dksX3_most_2 11 rfl rfl)
theorem dX3_most_60 : decode cX3_most 60 = .ok (.iload 4, 2) := dk_21 4 (dk_at dksX3_most_2 14 rfl rfl)
theorem dX3_most_62 : decode cX3_most 62 = .ok (.invokevirtual 231, 3) := dk_182 0 231 (dk_at dksX3_most_2 16 rfl rfl)
theorem dX3_most_65 : decode cX3_most 65 = .ok (.istore 7, 2) := dk_54 7 (dk_at dksX3_most_2 19 rfl rfl)
theorem dX3_most_67 : decode cX3_most 67 = .ok (.aload_n 0, 1) := dk_42 (dk_at dksX3_most_2 21 rfl rfl)
theorem dX3_most_68 : decode cX3_most 68 = .ok (.iconst 1, 1) := dk_4 (dk_at dksX3_most_2 22 rfl rfl)
theorem dX3_most_69 : decode cX3_most 69 = .ok (.iload_n 1, 1) := dk_27 (dk_at dksX3_most_2 23 rfl rfl)
theorem dX3_most_70 : decode cX3_most 70 = .ok (.iload_n 2, 1) := dk_28 (dk_at dksX3_most_3 0 rfl rfl)
theorem dX3_most_71 : decode cX3_most 71 = .ok (.iconst 1, 1) := dk_4 (dk_at dksX3_most_3 1 rfl rfl)
theorem dX3_most_72 : decode cX3_most 72 = .ok (.if_icmp .ne 10, 3) := dk_160 0 10 (dk_at dksX3_most_3 2 rfl rfl)
theorem dX3_most_75 : decode cX3_most 75 = .ok (.iload 5, 2) := dk_21 5 (dk_at dksX3_most_3 5 rfl rfl)
theorem dX3_most_77 : decode cX3_most 77 = .ok (.iconst 1, 1) := dk_4 (dk_at dksX3_most_3 7 rfl rfl)
theorem dX3_most_78 : decode cX3_most 78 = .ok (.isub, 1) := dk_100 (dk_at dksX3_most_3 8 rfl rfl)
theorem dX3_most_79 : decode cX3_most 79 = .ok (.goto 5, 3) := dk_167 0 5 (dk_at dksX3_most_3 9 rfl rfl)
theorem dX3_most_82 : decode cX3_most 82 = .ok (.iload 5, 2) := dk_21 5 (dk_at dksX3_most_3 12 rfl rfl)
theorem dX3_most_84 : decode cX3_most 84 = .ok (.invokevirtual 231, 3) := dk_182 0 231 (dk_at dksX3_most_3 14 rfl rfl)
theorem dX3_most_87 : decode cX3_most 87 = .ok (.istore 8, 2) := dk_54 8 (dk_at dksX3_most_3 17 rfl rfl)
theorem dX3_most_89 : decode cX3_most 89 = .ok (.aload_n 0, 1) := dk_42 (dk_at dksX3_most_3 19 rfl rfl)
theorem dX3_most_90 : decode cX3_most 90 = .ok (.iconst 2, 1) := dk_5 (dk_at dksX3_most_3 20 rfl rfl)
theorem dX3_most_91 : decode cX3_most 91 = .ok (.iload_n 1, 1) := dk_27 (dk_at dksX3_most_3 21 rfl rfl)
theorem dX3_most_92 : decode cX3_most 92 = .ok (.iload_n 2, 1) := dk_28 (dk_at dksX3_most_3 22 rfl rfl)
theorem dX3_most_93 : decode cX3_most 93 = .ok (.iconst 2, 1) := dk_5 (dk_at dksX3_most_3 23 rfl rfl)
theorem dX3_most_94 : decode cX3_most 94 = .ok (.if_icmp .ne 10, 3) := dk_160 0 10 (dk_at dksX3_most_4 0 rfl rfl)
theorem dX3_most_97 : decode cX3_most 97 = .ok (.iload 6, 2) := dk_21 6 (dk_at dksX3_most_4 3 rfl rfl)
theorem dX3_most_99 : decode cX3_most 99 = .ok (.iconst 1, 1) := dk_4 (dk_at dksX3_most_4 5 rfl rfl)
theorem dX3_most_100 : decode cX3_most 100 = .ok (.isub, 1) := dk_100 (dk_at dksX3_most_4 6 rfl rfl)
theorem dX3_most_101 : decode cX3_most 101 = .ok (.goto 5, 3) := dk_167 0 5 (dk_at dksX3_most_4 7 rfl rfl)
theorem dX3_most_104 : decode cX3_most 104 = .ok (.iload 6, 2) := dk_21 6 (dk_at dksX3_most_4 10 rfl rfl)
theorem dX3_most_106 : decode cX3_most 106 = .ok (.invokevirtual 231, 3) := dk_182 0 231 (dk_at dksX3_most_4 12 rfl rfl)
theorem dX3_most_109 : decode cX3_most 109 = .ok (.istore 9, 2) := dk_54 9 (dk_at dksX3_most_4 15 rfl rfl)
theorem dX3_most_111 : decode cX3_most 111 = .ok (.iload 7, 2) := dk_21 7 (dk_at dksX3_most_4 17 rfl rfl)
theorem dX3_most_113 : decode cX3_most 113 = .ok (.ldc 223, 2) := dk_18 223 (dk_at dksX3_most_4 19 rfl rfl)
theorem dX3_most_115 : decode cX3_most 115 = .ok (.if_icmp .eq 17, 3) := dk_159 0 17 (dk_at dksX3_most_4 21 rfl rfl)
theorem dX3_most_118 : decode cX3_most 118 = .ok (.iload 8, 2) := dk_21 8 (dk_at dksX3_most_5 0 rfl rfl)
theorem dX3_most_120 : decode cX3_most 120 = .ok (.ldc 223, 2) := dk_18 223 (dk_at dksX3_most_5 2 rfl rfl)
theorem dX3_most_122 : decode cX3_most 122 = .ok (.if_icmp .eq 10, 3) := dk_159 0 10 (dk_at dksX3_most_5 4 rfl rfl)
theorem dX3_most_125 : decode cX3_most 125 = .ok (.iload 9, 2) := dk_21 9 (dk_at dksX3_most_5 7 rfl rfl)
theorem dX3_most_127 : decode cX3_most 127 = .ok (.ldc 223, 2) := dk_18 223 (dk_at dksX3_most_5 9 rfl rfl)
theorem dX3_most_129 : decode cX3_most 129 = .ok (.if_icmp .ne 8, 3) := dk_160 0 8 (dk_at dksX3_most_5 11 rfl rfl)
theorem dX3_most_132 : decode cX3_most 132 = .ok (.ldc 223, 2) := dk_18 223 (dk_at dksX3_most_5 14 rfl rfl)
theorem dX3_most_134 : decode cX3_most 134 = .ok (.goto 11, 3) := dk_167 0 11 (dk_at dksX3_most_5 16 rfl rfl)
theorem dX3_most_137 : decode cX3_most 137 = .ok (.iload 7, 2) := dk_21 7 (dk_at dksX3_most_5 19 rfl rfl)
theorem dX3_most_139 : decode cX3_most 139 = .ok (.iload 8, 2) := dk_21 8 (dk_at dksX3_most_5 21 rfl rfl)
theorem dX3_most_141 : decode cX3_most 141 = .ok (.iadd, 1) := dk_96 (dk_at dksX3_most_5 23 rfl rfl)
theorem dX3_most_142 : decode cX3_most 142 = .ok (.iload 9, 2) := dk_21 9 (dk_at dksX3_most_6 0 rfl rfl)
theorem dX3_most_144 : decode cX3_most 144 = .ok (.iadd, 1) := dk_96 (dk_at dksX3_most_6 2 rfl rfl)
theorem dX3_most_145 : decode cX3_most 145 = .ok (.istore 10, 2) := dk_54 10 (dk_at dksX3_most_6 3 rfl rfl)
theorem dX3_most_147 : decode cX3_most 147 = .ok (.iload 10, 2) := dk_21 10 (dk_at dksX3_most_6 5 rfl rfl)
theorem dX3_most_149 : decode cX3_most 149 = .ok (.ldc 223, 2) := dk_18 223 (dk_at dksX3_most_6 7 rfl rfl)
theorem dX3_most_151 : decode cX3_most 151 = .ok (.if_icmp .le 34, 3) := dk_164 0 34 (dk_at dksX3_most_6 9 rfl rfl)
theorem dX3_most_154 : decode cX3_most 154 = .ok (.iload 10, 2) := dk_21 10 (dk_at dksX3_most_6 12 rfl rfl)
theorem dX3_most_156 : decode cX3_most 156 = .ok (.iload_n 3, 1) := dk_29 (dk_at dksX3_most_6 14 rfl rfl)
theorem dX3_most_157 : decode cX3_most 157 = .ok (.if_icmp .ne 28, 3) := dk_160 0 28 (dk_at dksX3_most_6 15 rfl rfl)
theorem dX3_most_160 : decode cX3_most 160 = .ok (.iload 4, 2) := dk_21 4 (dk_at dksX3_most_6 18 rfl rfl)
theorem dX3_most_162 : decode cX3_most 162 = .ok (.iload 5, 2) := dk_21 5 (dk_at dksX3_most_6 20 rfl rfl)
theorem dX3_most_164 : decode cX3_most 164 = .ok (.invokestatic 234, 3) := dk_184 0 234 (dk_at dksX3_most_7 0 rfl rfl)
theorem dX3_most_167 : decode cX3_most 167 = .ok (.aload_n 0, 1) := dk_42 (dk_at dksX3_most_7 3 rfl rfl)
theorem dX3_most_168 : decode cX3_most 168 = .ok (.getfield 238, 3) := dk_180 0 238 (dk_at dksX3_most_7 4 rfl rfl)
theorem dX3_most_171 : decode cX3_most 171 = .ok (.aload_n 0, 1) := dk_42 (dk_at dksX3_most_7 7 rfl rfl)
theorem dX3_most_172 : decode cX3_most 172 = .ok (.getfield 241, 3) := dk_180 0 241 (dk_at dksX3_most_7 8 rfl rfl)
theorem dX3_most_175 : decode cX3_most 175 = .ok (.invokestatic 234, 3) := dk_184 0 234 (dk_at dksX3_most_7 11 rfl rfl)
theorem dX3_most_178 : decode cX3_most 178 = .ok (.if_icmp .ge 7, 3) := dk_162 0 7 (dk_at dksX3_most_7 14 rfl rfl)
theorem dX3_most_181 : decode cX3_most 181 = .ok (.iconst 1, 1) := dk_4 (dk_at dksX3_most_7 17 rfl rfl)
theorem dX3_most_182 : decode cX3_most 182 = .ok (.goto 4, 3) := dk_167 0 4 (dk_at dksX3_most_7 18 rfl rfl)
theorem dX3_most_185 : decode cX3_most 185 = .ok (.iconst 0, 1) := dk_3 (dk_at dksX3_most_7 21 rfl rfl)
theorem dX3_most_186 : decode cX3_most 186 = .ok (.istore 11, 2) := dk_54 11 (dk_at dksX3_most_7 22 rfl rfl)
theorem dX3_most_188 : decode cX3_most 188 = .ok (.iload 10, 2) := dk_21 10 (dk_at dksX3_most_8 0 rfl rfl)
theorem dX3_most_190 : decode cX3_most 190 = .ok (.iload_n 3, 1) := dk_29 (dk_at dksX3_most_8 2 rfl rfl)
theorem dX3_most_191 : decode cX3_most 191 = .ok (.if_icmp .gt 8, 3) := dk_163 0 8 (dk_at dksX3_most_8 3 rfl rfl)
theorem dX3_most_194 : decode cX3_most 194 = .ok (.iload 11, 2) := dk_21 11 (dk_at dksX3_most_8 6 rfl rfl)
theorem dX3_most_196 : decode cX3_most 196 = .ok (.ifCond .eq 18, 3) := dk_153 0 18 (dk_at dksX3_most_8 8 rfl rfl)
theorem dX3_most_199 : decode cX3_most 199 = .ok (.iload 10, 2) := dk_21 10 (dk_at dksX3_most_8 11 rfl rfl)
theorem dX3_most_201 : decode cX3_most 201 = .ok (.istore_n 3, 1) := dk_62 (dk_at dksX3_most_8 13 rfl rfl)
theorem dX3_most_202 : decode cX3_most 202 = .ok (.aload_n 0, 1) := dk_42 (dk_at dksX3_most_8 14 rfl rfl)
theorem dX3_most_203 : decode cX3_most 203 = .ok (.iload 4, 2) := dk_21 4 (dk_at dksX3_most_8 15 rfl rfl)
theorem dX3_most_205 : decode cX3_most 205 = .ok (.putfield 238, 3) := dk_181 0 238 (dk_at dksX3_most_8 17 rfl rfl)
theorem dX3_most_208 : decode cX3_most 208 = .ok (.aload_n 0, 1) := dk_42 (dk_at dksX3_most_8 20 rfl rfl)
theorem dX3_most_209 : decode cX3_most 209 = .ok (.iload 5, 2) := dk_21 5 (dk_at dksX3_most_8 21 rfl rfl)
theorem dX3_most_211 : decode cX3_most 211 = .ok (.putfield 241, 3) := dk_181 0 241 (dk_at dksX3_most_9 0 rfl rfl)
theorem dX3_most_214 : decode cX3_most 214 = .ok (.iinc 5 1, 3) := dk_132 5 1 (dk_at dksX3_most_9 3 rfl rfl)
theorem dX3_most_217 : decode cX3_most 217 = .ok (.goto (-199), 3) := dk_167 255 57 (dk_at dksX3_most_9 6 rfl rfl)
theorem dX3_most_220 : decode cX3_most 220 = .ok (.iinc 4 1, 3) := dk_132 4 1 (dk_at dksX3_most_9 9 rfl rfl)
theorem dX3_most_223 : decode cX3_most 223 = .ok (.goto (-216), 3) := dk_167 255 40 (dk_at dksX3_most_9 12 rfl rfl)
theorem dX3_most_226 : decode cX3_most 226 = .ok (.iload_n 3, 1) := dk_29 (dk_at dksX3_most_9 15 rfl rfl)
theorem dX3_most_227 : decode cX3_most 227 = .ok (.ireturn, 1) := dk_172 (dk_at dksX3_most_9 16 rfl rfl)
abbrev cX3_fits : ByteArray := prog_15_method_19_code
def yX3_fits : MethodName := ⟨RX3, "fits", "(III)Z"⟩
def dkwX3_fits_2 : List UInt8 := [163, 0, 7, 4, 167, 0, 4, 3, 172]
abbrev dktX3_fits_2 : List UInt8 := dkwX3_fits_2 ++ []
def dkwX3_fits_1 : List UInt8 := [42, 180, 0, 7, 4, 46, 104, 163, 0, 24, 27, 29, 100, 184, 0, 224, 6, 42, 180, 0, 7, 5, 46, 104]
abbrev dktX3_fits_1 : List UInt8 := dkwX3_fits_1 ++ dktX3_fits_2
def dkwX3_fits_0 : List UInt8 := [27, 28, 100, 184, 0, 224, 6, 42, 180, 0, 7, 3, 46, 104, 163, 0, 41, 28, 29, 100, 184, 0, 224, 6]
abbrev dktX3_fits_0 : List UInt8 := dkwX3_fits_0 ++ dktX3_fits_1
theorem dksX3_fits_0 : cX3_fits.data.toList.drop 0 = dktX3_fits_0 := by decide +kernel
theorem dksX3_fits_1 : cX3_fits.data.toList.drop 24 = dktX3_fits_1 := dk_seg dksX3_fits_0 24 rfl rfl
theorem dksX3_fits_2 : cX3_fits.data.toList.drop 48 = dktX3_fits_2 := dk_seg dksX3_fits_1 24 rfl rfl
theorem dX3_fits_0 : decode cX3_fits 0 = .ok (.iload_n 1, 1) := dk_27 (dk_at dksX3_fits_0 0 rfl rfl)
theorem dX3_fits_1 : decode cX3_fits 1 = .ok (.iload_n 2, 1) := dk_28 (dk_at dksX3_fits_0 1 rfl rfl)
theorem dX3_fits_2 : decode cX3_fits 2 = .ok (.isub, 1) := dk_100 (dk_at dksX3_fits_0 2 rfl rfl)
theorem dX3_fits_3 : decode cX3_fits 3 = .ok (.invokestatic 224, 3) := dk_184 0 224 (dk_at dksX3_fits_0 3 rfl rfl)
theorem dX3_fits_6 : decode cX3_fits 6 = .ok (.iconst 3, 1) := dk_6 (dk_at dksX3_fits_0 6 rfl rfl)
theorem dX3_fits_7 : decode cX3_fits 7 = .ok (.aload_n 0, 1) := dk_42 (dk_at dksX3_fits_0 7 rfl rfl)
theorem dX3_fits_8 : decode cX3_fits 8 = .ok (.getfield 7, 3) := dk_180 0 7 (dk_at dksX3_fits_0 8 rfl rfl)
theorem dX3_fits_11 : decode cX3_fits 11 = .ok (.iconst 0, 1) := dk_3 (dk_at dksX3_fits_0 11 rfl rfl)
theorem dX3_fits_12 : decode cX3_fits 12 = .ok (.iaload, 1) := dk_46 (dk_at dksX3_fits_0 12 rfl rfl)
theorem dX3_fits_13 : decode cX3_fits 13 = .ok (.imul, 1) := dk_104 (dk_at dksX3_fits_0 13 rfl rfl)
theorem dX3_fits_14 : decode cX3_fits 14 = .ok (.if_icmp .gt 41, 3) := dk_163 0 41 (dk_at dksX3_fits_0 14 rfl rfl)
theorem dX3_fits_17 : decode cX3_fits 17 = .ok (.iload_n 2, 1) := dk_28 (dk_at dksX3_fits_0 17 rfl rfl)
theorem dX3_fits_18 : decode cX3_fits 18 = .ok (.iload_n 3, 1) := dk_29 (dk_at dksX3_fits_0 18 rfl rfl)
theorem dX3_fits_19 : decode cX3_fits 19 = .ok (.isub, 1) := dk_100 (dk_at dksX3_fits_0 19 rfl rfl)
theorem dX3_fits_20 : decode cX3_fits 20 = .ok (.invokestatic 224, 3) := dk_184 0 224 (dk_at dksX3_fits_0 20 rfl rfl)
theorem dX3_fits_23 : decode cX3_fits 23 = .ok (.iconst 3, 1) := dk_6 (dk_at dksX3_fits_0 23 rfl rfl)
theorem dX3_fits_24 : decode cX3_fits 24 = .ok (.aload_n 0, 1) := dk_42 (dk_at dksX3_fits_1 0 rfl rfl)
theorem dX3_fits_25 : decode cX3_fits 25 = .ok (.getfield 7, 3) := dk_180 0 7 (dk_at dksX3_fits_1 1 rfl rfl)
theorem dX3_fits_28 : decode cX3_fits 28 = .ok (.iconst 1, 1) := dk_4 (dk_at dksX3_fits_1 4 rfl rfl)
theorem dX3_fits_29 : decode cX3_fits 29 = .ok (.iaload, 1) := dk_46 (dk_at dksX3_fits_1 5 rfl rfl)
theorem dX3_fits_30 : decode cX3_fits 30 = .ok (.imul, 1) := dk_104 (dk_at dksX3_fits_1 6 rfl rfl)
theorem dX3_fits_31 : decode cX3_fits 31 = .ok (.if_icmp .gt 24, 3) := dk_163 0 24 (dk_at dksX3_fits_1 7 rfl rfl)
theorem dX3_fits_34 : decode cX3_fits 34 = .ok (.iload_n 1, 1) := dk_27 (dk_at dksX3_fits_1 10 rfl rfl)
theorem dX3_fits_35 : decode cX3_fits 35 = .ok (.iload_n 3, 1) := dk_29 (dk_at dksX3_fits_1 11 rfl rfl)
theorem dX3_fits_36 : decode cX3_fits 36 = .ok (.isub, 1) := dk_100 (dk_at dksX3_fits_1 12 rfl rfl)
theorem dX3_fits_37 : decode cX3_fits 37 = .ok (.invokestatic 224, 3) := dk_184 0 224 (dk_at dksX3_fits_1 13 rfl rfl)
theorem dX3_fits_40 : decode cX3_fits 40 = .ok (.iconst 3, 1) := dk_6 (dk_at dksX3_fits_1 16 rfl rfl)
theorem dX3_fits_41 : decode cX3_fits 41 = .ok (.aload_n 0, 1) := dk_42 (dk_at dksX3_fits_1 17 rfl rfl)
theorem dX3_fits_42 : decode cX3_fits 42 = .ok (.getfield 7, 3) := dk_180 0 7 (dk_at dksX3_fits_1 18 rfl rfl)
theorem dX3_fits_45 : decode cX3_fits 45 = .ok (.iconst 2, 1) := dk_5 (dk_at dksX3_fits_1 21 rfl rfl)
theorem dX3_fits_46 : decode cX3_fits 46 = .ok (.iaload, 1) := dk_46 (dk_at dksX3_fits_1 22 rfl rfl)
theorem dX3_fits_47 : decode cX3_fits 47 = .ok (.imul, 1) := dk_104 (dk_at dksX3_fits_1 23 rfl rfl)
theorem dX3_fits_48 : decode cX3_fits 48 = .ok (.if_icmp .gt 7, 3) := dk_163 0 7 (dk_at dksX3_fits_2 0 rfl rfl)
theorem dX3_fits_51 : decode cX3_fits 51 = .ok (.iconst 1, 1) := dk_4 (dk_at dksX3_fits_2 3 rfl rfl)
theorem dX3_fits_52 : decode cX3_fits 52 = .ok (.goto 4, 3) := dk_167 0 4 (dk_at dksX3_fits_2 4 rfl rfl)
theorem dX3_fits_55 : decode cX3_fits 55 = .ok (.iconst 0, 1) := dk_3 (dk_at dksX3_fits_2 7 rfl rfl)
theorem dX3_fits_56 : decode cX3_fits 56 = .ok (.ireturn, 1) := dk_172 (dk_at dksX3_fits_2 8 rfl rfl)
abbrev cX3_away : ByteArray := prog_15_method_18_code
def yX3_away : MethodName := ⟨RX3, "away", "(I)I"⟩
def dkwX3_away_0 : List UInt8 := [26, 156, 0, 8, 26, 116, 167, 0, 4, 26, 172]
abbrev dktX3_away_0 : List UInt8 := dkwX3_away_0 ++ []
theorem dksX3_away_0 : cX3_away.data.toList.drop 0 = dktX3_away_0 := by decide +kernel
theorem dX3_away_0 : decode cX3_away 0 = .ok (.iload_n 0, 1) := dk_26 (dk_at dksX3_away_0 0 rfl rfl)
theorem dX3_away_1 : decode cX3_away 1 = .ok (.ifCond .ge 8, 3) := dk_156 0 8 (dk_at dksX3_away_0 1 rfl rfl)
theorem dX3_away_4 : decode cX3_away 4 = .ok (.iload_n 0, 1) := dk_26 (dk_at dksX3_away_0 4 rfl rfl)
theorem dX3_away_5 : decode cX3_away 5 = .ok (.ineg, 1) := dk_116 (dk_at dksX3_away_0 5 rfl rfl)
theorem dX3_away_6 : decode cX3_away 6 = .ok (.goto 4, 3) := dk_167 0 4 (dk_at dksX3_away_0 6 rfl rfl)
theorem dX3_away_9 : decode cX3_away 9 = .ok (.iload_n 0, 1) := dk_26 (dk_at dksX3_away_0 9 rfl rfl)
theorem dX3_away_10 : decode cX3_away 10 = .ok (.ireturn, 1) := dk_172 (dk_at dksX3_away_0 10 rfl rfl)
abbrev cX3_worthOf : ByteArray := prog_15_method_20_code
def yX3_worthOf : MethodName := ⟨RX3, "worthOf", "(III)I"⟩
def dkwX3_worthOf_1 : List UInt8 := [104, 28, 96, 46, 100, 46, 172]
abbrev dktX3_worthOf_1 : List UInt8 := dkwX3_worthOf_1 ++ []
def dkwX3_worthOf_0 : List UInt8 := [42, 180, 0, 160, 17, 0, 161, 7, 27, 104, 28, 96, 104, 16, 80, 96, 29, 96, 42, 180, 0, 166, 7, 27]
abbrev dktX3_worthOf_0 : List UInt8 := dkwX3_worthOf_0 ++ dktX3_worthOf_1
theorem dksX3_worthOf_0 : cX3_worthOf.data.toList.drop 0 = dktX3_worthOf_0 := by decide +kernel
theorem dksX3_worthOf_1 : cX3_worthOf.data.toList.drop 24 = dktX3_worthOf_1 := dk_seg dksX3_worthOf_0 24 rfl rfl
theorem dX3_worthOf_0 : decode cX3_worthOf 0 = .ok (.aload_n 0, 1) := dk_42 (dk_at dksX3_worthOf_0 0 rfl rfl)
theorem dX3_worthOf_1 : decode cX3_worthOf 1 = .ok (.getfield 160, 3) := dk_180 0 160 (dk_at dksX3_worthOf_0 1 rfl rfl)
theorem dX3_worthOf_4 : decode cX3_worthOf 4 = .ok (.sipush 161, 3) := dk_17 0 161 (dk_at dksX3_worthOf_0 4 rfl rfl)
theorem dX3_worthOf_7 : decode cX3_worthOf 7 = .ok (.iconst 4, 1) := dk_7 (dk_at dksX3_worthOf_0 7 rfl rfl)
theorem dX3_worthOf_8 : decode cX3_worthOf 8 = .ok (.iload_n 1, 1) := dk_27 (dk_at dksX3_worthOf_0 8 rfl rfl)
theorem dX3_worthOf_9 : decode cX3_worthOf 9 = .ok (.imul, 1) := dk_104 (dk_at dksX3_worthOf_0 9 rfl rfl)
theorem dX3_worthOf_10 : decode cX3_worthOf 10 = .ok (.iload_n 2, 1) := dk_28 (dk_at dksX3_worthOf_0 10 rfl rfl)
theorem dX3_worthOf_11 : decode cX3_worthOf 11 = .ok (.iadd, 1) := dk_96 (dk_at dksX3_worthOf_0 11 rfl rfl)
theorem dX3_worthOf_12 : decode cX3_worthOf 12 = .ok (.imul, 1) := dk_104 (dk_at dksX3_worthOf_0 12 rfl rfl)
theorem dX3_worthOf_13 : decode cX3_worthOf 13 = .ok (.bipush 80, 2) := dk_16 80 (dk_at dksX3_worthOf_0 13 rfl rfl)
theorem dX3_worthOf_15 : decode cX3_worthOf 15 = .ok (.iadd, 1) := dk_96 (dk_at dksX3_worthOf_0 15 rfl rfl)
theorem dX3_worthOf_16 : decode cX3_worthOf 16 = .ok (.iload_n 3, 1) := dk_29 (dk_at dksX3_worthOf_0 16 rfl rfl)
theorem dX3_worthOf_17 : decode cX3_worthOf 17 = .ok (.iadd, 1) := dk_96 (dk_at dksX3_worthOf_0 17 rfl rfl)
theorem dX3_worthOf_18 : decode cX3_worthOf 18 = .ok (.aload_n 0, 1) := dk_42 (dk_at dksX3_worthOf_0 18 rfl rfl)
theorem dX3_worthOf_19 : decode cX3_worthOf 19 = .ok (.getfield 166, 3) := dk_180 0 166 (dk_at dksX3_worthOf_0 19 rfl rfl)
theorem dX3_worthOf_22 : decode cX3_worthOf 22 = .ok (.iconst 4, 1) := dk_7 (dk_at dksX3_worthOf_0 22 rfl rfl)
theorem dX3_worthOf_23 : decode cX3_worthOf 23 = .ok (.iload_n 1, 1) := dk_27 (dk_at dksX3_worthOf_0 23 rfl rfl)
theorem dX3_worthOf_24 : decode cX3_worthOf 24 = .ok (.imul, 1) := dk_104 (dk_at dksX3_worthOf_1 0 rfl rfl)
theorem dX3_worthOf_25 : decode cX3_worthOf 25 = .ok (.iload_n 2, 1) := dk_28 (dk_at dksX3_worthOf_1 1 rfl rfl)
theorem dX3_worthOf_26 : decode cX3_worthOf 26 = .ok (.iadd, 1) := dk_96 (dk_at dksX3_worthOf_1 2 rfl rfl)
theorem dX3_worthOf_27 : decode cX3_worthOf 27 = .ok (.iaload, 1) := dk_46 (dk_at dksX3_worthOf_1 3 rfl rfl)
theorem dX3_worthOf_28 : decode cX3_worthOf 28 = .ok (.isub, 1) := dk_100 (dk_at dksX3_worthOf_1 4 rfl rfl)
theorem dX3_worthOf_29 : decode cX3_worthOf 29 = .ok (.iaload, 1) := dk_46 (dk_at dksX3_worthOf_1 5 rfl rfl)
theorem dX3_worthOf_30 : decode cX3_worthOf 30 = .ok (.ireturn, 1) := dk_172 (dk_at dksX3_worthOf_1 6 rfl rfl)
abbrev cX3_goes : ByteArray := prog_15_method_21_code
def yX3_goes : MethodName := ⟨RX3, "goes", "(II)I"⟩
def dkwX3_goes_1 : List UInt8 := [96, 172]
abbrev dktX3_goes_1 : List UInt8 := dkwX3_goes_1 ++ []
def dkwX3_goes_0 : List UInt8 := [26, 116, 27, 100, 61, 26, 27, 100, 184, 0, 224, 27, 28, 100, 184, 0, 224, 96, 26, 28, 100, 184, 0, 224]
abbrev dktX3_goes_0 : List UInt8 := dkwX3_goes_0 ++ dktX3_goes_1
theorem dksX3_goes_0 : cX3_goes.data.toList.drop 0 = dktX3_goes_0 := by decide +kernel
theorem dksX3_goes_1 : cX3_goes.data.toList.drop 24 = dktX3_goes_1 := dk_seg dksX3_goes_0 24 rfl rfl
theorem dX3_goes_0 : decode cX3_goes 0 = .ok (.iload_n 0, 1) := dk_26 (dk_at dksX3_goes_0 0 rfl rfl)
theorem dX3_goes_1 : decode cX3_goes 1 = .ok (.ineg, 1) := dk_116 (dk_at dksX3_goes_0 1 rfl rfl)
theorem dX3_goes_2 : decode cX3_goes 2 = .ok (.iload_n 1, 1) := dk_27 (dk_at dksX3_goes_0 2 rfl rfl)
theorem dX3_goes_3 : decode cX3_goes 3 = .ok (.isub, 1) := dk_100 (dk_at dksX3_goes_0 3 rfl rfl)
theorem dX3_goes_4 : decode cX3_goes 4 = .ok (.istore_n 2, 1) := dk_61 (dk_at dksX3_goes_0 4 rfl rfl)
theorem dX3_goes_5 : decode cX3_goes 5 = .ok (.iload_n 0, 1) := dk_26 (dk_at dksX3_goes_0 5 rfl rfl)
theorem dX3_goes_6 : decode cX3_goes 6 = .ok (.iload_n 1, 1) := dk_27 (dk_at dksX3_goes_0 6 rfl rfl)
theorem dX3_goes_7 : decode cX3_goes 7 = .ok (.isub, 1) := dk_100 (dk_at dksX3_goes_0 7 rfl rfl)
theorem dX3_goes_8 : decode cX3_goes 8 = .ok (.invokestatic 224, 3) := dk_184 0 224 (dk_at dksX3_goes_0 8 rfl rfl)
theorem dX3_goes_11 : decode cX3_goes 11 = .ok (.iload_n 1, 1) := dk_27 (dk_at dksX3_goes_0 11 rfl rfl)
theorem dX3_goes_12 : decode cX3_goes 12 = .ok (.iload_n 2, 1) := dk_28 (dk_at dksX3_goes_0 12 rfl rfl)
theorem dX3_goes_13 : decode cX3_goes 13 = .ok (.isub, 1) := dk_100 (dk_at dksX3_goes_0 13 rfl rfl)
theorem dX3_goes_14 : decode cX3_goes 14 = .ok (.invokestatic 224, 3) := dk_184 0 224 (dk_at dksX3_goes_0 14 rfl rfl)
theorem dX3_goes_17 : decode cX3_goes 17 = .ok (.iadd, 1) := dk_96 (dk_at dksX3_goes_0 17 rfl rfl)
theorem dX3_goes_18 : decode cX3_goes 18 = .ok (.iload_n 0, 1) := dk_26 (dk_at dksX3_goes_0 18 rfl rfl)
theorem dX3_goes_19 : decode cX3_goes 19 = .ok (.iload_n 2, 1) := dk_28 (dk_at dksX3_goes_0 19 rfl rfl)
theorem dX3_goes_20 : decode cX3_goes 20 = .ok (.isub, 1) := dk_100 (dk_at dksX3_goes_0 20 rfl rfl)
theorem dX3_goes_21 : decode cX3_goes 21 = .ok (.invokestatic 224, 3) := dk_184 0 224 (dk_at dksX3_goes_0 21 rfl rfl)
theorem dX3_goes_24 : decode cX3_goes 24 = .ok (.iadd, 1) := dk_96 (dk_at dksX3_goes_1 0 rfl rfl)
theorem dX3_goes_25 : decode cX3_goes 25 = .ok (.ireturn, 1) := dk_172 (dk_at dksX3_goes_1 1 rfl rfl)
abbrev cX3_gainOf : ByteArray := prog_15_method_26_code
def yX3_gainOf : MethodName := ⟨RX3, "gainOf", "(I[II)I"⟩
def dkwX3_gainOf_1 : List UInt8 := [180, 0, 55, 27, 46, 4, 160, 0, 9, 21, 4, 116, 167, 0, 5, 21, 4, 172]
abbrev dktX3_gainOf_1 : List UInt8 := dkwX3_gainOf_1 ++ []
def dkwX3_gainOf_0 : List UInt8 := [42, 27, 44, 29, 182, 0, 244, 42, 180, 0, 58, 27, 46, 42, 27, 182, 0, 248, 104, 100, 54, 4, 42]
abbrev dktX3_gainOf_0 : List UInt8 := dkwX3_gainOf_0 ++ dktX3_gainOf_1
theorem dksX3_gainOf_0 : cX3_gainOf.data.toList.drop 0 = dktX3_gainOf_0 := by decide +kernel
theorem dksX3_gainOf_1 : cX3_gainOf.data.toList.drop 23 = dktX3_gainOf_1 := dk_seg dksX3_gainOf_0 23 rfl rfl
theorem dX3_gainOf_0 : decode cX3_gainOf 0 = .ok (.aload_n 0, 1) := dk_42 (dk_at dksX3_gainOf_0 0 rfl rfl)
theorem dX3_gainOf_1 : decode cX3_gainOf 1 = .ok (.iload_n 1, 1) := dk_27 (dk_at dksX3_gainOf_0 1 rfl rfl)
theorem dX3_gainOf_2 : decode cX3_gainOf 2 = .ok (.aload_n 2, 1) := dk_44 (dk_at dksX3_gainOf_0 2 rfl rfl)
theorem dX3_gainOf_3 : decode cX3_gainOf 3 = .ok (.iload_n 3, 1) := dk_29 (dk_at dksX3_gainOf_0 3 rfl rfl)
theorem dX3_gainOf_4 : decode cX3_gainOf 4 = .ok (.invokevirtual 244, 3) := dk_182 0 244 (dk_at dksX3_gainOf_0 4 rfl rfl)
theorem dX3_gainOf_7 : decode cX3_gainOf 7 = .ok (.aload_n 0, 1) := dk_42 (dk_at dksX3_gainOf_0 7 rfl rfl)
theorem dX3_gainOf_8 : decode cX3_gainOf 8 = .ok (.getfield 58, 3) := dk_180 0 58 (dk_at dksX3_gainOf_0 8 rfl rfl)
theorem dX3_gainOf_11 : decode cX3_gainOf 11 = .ok (.iload_n 1, 1) := dk_27 (dk_at dksX3_gainOf_0 11 rfl rfl)
theorem dX3_gainOf_12 : decode cX3_gainOf 12 = .ok (.iaload, 1) := dk_46 (dk_at dksX3_gainOf_0 12 rfl rfl)
theorem dX3_gainOf_13 : decode cX3_gainOf 13 = .ok (.aload_n 0, 1) := dk_42 (dk_at dksX3_gainOf_0 13 rfl rfl)
theorem dX3_gainOf_14 : decode cX3_gainOf 14 = .ok (.iload_n 1, 1) := dk_27 (dk_at dksX3_gainOf_0 14 rfl rfl)
theorem dX3_gainOf_15 : decode cX3_gainOf 15 = .ok (.invokevirtual 248, 3) := dk_182 0 248 (dk_at dksX3_gainOf_0 15 rfl rfl)
theorem dX3_gainOf_18 : decode cX3_gainOf 18 = .ok (.imul, 1) := dk_104 (dk_at dksX3_gainOf_0 18 rfl rfl)
theorem dX3_gainOf_19 : decode cX3_gainOf 19 = .ok (.isub, 1) := dk_100 (dk_at dksX3_gainOf_0 19 rfl rfl)
theorem dX3_gainOf_20 : decode cX3_gainOf 20 = .ok (.istore 4, 2) := dk_54 4 (dk_at dksX3_gainOf_0 20 rfl rfl)
theorem dX3_gainOf_22 : decode cX3_gainOf 22 = .ok (.aload_n 0, 1) := dk_42 (dk_at dksX3_gainOf_0 22 rfl rfl)
theorem dX3_gainOf_23 : decode cX3_gainOf 23 = .ok (.getfield 55, 3) := dk_180 0 55 (dk_at dksX3_gainOf_1 0 rfl rfl)
theorem dX3_gainOf_26 : decode cX3_gainOf 26 = .ok (.iload_n 1, 1) := dk_27 (dk_at dksX3_gainOf_1 3 rfl rfl)
theorem dX3_gainOf_27 : decode cX3_gainOf 27 = .ok (.iaload, 1) := dk_46 (dk_at dksX3_gainOf_1 4 rfl rfl)
theorem dX3_gainOf_28 : decode cX3_gainOf 28 = .ok (.iconst 1, 1) := dk_4 (dk_at dksX3_gainOf_1 5 rfl rfl)
theorem dX3_gainOf_29 : decode cX3_gainOf 29 = .ok (.if_icmp .ne 9, 3) := dk_160 0 9 (dk_at dksX3_gainOf_1 6 rfl rfl)
theorem dX3_gainOf_32 : decode cX3_gainOf 32 = .ok (.iload 4, 2) := dk_21 4 (dk_at dksX3_gainOf_1 9 rfl rfl)
theorem dX3_gainOf_34 : decode cX3_gainOf 34 = .ok (.ineg, 1) := dk_116 (dk_at dksX3_gainOf_1 11 rfl rfl)
theorem dX3_gainOf_35 : decode cX3_gainOf 35 = .ok (.goto 5, 3) := dk_167 0 5 (dk_at dksX3_gainOf_1 12 rfl rfl)
theorem dX3_gainOf_38 : decode cX3_gainOf 38 = .ok (.iload 4, 2) := dk_21 4 (dk_at dksX3_gainOf_1 15 rfl rfl)
theorem dX3_gainOf_40 : decode cX3_gainOf 40 = .ok (.ireturn, 1) := dk_172 (dk_at dksX3_gainOf_1 17 rfl rfl)
abbrev cX3_pricesOf : ByteArray := prog_15_method_24_code
def yX3_pricesOf : MethodName := ⟨RX3, "pricesOf", "(I[II)I"⟩
def dkwX3_pricesOf_2 : List UInt8 := [96, 54, 4, 132, 5, 1, 167, 255, 208, 21, 4, 172]
abbrev dktX3_pricesOf_2 : List UInt8 := dkwX3_pricesOf_2 ++ []
def dkwX3_pricesOf_1 : List UInt8 := [126, 4, 160, 0, 21, 44, 29, 7, 42, 180, 0, 49, 27, 46, 104, 96, 21, 5, 96, 46, 167, 0, 4, 3]
abbrev dktX3_pricesOf_1 : List UInt8 := dkwX3_pricesOf_1 ++ dktX3_pricesOf_2
def dkwX3_pricesOf_0 : List UInt8 := [3, 54, 4, 3, 54, 5, 21, 5, 7, 162, 0, 48, 21, 4, 42, 180, 0, 52, 27, 46, 21, 5, 122, 4]
abbrev dktX3_pricesOf_0 : List UInt8 := dkwX3_pricesOf_0 ++ dktX3_pricesOf_1
theorem dksX3_pricesOf_0 : cX3_pricesOf.data.toList.drop 0 = dktX3_pricesOf_0 := by decide +kernel
theorem dksX3_pricesOf_1 : cX3_pricesOf.data.toList.drop 24 = dktX3_pricesOf_1 := dk_seg dksX3_pricesOf_0 24 rfl rfl
theorem dksX3_pricesOf_2 : cX3_pricesOf.data.toList.drop 48 = dktX3_pricesOf_2 := dk_seg dksX3_pricesOf_1 24 rfl rfl
theorem dX3_pricesOf_0 : decode cX3_pricesOf 0 = .ok (.iconst 0, 1) := dk_3 (dk_at dksX3_pricesOf_0 0 rfl rfl)
theorem dX3_pricesOf_1 : decode cX3_pricesOf 1 = .ok (.istore 4, 2) := dk_54 4 (dk_at dksX3_pricesOf_0 1 rfl rfl)
theorem dX3_pricesOf_3 : decode cX3_pricesOf 3 = .ok (.iconst 0, 1) := dk_3 (dk_at dksX3_pricesOf_0 3 rfl rfl)
theorem dX3_pricesOf_4 : decode cX3_pricesOf 4 = .ok (.istore 5, 2) := dk_54 5 (dk_at dksX3_pricesOf_0 4 rfl rfl)
theorem dX3_pricesOf_6 : decode cX3_pricesOf 6 = .ok (.iload 5, 2) := dk_21 5 (dk_at dksX3_pricesOf_0 6 rfl rfl)
theorem dX3_pricesOf_8 : decode cX3_pricesOf 8 = .ok (.iconst 4, 1) := dk_7 (dk_at dksX3_pricesOf_0 8 rfl rfl)
theorem dX3_pricesOf_9 : decode cX3_pricesOf 9 = .ok (.if_icmp .ge 48, 3) := dk_162 0 48 (dk_at dksX3_pricesOf_0 9 rfl rfl)
theorem dX3_pricesOf_12 : decode cX3_pricesOf 12 = .ok (.iload 4, 2) := dk_21 4 (dk_at dksX3_pricesOf_0 12 rfl rfl)
theorem dX3_pricesOf_14 : decode cX3_pricesOf 14 = .ok (.aload_n 0, 1) := dk_42 (dk_at dksX3_pricesOf_0 14 rfl rfl)
theorem dX3_pricesOf_15 : decode cX3_pricesOf 15 = .ok (.getfield 52, 3) := dk_180 0 52 (dk_at dksX3_pricesOf_0 15 rfl rfl)
theorem dX3_pricesOf_18 : decode cX3_pricesOf 18 = .ok (.iload_n 1, 1) := dk_27 (dk_at dksX3_pricesOf_0 18 rfl rfl)
theorem dX3_pricesOf_19 : decode cX3_pricesOf 19 = .ok (.iaload, 1) := dk_46 (dk_at dksX3_pricesOf_0 19 rfl rfl)
theorem dX3_pricesOf_20 : decode cX3_pricesOf 20 = .ok (.iload 5, 2) := dk_21 5 (dk_at dksX3_pricesOf_0 20 rfl rfl)
theorem dX3_pricesOf_22 : decode cX3_pricesOf 22 = .ok (.ishr, 1) := dk_122 (dk_at dksX3_pricesOf_0 22 rfl rfl)
theorem dX3_pricesOf_23 : decode cX3_pricesOf 23 = .ok (.iconst 1, 1) := dk_4 (dk_at dksX3_pricesOf_0 23 rfl rfl)
theorem dX3_pricesOf_24 : decode cX3_pricesOf 24 = .ok (.iand, 1) := dk_126 (dk_at dksX3_pricesOf_1 0 rfl rfl)
theorem dX3_pricesOf_25 : decode cX3_pricesOf 25 = .ok (.iconst 1, 1) := dk_4 (dk_at dksX3_pricesOf_1 1 rfl rfl)
theorem dX3_pricesOf_26 : decode cX3_pricesOf 26 = .ok (.if_icmp .ne 21, 3) := dk_160 0 21 (dk_at dksX3_pricesOf_1 2 rfl rfl)
theorem dX3_pricesOf_29 : decode cX3_pricesOf 29 = .ok (.aload_n 2, 1) := dk_44 (dk_at dksX3_pricesOf_1 5 rfl rfl)
theorem dX3_pricesOf_30 : decode cX3_pricesOf 30 = .ok (.iload_n 3, 1) := dk_29 (dk_at dksX3_pricesOf_1 6 rfl rfl)
theorem dX3_pricesOf_31 : decode cX3_pricesOf 31 = .ok (.iconst 4, 1) := dk_7 (dk_at dksX3_pricesOf_1 7 rfl rfl)
theorem dX3_pricesOf_32 : decode cX3_pricesOf 32 = .ok (.aload_n 0, 1) := dk_42 (dk_at dksX3_pricesOf_1 8 rfl rfl)
theorem dX3_pricesOf_33 : decode cX3_pricesOf 33 = .ok (.getfield 49, 3) := dk_180 0 49 (dk_at dksX3_pricesOf_1 9 rfl rfl)
theorem dX3_pricesOf_36 : decode cX3_pricesOf 36 = .ok (.iload_n 1, 1) := dk_27 (dk_at dksX3_pricesOf_1 12 rfl rfl)
theorem dX3_pricesOf_37 : decode cX3_pricesOf 37 = .ok (.iaload, 1) := dk_46 (dk_at dksX3_pricesOf_1 13 rfl rfl)
theorem dX3_pricesOf_38 : decode cX3_pricesOf 38 = .ok (.imul, 1) := dk_104 (dk_at dksX3_pricesOf_1 14 rfl rfl)
theorem dX3_pricesOf_39 : decode cX3_pricesOf 39 = .ok (.iadd, 1) := dk_96 (dk_at dksX3_pricesOf_1 15 rfl rfl)
theorem dX3_pricesOf_40 : decode cX3_pricesOf 40 = .ok (.iload 5, 2) := dk_21 5 (dk_at dksX3_pricesOf_1 16 rfl rfl)
theorem dX3_pricesOf_42 : decode cX3_pricesOf 42 = .ok (.iadd, 1) := dk_96 (dk_at dksX3_pricesOf_1 18 rfl rfl)
theorem dX3_pricesOf_43 : decode cX3_pricesOf 43 = .ok (.iaload, 1) := dk_46 (dk_at dksX3_pricesOf_1 19 rfl rfl)
theorem dX3_pricesOf_44 : decode cX3_pricesOf 44 = .ok (.goto 4, 3) := dk_167 0 4 (dk_at dksX3_pricesOf_1 20 rfl rfl)
theorem dX3_pricesOf_47 : decode cX3_pricesOf 47 = .ok (.iconst 0, 1) := dk_3 (dk_at dksX3_pricesOf_1 23 rfl rfl)
theorem dX3_pricesOf_48 : decode cX3_pricesOf 48 = .ok (.iadd, 1) := dk_96 (dk_at dksX3_pricesOf_2 0 rfl rfl)
theorem dX3_pricesOf_49 : decode cX3_pricesOf 49 = .ok (.istore 4, 2) := dk_54 4 (dk_at dksX3_pricesOf_2 1 rfl rfl)
theorem dX3_pricesOf_51 : decode cX3_pricesOf 51 = .ok (.iinc 5 1, 3) := dk_132 5 1 (dk_at dksX3_pricesOf_2 3 rfl rfl)
theorem dX3_pricesOf_54 : decode cX3_pricesOf 54 = .ok (.goto (-48), 3) := dk_167 255 208 (dk_at dksX3_pricesOf_2 6 rfl rfl)
theorem dX3_pricesOf_57 : decode cX3_pricesOf 57 = .ok (.iload 4, 2) := dk_21 4 (dk_at dksX3_pricesOf_2 9 rfl rfl)
theorem dX3_pricesOf_59 : decode cX3_pricesOf 59 = .ok (.ireturn, 1) := dk_172 (dk_at dksX3_pricesOf_2 11 rfl rfl)
abbrev cX3_takesHour : ByteArray := prog_15_method_33_code
def yX3_takesHour : MethodName := ⟨RX3, "takesHour", "(II)V"⟩
def dkwX3_takesHour_3 : List UInt8 := [27, 28, 4, 21, 5, 182, 1, 11, 42, 27, 28, 3, 21, 4, 21, 5, 96, 182, 1, 11, 177]
abbrev dktX3_takesHour_3 : List UInt8 := dkwX3_takesHour_3 ++ []
def dkwX3_takesHour_2 : List UInt8 := [29, 46, 100, 54, 4, 42, 180, 0, 163, 17, 0, 161, 29, 104, 16, 80, 96, 21, 4, 96, 46, 54, 5, 42]
abbrev dktX3_takesHour_2 : List UInt8 := dkwX3_takesHour_2 ++ dktX3_takesHour_3
def dkwX3_takesHour_1 : List UInt8 := [42, 180, 0, 183, 104, 29, 96, 42, 180, 0, 172, 29, 46, 79, 42, 180, 0, 169, 29, 46, 42, 180, 0, 166]
abbrev dktX3_takesHour_1 : List UInt8 := dkwX3_takesHour_1 ++ dktX3_takesHour_2
def dkwX3_takesHour_0 : List UInt8 := [7, 27, 104, 28, 96, 62, 42, 180, 0, 151, 29, 42, 180, 0, 169, 29, 46, 79, 42, 180, 0, 130, 16, 12]
abbrev dktX3_takesHour_0 : List UInt8 := dkwX3_takesHour_0 ++ dktX3_takesHour_1
theorem dksX3_takesHour_0 : cX3_takesHour.data.toList.drop 0 = dktX3_takesHour_0 := by decide +kernel
theorem dksX3_takesHour_1 : cX3_takesHour.data.toList.drop 24 = dktX3_takesHour_1 := dk_seg dksX3_takesHour_0 24 rfl rfl
theorem dksX3_takesHour_2 : cX3_takesHour.data.toList.drop 48 = dktX3_takesHour_2 := dk_seg dksX3_takesHour_1 24 rfl rfl
theorem dksX3_takesHour_3 : cX3_takesHour.data.toList.drop 72 = dktX3_takesHour_3 := dk_seg dksX3_takesHour_2 24 rfl rfl
theorem dX3_takesHour_0 : decode cX3_takesHour 0 = .ok (.iconst 4, 1) := dk_7 (dk_at dksX3_takesHour_0 0 rfl rfl)
theorem dX3_takesHour_1 : decode cX3_takesHour 1 = .ok (.iload_n 1, 1) := dk_27 (dk_at dksX3_takesHour_0 1 rfl rfl)
theorem dX3_takesHour_2 : decode cX3_takesHour 2 = .ok (.imul, 1) := dk_104 (dk_at dksX3_takesHour_0 2 rfl rfl)
theorem dX3_takesHour_3 : decode cX3_takesHour 3 = .ok (.iload_n 2, 1) := dk_28 (dk_at dksX3_takesHour_0 3 rfl rfl)
theorem dX3_takesHour_4 : decode cX3_takesHour 4 = .ok (.iadd, 1) := dk_96 (dk_at dksX3_takesHour_0 4 rfl rfl)
theorem dX3_takesHour_5 : decode cX3_takesHour 5 = .ok (.istore_n 3, 1) := dk_62 (dk_at dksX3_takesHour_0 5 rfl rfl)
theorem dX3_takesHour_6 : decode cX3_takesHour 6 = .ok (.aload_n 0, 1) := dk_42 (dk_at dksX3_takesHour_0 6 rfl rfl)
theorem dX3_takesHour_7 : decode cX3_takesHour 7 = .ok (.getfield 151, 3) := dk_180 0 151 (dk_at dksX3_takesHour_0 7 rfl rfl)
theorem dX3_takesHour_10 : decode cX3_takesHour 10 = .ok (.iload_n 3, 1) := dk_29 (dk_at dksX3_takesHour_0 10 rfl rfl)
theorem dX3_takesHour_11 : decode cX3_takesHour 11 = .ok (.aload_n 0, 1) := dk_42 (dk_at dksX3_takesHour_0 11 rfl rfl)
theorem dX3_takesHour_12 : decode cX3_takesHour 12 = .ok (.getfield 169, 3) := dk_180 0 169 (dk_at dksX3_takesHour_0 12 rfl rfl)
theorem dX3_takesHour_15 : decode cX3_takesHour 15 = .ok (.iload_n 3, 1) := dk_29 (dk_at dksX3_takesHour_0 15 rfl rfl)
theorem dX3_takesHour_16 : decode cX3_takesHour 16 = .ok (.iaload, 1) := dk_46 (dk_at dksX3_takesHour_0 16 rfl rfl)
theorem dX3_takesHour_17 : decode cX3_takesHour 17 = .ok (.iastore, 1) := dk_79 (dk_at dksX3_takesHour_0 17 rfl rfl)
theorem dX3_takesHour_18 : decode cX3_takesHour 18 = .ok (.aload_n 0, 1) := dk_42 (dk_at dksX3_takesHour_0 18 rfl rfl)
theorem dX3_takesHour_19 : decode cX3_takesHour 19 = .ok (.getfield 130, 3) := dk_180 0 130 (dk_at dksX3_takesHour_0 19 rfl rfl)
theorem dX3_takesHour_22 : decode cX3_takesHour 22 = .ok (.bipush 12, 2) := dk_16 12 (dk_at dksX3_takesHour_0 22 rfl rfl)
theorem dX3_takesHour_24 : decode cX3_takesHour 24 = .ok (.aload_n 0, 1) := dk_42 (dk_at dksX3_takesHour_1 0 rfl rfl)
theorem dX3_takesHour_25 : decode cX3_takesHour 25 = .ok (.getfield 183, 3) := dk_180 0 183 (dk_at dksX3_takesHour_1 1 rfl rfl)
theorem dX3_takesHour_28 : decode cX3_takesHour 28 = .ok (.imul, 1) := dk_104 (dk_at dksX3_takesHour_1 4 rfl rfl)
theorem dX3_takesHour_29 : decode cX3_takesHour 29 = .ok (.iload_n 3, 1) := dk_29 (dk_at dksX3_takesHour_1 5 rfl rfl)
theorem dX3_takesHour_30 : decode cX3_takesHour 30 = .ok (.iadd, 1) := dk_96 (dk_at dksX3_takesHour_1 6 rfl rfl)
theorem dX3_takesHour_31 : decode cX3_takesHour 31 = .ok (.aload_n 0, 1) := dk_42 (dk_at dksX3_takesHour_1 7 rfl rfl)
theorem dX3_takesHour_32 : decode cX3_takesHour 32 = .ok (.getfield 172, 3) := dk_180 0 172 (dk_at dksX3_takesHour_1 8 rfl rfl)
theorem dX3_takesHour_35 : decode cX3_takesHour 35 = .ok (.iload_n 3, 1) := dk_29 (dk_at dksX3_takesHour_1 11 rfl rfl)
theorem dX3_takesHour_36 : decode cX3_takesHour 36 = .ok (.iaload, 1) := dk_46 (dk_at dksX3_takesHour_1 12 rfl rfl)
theorem dX3_takesHour_37 : decode cX3_takesHour 37 = .ok (.iastore, 1) := dk_79 (dk_at dksX3_takesHour_1 13 rfl rfl)
theorem dX3_takesHour_38 : decode cX3_takesHour 38 = .ok (.aload_n 0, 1) := dk_42 (dk_at dksX3_takesHour_1 14 rfl rfl)
theorem dX3_takesHour_39 : decode cX3_takesHour 39 = .ok (.getfield 169, 3) := dk_180 0 169 (dk_at dksX3_takesHour_1 15 rfl rfl)
theorem dX3_takesHour_42 : decode cX3_takesHour 42 = .ok (.iload_n 3, 1) := dk_29 (dk_at dksX3_takesHour_1 18 rfl rfl)
theorem dX3_takesHour_43 : decode cX3_takesHour 43 = .ok (.iaload, 1) := dk_46 (dk_at dksX3_takesHour_1 19 rfl rfl)
theorem dX3_takesHour_44 : decode cX3_takesHour 44 = .ok (.aload_n 0, 1) := dk_42 (dk_at dksX3_takesHour_1 20 rfl rfl)
theorem dX3_takesHour_45 : decode cX3_takesHour 45 = .ok (.getfield 166, 3) := dk_180 0 166 (dk_at dksX3_takesHour_1 21 rfl rfl)
theorem dX3_takesHour_48 : decode cX3_takesHour 48 = .ok (.iload_n 3, 1) := dk_29 (dk_at dksX3_takesHour_2 0 rfl rfl)
theorem dX3_takesHour_49 : decode cX3_takesHour 49 = .ok (.iaload, 1) := dk_46 (dk_at dksX3_takesHour_2 1 rfl rfl)
theorem dX3_takesHour_50 : decode cX3_takesHour 50 = .ok (.isub, 1) := dk_100 (dk_at dksX3_takesHour_2 2 rfl rfl)
theorem dX3_takesHour_51 : decode cX3_takesHour 51 = .ok (.istore 4, 2) := dk_54 4 (dk_at dksX3_takesHour_2 3 rfl rfl)
theorem dX3_takesHour_53 : decode cX3_takesHour 53 = .ok (.aload_n 0, 1) := dk_42 (dk_at dksX3_takesHour_2 5 rfl rfl)
theorem dX3_takesHour_54 : decode cX3_takesHour 54 = .ok (.getfield 163, 3) := dk_180 0 163 (dk_at dksX3_takesHour_2 6 rfl rfl)
theorem dX3_takesHour_57 : decode cX3_takesHour 57 = .ok (.sipush 161, 3) := dk_17 0 161 (dk_at dksX3_takesHour_2 9 rfl rfl)
theorem dX3_takesHour_60 : decode cX3_takesHour 60 = .ok (.iload_n 3, 1) := dk_29 (dk_at dksX3_takesHour_2 12 rfl rfl)
theorem dX3_takesHour_61 : decode cX3_takesHour 61 = .ok (.imul, 1) := dk_104 (dk_at dksX3_takesHour_2 13 rfl rfl)
theorem dX3_takesHour_62 : decode cX3_takesHour 62 = .ok (.bipush 80, 2) := dk_16 80 (dk_at dksX3_takesHour_2 14 rfl rfl)
theorem dX3_takesHour_64 : decode cX3_takesHour 64 = .ok (.iadd, 1) := dk_96 (dk_at dksX3_takesHour_2 16 rfl rfl)
theorem dX3_takesHour_65 : decode cX3_takesHour 65 = .ok (.iload 4, 2) := dk_21 4 (dk_at dksX3_takesHour_2 17 rfl rfl)
theorem dX3_takesHour_67 : decode cX3_takesHour 67 = .ok (.iadd, 1) := dk_96 (dk_at dksX3_takesHour_2 19 rfl rfl)
theorem dX3_takesHour_68 : decode cX3_takesHour 68 = .ok (.iaload, 1) := dk_46 (dk_at dksX3_takesHour_2 20 rfl rfl)
theorem dX3_takesHour_69 : decode cX3_takesHour 69 = .ok (.istore 5, 2) := dk_54 5 (dk_at dksX3_takesHour_2 21 rfl rfl)
theorem dX3_takesHour_71 : decode cX3_takesHour 71 = .ok (.aload_n 0, 1) := dk_42 (dk_at dksX3_takesHour_2 23 rfl rfl)
theorem dX3_takesHour_72 : decode cX3_takesHour 72 = .ok (.iload_n 1, 1) := dk_27 (dk_at dksX3_takesHour_3 0 rfl rfl)
theorem dX3_takesHour_73 : decode cX3_takesHour 73 = .ok (.iload_n 2, 1) := dk_28 (dk_at dksX3_takesHour_3 1 rfl rfl)
theorem dX3_takesHour_74 : decode cX3_takesHour 74 = .ok (.iconst 1, 1) := dk_4 (dk_at dksX3_takesHour_3 2 rfl rfl)
theorem dX3_takesHour_75 : decode cX3_takesHour 75 = .ok (.iload 5, 2) := dk_21 5 (dk_at dksX3_takesHour_3 3 rfl rfl)
theorem dX3_takesHour_77 : decode cX3_takesHour 77 = .ok (.invokevirtual 267, 3) := dk_182 1 11 (dk_at dksX3_takesHour_3 5 rfl rfl)
theorem dX3_takesHour_80 : decode cX3_takesHour 80 = .ok (.aload_n 0, 1) := dk_42 (dk_at dksX3_takesHour_3 8 rfl rfl)
theorem dX3_takesHour_81 : decode cX3_takesHour 81 = .ok (.iload_n 1, 1) := dk_27 (dk_at dksX3_takesHour_3 9 rfl rfl)
theorem dX3_takesHour_82 : decode cX3_takesHour 82 = .ok (.iload_n 2, 1) := dk_28 (dk_at dksX3_takesHour_3 10 rfl rfl)
theorem dX3_takesHour_83 : decode cX3_takesHour 83 = .ok (.iconst 0, 1) := dk_3 (dk_at dksX3_takesHour_3 11 rfl rfl)
theorem dX3_takesHour_84 : decode cX3_takesHour 84 = .ok (.iload 4, 2) := dk_21 4 (dk_at dksX3_takesHour_3 12 rfl rfl)
theorem dX3_takesHour_86 : decode cX3_takesHour 86 = .ok (.iload 5, 2) := dk_21 5 (dk_at dksX3_takesHour_3 14 rfl rfl)
theorem dX3_takesHour_88 : decode cX3_takesHour 88 = .ok (.iadd, 1) := dk_96 (dk_at dksX3_takesHour_3 16 rfl rfl)
theorem dX3_takesHour_89 : decode cX3_takesHour 89 = .ok (.invokevirtual 267, 3) := dk_182 1 11 (dk_at dksX3_takesHour_3 17 rfl rfl)
theorem dX3_takesHour_92 : decode cX3_takesHour 92 = .ok (.return_, 1) := dk_177 (dk_at dksX3_takesHour_3 20 rfl rfl)
abbrev cX3_takes : ByteArray := prog_15_method_30_code
def yX3_takes : MethodName := ⟨RX3, "takes", "(IIII)V"⟩
def dkwX3_takes_3 : List UInt8 := [46, 100, 54, 5, 167, 255, 191, 177]
abbrev dktX3_takes_3 : List UInt8 := dkwX3_takes_3 ++ []
def dkwX3_takes_2 : List UInt8 := [162, 0, 13, 42, 180, 0, 37, 21, 6, 46, 167, 0, 5, 21, 5, 79, 21, 5, 42, 180, 0, 40, 21, 6]
abbrev dktX3_takes_2 : List UInt8 := dkwX3_takes_2 ++ dktX3_takes_3
def dkwX3_takes_1 : List UInt8 := [180, 0, 43, 21, 6, 4, 79, 42, 180, 0, 40, 21, 6, 42, 180, 0, 37, 21, 6, 46, 21, 5]
abbrev dktX3_takes_1 : List UInt8 := dkwX3_takes_1 ++ dktX3_takes_2
def dkwX3_takes_0 : List UInt8 := [21, 4, 54, 5, 42, 182, 1, 8, 21, 5, 158, 0, 66, 42, 27, 28, 29, 182, 0, 210, 54, 6, 42]
abbrev dktX3_takes_0 : List UInt8 := dkwX3_takes_0 ++ dktX3_takes_1
theorem dksX3_takes_0 : cX3_takes.data.toList.drop 0 = dktX3_takes_0 := by decide +kernel
theorem dksX3_takes_1 : cX3_takes.data.toList.drop 23 = dktX3_takes_1 := dk_seg dksX3_takes_0 23 rfl rfl
theorem dksX3_takes_2 : cX3_takes.data.toList.drop 45 = dktX3_takes_2 := dk_seg dksX3_takes_1 22 rfl rfl
theorem dksX3_takes_3 : cX3_takes.data.toList.drop 69 = dktX3_takes_3 := dk_seg dksX3_takes_2 24 rfl rfl
theorem dX3_takes_0 : decode cX3_takes 0 = .ok (.iload 4, 2) := dk_21 4 (dk_at dksX3_takes_0 0 rfl rfl)
theorem dX3_takes_2 : decode cX3_takes 2 = .ok (.istore 5, 2) := dk_54 5 (dk_at dksX3_takes_0 2 rfl rfl)
theorem dX3_takes_4 : decode cX3_takes 4 = .ok (.aload_n 0, 1) := dk_42 (dk_at dksX3_takes_0 4 rfl rfl)
theorem dX3_takes_5 : decode cX3_takes 5 = .ok (.invokevirtual 264, 3) := dk_182 1 8 (dk_at dksX3_takes_0 5 rfl rfl)
theorem dX3_takes_8 : decode cX3_takes 8 = .ok (.iload 5, 2) := dk_21 5 (dk_at dksX3_takes_0 8 rfl rfl)
theorem dX3_takes_10 : decode cX3_takes 10 = .ok (.ifCond .le 66, 3) := dk_158 0 66 (dk_at dksX3_takes_0 10 rfl rfl)
theorem dX3_takes_13 : decode cX3_takes 13 = .ok (.aload_n 0, 1) := dk_42 (dk_at dksX3_takes_0 13 rfl rfl)
theorem dX3_takes_14 : decode cX3_takes 14 = .ok (.iload_n 1, 1) := dk_27 (dk_at dksX3_takes_0 14 rfl rfl)
theorem dX3_takes_15 : decode cX3_takes 15 = .ok (.iload_n 2, 1) := dk_28 (dk_at dksX3_takes_0 15 rfl rfl)
theorem dX3_takes_16 : decode cX3_takes 16 = .ok (.iload_n 3, 1) := dk_29 (dk_at dksX3_takes_0 16 rfl rfl)
theorem dX3_takes_17 : decode cX3_takes 17 = .ok (.invokevirtual 210, 3) := dk_182 0 210 (dk_at dksX3_takes_0 17 rfl rfl)
theorem dX3_takes_20 : decode cX3_takes 20 = .ok (.istore 6, 2) := dk_54 6 (dk_at dksX3_takes_0 20 rfl rfl)
theorem dX3_takes_22 : decode cX3_takes 22 = .ok (.aload_n 0, 1) := dk_42 (dk_at dksX3_takes_0 22 rfl rfl)
theorem dX3_takes_23 : decode cX3_takes 23 = .ok (.getfield 43, 3) := dk_180 0 43 (dk_at dksX3_takes_1 0 rfl rfl)
theorem dX3_takes_26 : decode cX3_takes 26 = .ok (.iload 6, 2) := dk_21 6 (dk_at dksX3_takes_1 3 rfl rfl)
theorem dX3_takes_28 : decode cX3_takes 28 = .ok (.iconst 1, 1) := dk_4 (dk_at dksX3_takes_1 5 rfl rfl)
theorem dX3_takes_29 : decode cX3_takes 29 = .ok (.iastore, 1) := dk_79 (dk_at dksX3_takes_1 6 rfl rfl)
theorem dX3_takes_30 : decode cX3_takes 30 = .ok (.aload_n 0, 1) := dk_42 (dk_at dksX3_takes_1 7 rfl rfl)
theorem dX3_takes_31 : decode cX3_takes 31 = .ok (.getfield 40, 3) := dk_180 0 40 (dk_at dksX3_takes_1 8 rfl rfl)
theorem dX3_takes_34 : decode cX3_takes 34 = .ok (.iload 6, 2) := dk_21 6 (dk_at dksX3_takes_1 11 rfl rfl)
theorem dX3_takes_36 : decode cX3_takes 36 = .ok (.aload_n 0, 1) := dk_42 (dk_at dksX3_takes_1 13 rfl rfl)
theorem dX3_takes_37 : decode cX3_takes 37 = .ok (.getfield 37, 3) := dk_180 0 37 (dk_at dksX3_takes_1 14 rfl rfl)
theorem dX3_takes_40 : decode cX3_takes 40 = .ok (.iload 6, 2) := dk_21 6 (dk_at dksX3_takes_1 17 rfl rfl)
theorem dX3_takes_42 : decode cX3_takes 42 = .ok (.iaload, 1) := dk_46 (dk_at dksX3_takes_1 19 rfl rfl)
theorem dX3_takes_43 : decode cX3_takes 43 = .ok (.iload 5, 2) := dk_21 5 (dk_at dksX3_takes_1 20 rfl rfl)
theorem dX3_takes_45 : decode cX3_takes 45 = .ok (.if_icmp .ge 13, 3) := dk_162 0 13 (dk_at dksX3_takes_2 0 rfl rfl)
theorem dX3_takes_48 : decode cX3_takes 48 = .ok (.aload_n 0, 1) := dk_42 (dk_at dksX3_takes_2 3 rfl rfl)
theorem dX3_takes_49 : decode cX3_takes 49 = .ok (.getfield 37, 3) := dk_180 0 37 (dk_at dksX3_takes_2 4 rfl rfl)
theorem dX3_takes_52 : decode cX3_takes 52 = .ok (.iload 6, 2) := dk_21 6 (dk_at dksX3_takes_2 7 rfl rfl)
theorem dX3_takes_54 : decode cX3_takes 54 = .ok (.iaload, 1) := dk_46 (dk_at dksX3_takes_2 9 rfl rfl)
theorem dX3_takes_55 : decode cX3_takes 55 = .ok (.goto 5, 3) := dk_167 0 5 (dk_at dksX3_takes_2 10 rfl rfl)
theorem dX3_takes_58 : decode cX3_takes 58 = .ok (.iload 5, 2) := dk_21 5 (dk_at dksX3_takes_2 13 rfl rfl)
theorem dX3_takes_60 : decode cX3_takes 60 = .ok (.iastore, 1) := dk_79 (dk_at dksX3_takes_2 15 rfl rfl)
theorem dX3_takes_61 : decode cX3_takes 61 = .ok (.iload 5, 2) := dk_21 5 (dk_at dksX3_takes_2 16 rfl rfl)
theorem dX3_takes_63 : decode cX3_takes 63 = .ok (.aload_n 0, 1) := dk_42 (dk_at dksX3_takes_2 18 rfl rfl)
theorem dX3_takes_64 : decode cX3_takes 64 = .ok (.getfield 40, 3) := dk_180 0 40 (dk_at dksX3_takes_2 19 rfl rfl)
theorem dX3_takes_67 : decode cX3_takes 67 = .ok (.iload 6, 2) := dk_21 6 (dk_at dksX3_takes_2 22 rfl rfl)
theorem dX3_takes_69 : decode cX3_takes 69 = .ok (.iaload, 1) := dk_46 (dk_at dksX3_takes_3 0 rfl rfl)
theorem dX3_takes_70 : decode cX3_takes 70 = .ok (.isub, 1) := dk_100 (dk_at dksX3_takes_3 1 rfl rfl)
theorem dX3_takes_71 : decode cX3_takes 71 = .ok (.istore 5, 2) := dk_54 5 (dk_at dksX3_takes_3 2 rfl rfl)
theorem dX3_takes_73 : decode cX3_takes 73 = .ok (.goto (-65), 3) := dk_167 255 191 (dk_at dksX3_takes_3 4 rfl rfl)
theorem dX3_takes_76 : decode cX3_takes 76 = .ok (.return_, 1) := dk_177 (dk_at dksX3_takes_3 7 rfl rfl)
abbrev cX3_trades : ByteArray := prog_15_method_31_code
def yX3_trades : MethodName := ⟨RX3, "trades", "(IIIII)V"⟩
def dkwX3_trades_2 : List UInt8 := [96, 79, 177]
abbrev dktX3_trades_2 : List UInt8 := dkwX3_trades_2 ++ []
def dkwX3_trades_1 : List UInt8 := [21, 4, 96, 79, 42, 180, 0, 142, 16, 6, 42, 180, 0, 183, 104, 27, 96, 92, 46, 21, 4, 21, 5, 104]
abbrev dktX3_trades_1 : List UInt8 := dkwX3_trades_1 ++ dktX3_trades_2
def dkwX3_trades_0 : List UInt8 := [42, 180, 0, 133, 16, 72, 42, 180, 0, 183, 104, 16, 12, 27, 104, 96, 7, 28, 104, 96, 29, 96, 92, 46]
abbrev dktX3_trades_0 : List UInt8 := dkwX3_trades_0 ++ dktX3_trades_1
theorem dksX3_trades_0 : cX3_trades.data.toList.drop 0 = dktX3_trades_0 := by decide +kernel
theorem dksX3_trades_1 : cX3_trades.data.toList.drop 24 = dktX3_trades_1 := dk_seg dksX3_trades_0 24 rfl rfl
theorem dksX3_trades_2 : cX3_trades.data.toList.drop 48 = dktX3_trades_2 := dk_seg dksX3_trades_1 24 rfl rfl
theorem dX3_trades_0 : decode cX3_trades 0 = .ok (.aload_n 0, 1) := dk_42 (dk_at dksX3_trades_0 0 rfl rfl)
theorem dX3_trades_1 : decode cX3_trades 1 = .ok (.getfield 133, 3) := dk_180 0 133 (dk_at dksX3_trades_0 1 rfl rfl)
theorem dX3_trades_4 : decode cX3_trades 4 = .ok (.bipush 72, 2) := dk_16 72 (dk_at dksX3_trades_0 4 rfl rfl)
theorem dX3_trades_6 : decode cX3_trades 6 = .ok (.aload_n 0, 1) := dk_42 (dk_at dksX3_trades_0 6 rfl rfl)
theorem dX3_trades_7 : decode cX3_trades 7 = .ok (.getfield 183, 3) := dk_180 0 183 (dk_at dksX3_trades_0 7 rfl rfl)
theorem dX3_trades_10 : decode cX3_trades 10 = .ok (.imul, 1) := dk_104 (dk_at dksX3_trades_0 10 rfl rfl)
theorem dX3_trades_11 : decode cX3_trades 11 = .ok (.bipush 12, 2) := dk_16 12 (dk_at dksX3_trades_0 11 rfl rfl)
theorem dX3_trades_13 : decode cX3_trades 13 = .ok (.iload_n 1, 1) := dk_27 (dk_at dksX3_trades_0 13 rfl rfl)
theorem dX3_trades_14 : decode cX3_trades 14 = .ok (.imul, 1) := dk_104 (dk_at dksX3_trades_0 14 rfl rfl)
theorem dX3_trades_15 : decode cX3_trades 15 = .ok (.iadd, 1) := dk_96 (dk_at dksX3_trades_0 15 rfl rfl)
theorem dX3_trades_16 : decode cX3_trades 16 = .ok (.iconst 4, 1) := dk_7 (dk_at dksX3_trades_0 16 rfl rfl)
theorem dX3_trades_17 : decode cX3_trades 17 = .ok (.iload_n 2, 1) := dk_28 (dk_at dksX3_trades_0 17 rfl rfl)
theorem dX3_trades_18 : decode cX3_trades 18 = .ok (.imul, 1) := dk_104 (dk_at dksX3_trades_0 18 rfl rfl)
theorem dX3_trades_19 : decode cX3_trades 19 = .ok (.iadd, 1) := dk_96 (dk_at dksX3_trades_0 19 rfl rfl)
theorem dX3_trades_20 : decode cX3_trades 20 = .ok (.iload_n 3, 1) := dk_29 (dk_at dksX3_trades_0 20 rfl rfl)
theorem dX3_trades_21 : decode cX3_trades 21 = .ok (.iadd, 1) := dk_96 (dk_at dksX3_trades_0 21 rfl rfl)
theorem dX3_trades_22 : decode cX3_trades 22 = .ok (.dup2, 1) := dk_92 (dk_at dksX3_trades_0 22 rfl rfl)
theorem dX3_trades_23 : decode cX3_trades 23 = .ok (.iaload, 1) := dk_46 (dk_at dksX3_trades_0 23 rfl rfl)
theorem dX3_trades_24 : decode cX3_trades 24 = .ok (.iload 4, 2) := dk_21 4 (dk_at dksX3_trades_1 0 rfl rfl)
theorem dX3_trades_26 : decode cX3_trades 26 = .ok (.iadd, 1) := dk_96 (dk_at dksX3_trades_1 2 rfl rfl)
theorem dX3_trades_27 : decode cX3_trades 27 = .ok (.iastore, 1) := dk_79 (dk_at dksX3_trades_1 3 rfl rfl)
theorem dX3_trades_28 : decode cX3_trades 28 = .ok (.aload_n 0, 1) := dk_42 (dk_at dksX3_trades_1 4 rfl rfl)
theorem dX3_trades_29 : decode cX3_trades 29 = .ok (.getfield 142, 3) := dk_180 0 142 (dk_at dksX3_trades_1 5 rfl rfl)
theorem dX3_trades_32 : decode cX3_trades 32 = .ok (.bipush 6, 2) := dk_16 6 (dk_at dksX3_trades_1 8 rfl rfl)
theorem dX3_trades_34 : decode cX3_trades 34 = .ok (.aload_n 0, 1) := dk_42 (dk_at dksX3_trades_1 10 rfl rfl)
theorem dX3_trades_35 : decode cX3_trades 35 = .ok (.getfield 183, 3) := dk_180 0 183 (dk_at dksX3_trades_1 11 rfl rfl)
theorem dX3_trades_38 : decode cX3_trades 38 = .ok (.imul, 1) := dk_104 (dk_at dksX3_trades_1 14 rfl rfl)
theorem dX3_trades_39 : decode cX3_trades 39 = .ok (.iload_n 1, 1) := dk_27 (dk_at dksX3_trades_1 15 rfl rfl)
theorem dX3_trades_40 : decode cX3_trades 40 = .ok (.iadd, 1) := dk_96 (dk_at dksX3_trades_1 16 rfl rfl)
theorem dX3_trades_41 : decode cX3_trades 41 = .ok (.dup2, 1) := dk_92 (dk_at dksX3_trades_1 17 rfl rfl)
theorem dX3_trades_42 : decode cX3_trades 42 = .ok (.iaload, 1) := dk_46 (dk_at dksX3_trades_1 18 rfl rfl)
theorem dX3_trades_43 : decode cX3_trades 43 = .ok (.iload 4, 2) := dk_21 4 (dk_at dksX3_trades_1 19 rfl rfl)
theorem dX3_trades_45 : decode cX3_trades 45 = .ok (.iload 5, 2) := dk_21 5 (dk_at dksX3_trades_1 21 rfl rfl)
theorem dX3_trades_47 : decode cX3_trades 47 = .ok (.imul, 1) := dk_104 (dk_at dksX3_trades_1 23 rfl rfl)
theorem dX3_trades_48 : decode cX3_trades 48 = .ok (.iadd, 1) := dk_96 (dk_at dksX3_trades_2 0 rfl rfl)
theorem dX3_trades_49 : decode cX3_trades 49 = .ok (.iastore, 1) := dk_79 (dk_at dksX3_trades_2 1 rfl rfl)
theorem dX3_trades_50 : decode cX3_trades 50 = .ok (.return_, 1) := dk_177 (dk_at dksX3_trades_2 2 rfl rfl)
abbrev cX3_givesRights : ByteArray := prog_15_method_32_code
def yX3_givesRights : MethodName := ⟨RX3, "givesRights", "(II)V"⟩
def dkwX3_givesRights_14 : List UInt8 := [100, 104, 96, 79, 132, 7, 1, 167, 255, 177, 177]
abbrev dktX3_givesRights_14 : List UInt8 := dkwX3_givesRights_14 ++ []
def dkwX3_givesRights_13 : List UInt8 := [46, 96, 92, 46, 42, 180, 0, 85, 21, 7, 46, 21, 6, 21, 4, 158, 0, 8, 21, 5, 167, 0, 4, 3]
abbrev dktX3_givesRights_13 : List UInt8 := dkwX3_givesRights_13 ++ dktX3_givesRights_14
def dkwX3_givesRights_12 : List UInt8 := [21, 7, 46, 28, 160, 0, 48, 42, 180, 0, 142, 16, 6, 42, 180, 0, 183, 104, 42, 180, 0, 70, 21, 7]
abbrev dktX3_givesRights_12 : List UInt8 := dkwX3_givesRights_12 ++ dktX3_givesRights_13
def dkwX3_givesRights_11 : List UInt8 := [21, 7, 42, 180, 0, 207, 162, 0, 76, 42, 180, 0, 73, 21, 7, 46, 27, 160, 0, 59, 42, 180, 0, 76]
abbrev dktX3_givesRights_11 : List UInt8 := dkwX3_givesRights_11 ++ dktX3_givesRights_12
def dkwX3_givesRights_10 : List UInt8 := [21, 7, 167, 0, 5, 21, 5, 54, 5, 132, 8, 1, 167, 255, 132, 132, 7, 255, 167, 255, 118, 3, 54, 7]
abbrev dktX3_givesRights_10 : List UInt8 := dkwX3_givesRights_10 ++ dktX3_givesRights_11
def dkwX3_givesRights_9 : List UInt8 := [21, 8, 46, 42, 180, 0, 85, 21, 8, 46, 100, 96, 54, 4, 42, 180, 0, 85, 21, 8, 46, 158, 0, 8]
abbrev dktX3_givesRights_9 : List UInt8 := dkwX3_givesRights_9 ++ dktX3_givesRights_10
def dkwX3_givesRights_8 : List UInt8 := [21, 8, 46, 167, 0, 4, 29, 79, 29, 42, 180, 0, 85, 21, 8, 46, 100, 62, 21, 4, 42, 180, 0, 79]
abbrev dktX3_givesRights_8 : List UInt8 := dkwX3_givesRights_8 ++ dktX3_givesRights_9
def dkwX3_givesRights_7 : List UInt8 := [160, 0, 81, 42, 180, 0, 85, 21, 8, 42, 180, 0, 79, 21, 8, 46, 29, 162, 0, 13, 42, 180, 0, 79]
abbrev dktX3_givesRights_7 : List UInt8 := dkwX3_givesRights_7 ++ dktX3_givesRights_8
def dkwX3_givesRights_6 : List UInt8 := [27, 160, 0, 104, 42, 180, 0, 76, 21, 8, 46, 28, 160, 0, 93, 42, 180, 0, 82, 21, 8, 46, 21, 7]
abbrev dktX3_givesRights_6 : List UInt8 := dkwX3_givesRights_6 ++ dktX3_givesRights_7
def dkwX3_givesRights_5 : List UInt8 := [21, 7, 155, 0, 139, 3, 54, 8, 21, 8, 42, 180, 0, 207, 162, 0, 121, 42, 180, 0, 73, 21, 8, 46]
abbrev dktX3_givesRights_5 : List UInt8 := dkwX3_givesRights_5 ++ dktX3_givesRights_6
def dkwX3_givesRights_4 : List UInt8 := [158, 0, 8, 21, 8, 167, 0, 4, 3, 96, 54, 6, 132, 7, 1, 167, 255, 190, 17, 1, 244, 54, 7]
abbrev dktX3_givesRights_4 : List UInt8 := dkwX3_givesRights_4 ++ dktX3_givesRights_5
def dkwX3_givesRights_3 : List UInt8 := [16, 12, 42, 180, 0, 183, 104, 7, 27, 104, 96, 21, 7, 96, 46, 100, 54, 8, 21, 6, 21, 8]
abbrev dktX3_givesRights_3 : List UInt8 := dkwX3_givesRights_3 ++ dktX3_givesRights_4
def dkwX3_givesRights_2 : List UInt8 := [42, 180, 0, 130, 16, 12, 42, 180, 0, 183, 104, 7, 28, 104, 96, 21, 7, 96, 46, 42, 180, 0, 130]
abbrev dktX3_givesRights_2 : List UInt8 := dkwX3_givesRights_2 ++ dktX3_givesRights_3
def dkwX3_givesRights_1 : List UInt8 := [167, 0, 4, 5, 46, 62, 3, 54, 4, 3, 54, 5, 3, 54, 6, 3, 54, 7, 21, 7, 7, 162, 0, 66]
abbrev dktX3_givesRights_1 : List UInt8 := dkwX3_givesRights_1 ++ dktX3_givesRights_2
def dkwX3_givesRights_0 : List UInt8 := [42, 180, 0, 7, 27, 28, 96, 4, 160, 0, 7, 3, 167, 0, 15, 27, 28, 96, 6, 160, 0, 7, 4]
abbrev dktX3_givesRights_0 : List UInt8 := dkwX3_givesRights_0 ++ dktX3_givesRights_1
theorem dksX3_givesRights_0 : cX3_givesRights.data.toList.drop 0 = dktX3_givesRights_0 := by decide +kernel
theorem dksX3_givesRights_1 : cX3_givesRights.data.toList.drop 23 = dktX3_givesRights_1 := dk_seg dksX3_givesRights_0 23 rfl rfl
theorem dksX3_givesRights_2 : cX3_givesRights.data.toList.drop 47 = dktX3_givesRights_2 := dk_seg dksX3_givesRights_1 24 rfl rfl
theorem dksX3_givesRights_3 : cX3_givesRights.data.toList.drop 70 = dktX3_givesRights_3 := dk_seg dksX3_givesRights_2 23 rfl rfl
theorem dksX3_givesRights_4 : cX3_givesRights.data.toList.drop 92 = dktX3_givesRights_4 := dk_seg dksX3_givesRights_3 22 rfl rfl
theorem dksX3_givesRights_5 : cX3_givesRights.data.toList.drop 115 = dktX3_givesRights_5 := dk_seg dksX3_givesRights_4 23 rfl rfl
theorem dksX3_givesRights_6 : cX3_givesRights.data.toList.drop 139 = dktX3_givesRights_6 := dk_seg dksX3_givesRights_5 24 rfl rfl
theorem dksX3_givesRights_7 : cX3_givesRights.data.toList.drop 163 = dktX3_givesRights_7 := dk_seg dksX3_givesRights_6 24 rfl rfl
theorem dksX3_givesRights_8 : cX3_givesRights.data.toList.drop 187 = dktX3_givesRights_8 := dk_seg dksX3_givesRights_7 24 rfl rfl
theorem dksX3_givesRights_9 : cX3_givesRights.data.toList.drop 211 = dktX3_givesRights_9 := dk_seg dksX3_givesRights_8 24 rfl rfl
theorem dksX3_givesRights_10 : cX3_givesRights.data.toList.drop 235 = dktX3_givesRights_10 := dk_seg dksX3_givesRights_9 24 rfl rfl
theorem dksX3_givesRights_11 : cX3_givesRights.data.toList.drop 259 = dktX3_givesRights_11 := dk_seg dksX3_givesRights_10 24 rfl rfl
theorem dksX3_givesRights_12 : cX3_givesRights.data.toList.drop 283 = dktX3_givesRights_12 := dk_seg dksX3_givesRights_11 24 rfl rfl
theorem dksX3_givesRights_13 : cX3_givesRights.data.toList.drop 307 = dktX3_givesRights_13 := dk_seg dksX3_givesRights_12 24 rfl rfl
theorem dksX3_givesRights_14 : cX3_givesRights.data.toList.drop 331 = dktX3_givesRights_14 := dk_seg dksX3_givesRights_13 24 rfl rfl
theorem dX3_givesRights_0 : decode cX3_givesRights 0 = .ok (.aload_n 0, 1) := dk_42 (dk_at dksX3_givesRights_0 0 rfl rfl)
theorem dX3_givesRights_1 : decode cX3_givesRights 1 = .ok (.getfield 7, 3) := dk_180 0 7 (dk_at dksX3_givesRights_0 1 rfl rfl)
theorem dX3_givesRights_4 : decode cX3_givesRights 4 = .ok (.iload_n 1, 1) := dk_27 (dk_at dksX3_givesRights_0 4 rfl rfl)
theorem dX3_givesRights_5 : decode cX3_givesRights 5 = .ok (.iload_n 2, 1) := dk_28 (dk_at dksX3_givesRights_0 5 rfl rfl)
theorem dX3_givesRights_6 : decode cX3_givesRights 6 = .ok (.iadd, 1) := dk_96 (dk_at dksX3_givesRights_0 6 rfl rfl)
theorem dX3_givesRights_7 : decode cX3_givesRights 7 = .ok (.iconst 1, 1) := dk_4 (dk_at dksX3_givesRights_0 7 rfl rfl)
theorem dX3_givesRights_8 : decode cX3_givesRights 8 = .ok (.if_icmp .ne 7, 3) := dk_160 0 7 (dk_at dksX3_givesRights_0 8 rfl rfl)
theorem dX3_givesRights_11 : decode cX3_givesRights 11 = .ok (.iconst 0, 1) := dk_3 (dk_at dksX3_givesRights_0 11 rfl rfl)
theorem dX3_givesRights_12 : decode cX3_givesRights 12 = .ok (.goto 15, 3) := dk_167 0 15 (dk_at dksX3_givesRights_0 12 rfl rfl)
theorem dX3_givesRights_15 : decode cX3_givesRights 15 = .ok (.iload_n 1, 1) := dk_27 (dk_at dksX3_givesRights_0 15 rfl rfl)
theorem dX3_givesRights_16 : decode cX3_givesRights 16 = .ok (.iload_n 2, 1) := dk_28 (dk_at dksX3_givesRights_0 16 rfl rfl)
theorem dX3_givesRights_17 : decode cX3_givesRights 17 = .ok (.iadd, 1) := dk_96 (dk_at dksX3_givesRights_0 17 rfl rfl)
theorem dX3_givesRights_18 : decode cX3_givesRights 18 = .ok (.iconst 3, 1) := dk_6 (dk_at dksX3_givesRights_0 18 rfl rfl)
theorem dX3_givesRights_19 : decode cX3_givesRights 19 = .ok (.if_icmp .ne 7, 3) := dk_160 0 7 (dk_at dksX3_givesRights_0 19 rfl rfl)
theorem dX3_givesRights_22 : decode cX3_givesRights 22 = .ok (.iconst 1, 1) := dk_4 (dk_at dksX3_givesRights_0 22 rfl rfl)
theorem dX3_givesRights_23 : decode cX3_givesRights 23 = .ok (.goto 4, 3) := dk_167 0 4 (dk_at dksX3_givesRights_1 0 rfl rfl)
theorem dX3_givesRights_26 : decode cX3_givesRights 26 = .ok (.iconst 2, 1) := dk_5 (dk_at dksX3_givesRights_1 3 rfl rfl)
theorem dX3_givesRights_27 : decode cX3_givesRights 27 = .ok (.iaload, 1) := dk_46 (dk_at dksX3_givesRights_1 4 rfl rfl)
theorem dX3_givesRights_28 : decode cX3_givesRights 28 = .ok (.istore_n 3, 1) := dk_62 (dk_at dksX3_givesRights_1 5 rfl rfl)
theorem dX3_givesRights_29 : decode cX3_givesRights 29 = .ok (.iconst 0, 1) := dk_3 (dk_at dksX3_givesRights_1 6 rfl rfl)
theorem dX3_givesRights_30 : decode cX3_givesRights 30 = .ok (.istore 4, 2) := dk_54 4 (dk_at dksX3_givesRights_1 7 rfl rfl)
theorem dX3_givesRights_32 : decode cX3_givesRights 32 = .ok (.iconst 0, 1) := dk_3 (dk_at dksX3_givesRights_1 9 rfl rfl)
theorem dX3_givesRights_33 : decode cX3_givesRights 33 = .ok (.istore 5, 2) := dk_54 5 (dk_at dksX3_givesRights_1 10 rfl rfl)
theorem dX3_givesRights_35 : decode cX3_givesRights 35 = .ok (.iconst 0, 1) := dk_3 (dk_at dksX3_givesRights_1 12 rfl rfl)
theorem dX3_givesRights_36 : decode cX3_givesRights 36 = .ok (.istore 6, 2) := dk_54 6 (dk_at dksX3_givesRights_1 13 rfl rfl)
theorem dX3_givesRights_38 : decode cX3_givesRights 38 = .ok (.iconst 0, 1) := dk_3 (dk_at dksX3_givesRights_1 15 rfl rfl)
theorem dX3_givesRights_39 : decode cX3_givesRights 39 = .ok (.istore 7, 2) := dk_54 7 (dk_at dksX3_givesRights_1 16 rfl rfl)
theorem dX3_givesRights_41 : decode cX3_givesRights 41 = .ok (.iload 7, 2) := dk_21 7 (dk_at dksX3_givesRights_1 18 rfl rfl)
theorem dX3_givesRights_43 : decode cX3_givesRights 43 = .ok (.iconst 4, 1) := dk_7 (dk_at dksX3_givesRights_1 20 rfl rfl)
theorem dX3_givesRights_44 : decode cX3_givesRights 44 = .ok (.if_icmp .ge 66, 3) := dk_162 0 66 (dk_at dksX3_givesRights_1 21 rfl rfl)
theorem dX3_givesRights_47 : decode cX3_givesRights 47 = .ok (.aload_n 0, 1) := dk_42 (dk_at dksX3_givesRights_2 0 rfl rfl)
theorem dX3_givesRights_48 : decode cX3_givesRights 48 = .ok (.getfield 130, 3) := dk_180 0 130 (dk_at dksX3_givesRights_2 1 rfl rfl)
theorem dX3_givesRights_51 : decode cX3_givesRights 51 = .ok (.bipush 12, 2) := dk_16 12 (dk_at dksX3_givesRights_2 4 rfl rfl)
theorem dX3_givesRights_53 : decode cX3_givesRights 53 = .ok (.aload_n 0, 1) := dk_42 (dk_at dksX3_givesRights_2 6 rfl rfl)
theorem dX3_givesRights_54 : decode cX3_givesRights 54 = .ok (.getfield 183, 3) := dk_180 0 183 (dk_at dksX3_givesRights_2 7 rfl rfl)
theorem dX3_givesRights_57 : decode cX3_givesRights 57 = .ok (.imul, 1) := dk_104 (dk_at dksX3_givesRights_2 10 rfl rfl)
theorem dX3_givesRights_58 : decode cX3_givesRights 58 = .ok (.iconst 4, 1) := dk_7 (dk_at dksX3_givesRights_2 11 rfl rfl)
theorem dX3_givesRights_59 : decode cX3_givesRights 59 = .ok (.iload_n 2, 1) := dk_28 (dk_at dksX3_givesRights_2 12 rfl rfl)
theorem dX3_givesRights_60 : decode cX3_givesRights 60 = .ok (.imul, 1) := dk_104 (dk_at dksX3_givesRights_2 13 rfl rfl)
theorem dX3_givesRights_61 : decode cX3_givesRights 61 = .ok (.iadd, 1) := dk_96 (dk_at dksX3_givesRights_2 14 rfl rfl)
theorem dX3_givesRights_62 : decode cX3_givesRights 62 = .ok (.iload 7, 2) := dk_21 7 (dk_at dksX3_givesRights_2 15 rfl rfl)
theorem dX3_givesRights_64 : decode cX3_givesRights 64 = .ok (.iadd, 1) := dk_96 (dk_at dksX3_givesRights_2 17 rfl rfl)
theorem dX3_givesRights_65 : decode cX3_givesRights 65 = .ok (.iaload, 1) := dk_46 (dk_at dksX3_givesRights_2 18 rfl rfl)
theorem dX3_givesRights_66 : decode cX3_givesRights 66 = .ok (.aload_n 0, 1) := dk_42 (dk_at dksX3_givesRights_2 19 rfl rfl)
theorem dX3_givesRights_67 : decode cX3_givesRights 67 = .ok (.getfield 130, 3) := dk_180 0 130 (dk_at dksX3_givesRights_2 20 rfl rfl)
theorem dX3_givesRights_70 : decode cX3_givesRights 70 = .ok (.bipush 12, 2) := dk_16 12 (dk_at dksX3_givesRights_3 0 rfl rfl)
theorem dX3_givesRights_72 : decode cX3_givesRights 72 = .ok (.aload_n 0, 1) := dk_42 (dk_at dksX3_givesRights_3 2 rfl rfl)
theorem dX3_givesRights_73 : decode cX3_givesRights 73 = .ok (.getfield 183, 3) := dk_180 0 183 (dk_at dksX3_givesRights_3 3 rfl rfl)
theorem dX3_givesRights_76 : decode cX3_givesRights 76 = .ok (.imul, 1) := dk_104 (dk_at dksX3_givesRights_3 6 rfl rfl)
theorem dX3_givesRights_77 : decode cX3_givesRights 77 = .ok (.iconst 4, 1) := dk_7 (dk_at dksX3_givesRights_3 7 rfl rfl)
theorem dX3_givesRights_78 : decode cX3_givesRights 78 = .ok (.iload_n 1, 1) := dk_27 (dk_at dksX3_givesRights_3 8 rfl rfl)
theorem dX3_givesRights_79 : decode cX3_givesRights 79 = .ok (.imul, 1) := dk_104 (dk_at dksX3_givesRights_3 9 rfl rfl)
theorem dX3_givesRights_80 : decode cX3_givesRights 80 = .ok (.iadd, 1) := dk_96 (dk_at dksX3_givesRights_3 10 rfl rfl)
theorem dX3_givesRights_81 : decode cX3_givesRights 81 = .ok (.iload 7, 2) := dk_21 7 (dk_at dksX3_givesRights_3 11 rfl rfl)
theorem dX3_givesRights_83 : decode cX3_givesRights 83 = .ok (.iadd, 1) := dk_96 (dk_at dksX3_givesRights_3 13 rfl rfl)
theorem dX3_givesRights_84 : decode cX3_givesRights 84 = .ok (.iaload, 1) := dk_46 (dk_at dksX3_givesRights_3 14 rfl rfl)
theorem dX3_givesRights_85 : decode cX3_givesRights 85 = .ok (.isub, 1) := dk_100 (dk_at dksX3_givesRights_3 15 rfl rfl)
theorem dX3_givesRights_86 : decode cX3_givesRights 86 = .ok (.istore 8, 2) := dk_54 8 (dk_at dksX3_givesRights_3 16 rfl rfl)
theorem dX3_givesRights_88 : decode cX3_givesRights 88 = .ok (.iload 6, 2) := dk_21 6 (dk_at dksX3_givesRights_3 18 rfl rfl)
theorem dX3_givesRights_90 : decode cX3_givesRights 90 = .ok (.iload 8, 2) := dk_21 8 (dk_at dksX3_givesRights_3 20 rfl rfl)
theorem dX3_givesRights_92 : decode cX3_givesRights 92 = .ok (.ifCond .le 8, 3) := dk_158 0 8 (dk_at dksX3_givesRights_4 0 rfl rfl)
theorem dX3_givesRights_95 : decode cX3_givesRights 95 = .ok (.iload 8, 2) := dk_21 8 (dk_at dksX3_givesRights_4 3 rfl rfl)
theorem dX3_givesRights_97 : decode cX3_givesRights 97 = .ok (.goto 4, 3) := dk_167 0 4 (dk_at dksX3_givesRights_4 5 rfl rfl)
theorem dX3_givesRights_100 : decode cX3_givesRights 100 = .ok (.iconst 0, 1) := dk_3 (dk_at dksX3_givesRights_4 8 rfl rfl)
theorem dX3_givesRights_101 : decode cX3_givesRights 101 = .ok (.iadd, 1) := dk_96 (dk_at dksX3_givesRights_4 9 rfl rfl)
theorem dX3_givesRights_102 : decode cX3_givesRights 102 = .ok (.istore 6, 2) := dk_54 6 (dk_at dksX3_givesRights_4 10 rfl rfl)
theorem dX3_givesRights_104 : decode cX3_givesRights 104 = .ok (.iinc 7 1, 3) := dk_132 7 1 (dk_at dksX3_givesRights_4 12 rfl rfl)
theorem dX3_givesRights_107 : decode cX3_givesRights 107 = .ok (.goto (-66), 3) := dk_167 255 190 (dk_at dksX3_givesRights_4 15 rfl rfl)
theorem dX3_givesRights_110 : decode cX3_givesRights 110 = .ok (.sipush 500, 3) := dk_17 1 244 (dk_at dksX3_givesRights_4 18 rfl rfl)
theorem dX3_givesRights_113 : decode cX3_givesRights 113 = .ok (.istore 7, 2) := dk_54 7 (dk_at dksX3_givesRights_4 21 rfl rfl)
theorem dX3_givesRights_115 : decode cX3_givesRights 115 = .ok (.iload 7, 2) := dk_21 7 (dk_at dksX3_givesRights_5 0 rfl rfl)
theorem dX3_givesRights_117 : decode cX3_givesRights 117 = .ok (.ifCond .lt 139, 3) := dk_155 0 139 (dk_at dksX3_givesRights_5 2 rfl rfl)
theorem dX3_givesRights_120 : decode cX3_givesRights 120 = .ok (.iconst 0, 1) := dk_3 (dk_at dksX3_givesRights_5 5 rfl rfl)
theorem dX3_givesRights_121 : decode cX3_givesRights 121 = .ok (.istore 8, 2) := dk_54 8 (dk_at dksX3_givesRights_5 6 rfl rfl)
theorem dX3_givesRights_123 : decode cX3_givesRights 123 = .ok (.iload 8, 2) := dk_21 8 (dk_at dksX3_givesRights_5 8 rfl rfl)
theorem dX3_givesRights_125 : decode cX3_givesRights 125 = .ok (.aload_n 0, 1) := dk_42 (dk_at dksX3_givesRights_5 10 rfl rfl)
theorem dX3_givesRights_126 : decode cX3_givesRights 126 = .ok (.getfield 207, 3) := dk_180 0 207 (dk_at dksX3_givesRights_5 11 rfl rfl)
theorem dX3_givesRights_129 : decode cX3_givesRights 129 = .ok (.if_icmp .ge 121, 3) := dk_162 0 121 (dk_at dksX3_givesRights_5 14 rfl rfl)
theorem dX3_givesRights_132 : decode cX3_givesRights 132 = .ok (.aload_n 0, 1) := dk_42 (dk_at dksX3_givesRights_5 17 rfl rfl)
theorem dX3_givesRights_133 : decode cX3_givesRights 133 = .ok (.getfield 73, 3) := dk_180 0 73 (dk_at dksX3_givesRights_5 18 rfl rfl)
theorem dX3_givesRights_136 : decode cX3_givesRights 136 = .ok (.iload 8, 2) := dk_21 8 (dk_at dksX3_givesRights_5 21 rfl rfl)
theorem dX3_givesRights_138 : decode cX3_givesRights 138 = .ok (.iaload, 1) := dk_46 (dk_at dksX3_givesRights_5 23 rfl rfl)
theorem dX3_givesRights_139 : decode cX3_givesRights 139 = .ok (.iload_n 1, 1) := dk_27 (dk_at dksX3_givesRights_6 0 rfl rfl)
theorem dX3_givesRights_140 : decode cX3_givesRights 140 = .ok (.if_icmp .ne 104, 3) := dk_160 0 104 (dk_at dksX3_givesRights_6 1 rfl rfl)
theorem dX3_givesRights_143 : decode cX3_givesRights 143 = .ok (.aload_n 0, 1) := dk_42 (dk_at dksX3_givesRights_6 4 rfl rfl)
theorem dX3_givesRights_144 : decode cX3_givesRights 144 = .ok (.getfield 76, 3) := dk_180 0 76 (dk_at dksX3_givesRights_6 5 rfl rfl)
theorem dX3_givesRights_147 : decode cX3_givesRights 147 = .ok (.iload 8, 2) := dk_21 8 (dk_at dksX3_givesRights_6 8 rfl rfl)
theorem dX3_givesRights_149 : decode cX3_givesRights 149 = .ok (.iaload, 1) := dk_46 (dk_at dksX3_givesRights_6 10 rfl rfl)
theorem dX3_givesRights_150 : decode cX3_givesRights 150 = .ok (.iload_n 2, 1) := dk_28 (dk_at dksX3_givesRights_6 11 rfl rfl)
theorem dX3_givesRights_151 : decode cX3_givesRights 151 = .ok (.if_icmp .ne 93, 3) := dk_160 0 93 (dk_at dksX3_givesRights_6 12 rfl rfl)
theorem dX3_givesRights_154 : decode cX3_givesRights 154 = .ok (.aload_n 0, 1) := dk_42 (dk_at dksX3_givesRights_6 15 rfl rfl)
theorem dX3_givesRights_155 : decode cX3_givesRights 155 = .ok (.getfield 82, 3) := dk_180 0 82 (dk_at dksX3_givesRights_6 16 rfl rfl)
theorem dX3_givesRights_158 : decode cX3_givesRights 158 = .ok (.iload 8, 2) := dk_21 8 (dk_at dksX3_givesRights_6 19 rfl rfl)
theorem dX3_givesRights_160 : decode cX3_givesRights 160 = .ok (.iaload, 1) := dk_46 (dk_at dksX3_givesRights_6 21 rfl rfl)
theorem dX3_givesRights_161 : decode cX3_givesRights 161 = .ok (.iload 7, 2) := dk_21 7 (dk_at dksX3_givesRights_6 22 rfl rfl)
theorem dX3_givesRights_163 : decode cX3_givesRights 163 = .ok (.if_icmp .ne 81, 3) := dk_160 0 81 (dk_at dksX3_givesRights_7 0 rfl rfl)
theorem dX3_givesRights_166 : decode cX3_givesRights 166 = .ok (.aload_n 0, 1) := dk_42 (dk_at dksX3_givesRights_7 3 rfl rfl)
theorem dX3_givesRights_167 : decode cX3_givesRights 167 = .ok (.getfield 85, 3) := dk_180 0 85 (dk_at dksX3_givesRights_7 4 rfl rfl)
theorem dX3_givesRights_170 : decode cX3_givesRights 170 = .ok (.iload 8, 2) := dk_21 8 (dk_at dksX3_givesRights_7 7 rfl rfl)
theorem dX3_givesRights_172 : decode cX3_givesRights 172 = .ok (.aload_n 0, 1) := dk_42 (dk_at dksX3_givesRights_7 9 rfl rfl)
theorem dX3_givesRights_173 : decode cX3_givesRights 173 = .ok (.getfield 79, 3) := dk_180 0 79 (dk_at dksX3_givesRights_7 10 rfl rfl)
theorem dX3_givesRights_176 : decode cX3_givesRights 176 = .ok (.iload 8, 2) := dk_21 8 (dk_at dksX3_givesRights_7 13 rfl rfl)
theorem dX3_givesRights_178 : decode cX3_givesRights 178 = .ok (.iaload, 1) := dk_46 (dk_at dksX3_givesRights_7 15 rfl rfl)
theorem dX3_givesRights_179 : decode cX3_givesRights 179 = .ok (.iload_n 3, 1) := dk_29 (dk_at dksX3_givesRights_7 16 rfl rfl)
theorem dX3_givesRights_180 : decode cX3_givesRights 180 = .ok (.if_icmp .ge 13, 3) := dk_162 0 13 (dk_at dksX3_givesRights_7 17 rfl rfl)
theorem dX3_givesRights_183 : decode cX3_givesRights 183 = .ok (.aload_n 0, 1) := dk_42 (dk_at dksX3_givesRights_7 20 rfl rfl)
theorem dX3_givesRights_184 : decode cX3_givesRights 184 = .ok (.getfield 79, 3) := dk_180 0 79 (dk_at dksX3_givesRights_7 21 rfl rfl)
theorem dX3_givesRights_187 : decode cX3_givesRights 187 = .ok (.iload 8, 2) := dk_21 8 (dk_at dksX3_givesRights_8 0 rfl rfl)
theorem dX3_givesRights_189 : decode cX3_givesRights 189 = .ok (.iaload, 1) := dk_46 (dk_at dksX3_givesRights_8 2 rfl rfl)
theorem dX3_givesRights_190 : decode cX3_givesRights 190 = .ok (.goto 4, 3) := dk_167 0 4 (dk_at dksX3_givesRights_8 3 rfl rfl)
theorem dX3_givesRights_193 : decode cX3_givesRights 193 = .ok (.iload_n 3, 1) := dk_29 (dk_at dksX3_givesRights_8 6 rfl rfl)
theorem dX3_givesRights_194 : decode cX3_givesRights 194 = .ok (.iastore, 1) := dk_79 (dk_at dksX3_givesRights_8 7 rfl rfl)
theorem dX3_givesRights_195 : decode cX3_givesRights 195 = .ok (.iload_n 3, 1) := dk_29 (dk_at dksX3_givesRights_8 8 rfl rfl)
theorem dX3_givesRights_196 : decode cX3_givesRights 196 = .ok (.aload_n 0, 1) := dk_42 (dk_at dksX3_givesRights_8 9 rfl rfl)
theorem dX3_givesRights_197 : decode cX3_givesRights 197 = .ok (.getfield 85, 3) := dk_180 0 85 (dk_at dksX3_givesRights_8 10 rfl rfl)
theorem dX3_givesRights_200 : decode cX3_givesRights 200 = .ok (.iload 8, 2) := dk_21 8 (dk_at dksX3_givesRights_8 13 rfl rfl)
theorem dX3_givesRights_202 : decode cX3_givesRights 202 = .ok (.iaload, 1) := dk_46 (dk_at dksX3_givesRights_8 15 rfl rfl)
theorem dX3_givesRights_203 : decode cX3_givesRights 203 = .ok (.isub, 1) := dk_100 (dk_at dksX3_givesRights_8 16 rfl rfl)
theorem dX3_givesRights_204 : decode cX3_givesRights 204 = .ok (.istore_n 3, 1) := dk_62 (dk_at dksX3_givesRights_8 17 rfl rfl)
theorem dX3_givesRights_205 : decode cX3_givesRights 205 = .ok (.iload 4, 2) := dk_21 4 (dk_at dksX3_givesRights_8 18 rfl rfl)
theorem dX3_givesRights_207 : decode cX3_givesRights 207 = .ok (.aload_n 0, 1) := dk_42 (dk_at dksX3_givesRights_8 20 rfl rfl)
theorem dX3_givesRights_208 : decode cX3_givesRights 208 = .ok (.getfield 79, 3) := dk_180 0 79 (dk_at dksX3_givesRights_8 21 rfl rfl)
theorem dX3_givesRights_211 : decode cX3_givesRights 211 = .ok (.iload 8, 2) := dk_21 8 (dk_at dksX3_givesRights_9 0 rfl rfl)
theorem dX3_givesRights_213 : decode cX3_givesRights 213 = .ok (.iaload, 1) := dk_46 (dk_at dksX3_givesRights_9 2 rfl rfl)
theorem dX3_givesRights_214 : decode cX3_givesRights 214 = .ok (.aload_n 0, 1) := dk_42 (dk_at dksX3_givesRights_9 3 rfl rfl)
theorem dX3_givesRights_215 : decode cX3_givesRights 215 = .ok (.getfield 85, 3) := dk_180 0 85 (dk_at dksX3_givesRights_9 4 rfl rfl)
theorem dX3_givesRights_218 : decode cX3_givesRights 218 = .ok (.iload 8, 2) := dk_21 8 (dk_at dksX3_givesRights_9 7 rfl rfl)
theorem dX3_givesRights_220 : decode cX3_givesRights 220 = .ok (.iaload, 1) := dk_46 (dk_at dksX3_givesRights_9 9 rfl rfl)
theorem dX3_givesRights_221 : decode cX3_givesRights 221 = .ok (.isub, 1) := dk_100 (dk_at dksX3_givesRights_9 10 rfl rfl)
theorem dX3_givesRights_222 : decode cX3_givesRights 222 = .ok (.iadd, 1) := dk_96 (dk_at dksX3_givesRights_9 11 rfl rfl)
theorem dX3_givesRights_223 : decode cX3_givesRights 223 = .ok (.istore 4, 2) := dk_54 4 (dk_at dksX3_givesRights_9 12 rfl rfl)
theorem dX3_givesRights_225 : decode cX3_givesRights 225 = .ok (.aload_n 0, 1) := dk_42 (dk_at dksX3_givesRights_9 14 rfl rfl)
theorem dX3_givesRights_226 : decode cX3_givesRights 226 = .ok (.getfield 85, 3) := dk_180 0 85 (dk_at dksX3_givesRights_9 15 rfl rfl)
theorem dX3_givesRights_229 : decode cX3_givesRights 229 = .ok (.iload 8, 2) := dk_21 8 (dk_at dksX3_givesRights_9 18 rfl rfl)
theorem dX3_givesRights_231 : decode cX3_givesRights 231 = .ok (.iaload, 1) := dk_46 (dk_at dksX3_givesRights_9 20 rfl rfl)
theorem dX3_givesRights_232 : decode cX3_givesRights 232 = .ok (.ifCond .le 8, 3) := dk_158 0 8 (dk_at dksX3_givesRights_9 21 rfl rfl)
theorem dX3_givesRights_235 : decode cX3_givesRights 235 = .ok (.iload 7, 2) := dk_21 7 (dk_at dksX3_givesRights_10 0 rfl rfl)
theorem dX3_givesRights_237 : decode cX3_givesRights 237 = .ok (.goto 5, 3) := dk_167 0 5 (dk_at dksX3_givesRights_10 2 rfl rfl)
theorem dX3_givesRights_240 : decode cX3_givesRights 240 = .ok (.iload 5, 2) := dk_21 5 (dk_at dksX3_givesRights_10 5 rfl rfl)
theorem dX3_givesRights_242 : decode cX3_givesRights 242 = .ok (.istore 5, 2) := dk_54 5 (dk_at dksX3_givesRights_10 7 rfl rfl)
theorem dX3_givesRights_244 : decode cX3_givesRights 244 = .ok (.iinc 8 1, 3) := dk_132 8 1 (dk_at dksX3_givesRights_10 9 rfl rfl)
theorem dX3_givesRights_247 : decode cX3_givesRights 247 = .ok (.goto (-124), 3) := dk_167 255 132 (dk_at dksX3_givesRights_10 12 rfl rfl)
theorem dX3_givesRights_250 : decode cX3_givesRights 250 = .ok (.iinc 7 (-1), 3) := dk_132 7 255 (dk_at dksX3_givesRights_10 15 rfl rfl)
theorem dX3_givesRights_253 : decode cX3_givesRights 253 = .ok (.goto (-138), 3) := dk_167 255 118 (dk_at dksX3_givesRights_10 18 rfl rfl)
theorem dX3_givesRights_256 : decode cX3_givesRights 256 = .ok (.iconst 0, 1) := dk_3 (dk_at dksX3_givesRights_10 21 rfl rfl)
theorem dX3_givesRights_257 : decode cX3_givesRights 257 = .ok (.istore 7, 2) := dk_54 7 (dk_at dksX3_givesRights_10 22 rfl rfl)
theorem dX3_givesRights_259 : decode cX3_givesRights 259 = .ok (.iload 7, 2) := dk_21 7 (dk_at dksX3_givesRights_11 0 rfl rfl)
theorem dX3_givesRights_261 : decode cX3_givesRights 261 = .ok (.aload_n 0, 1) := dk_42 (dk_at dksX3_givesRights_11 2 rfl rfl)
theorem dX3_givesRights_262 : decode cX3_givesRights 262 = .ok (.getfield 207, 3) := dk_180 0 207 (dk_at dksX3_givesRights_11 3 rfl rfl)
theorem dX3_givesRights_265 : decode cX3_givesRights 265 = .ok (.if_icmp .ge 76, 3) := dk_162 0 76 (dk_at dksX3_givesRights_11 6 rfl rfl)
theorem dX3_givesRights_268 : decode cX3_givesRights 268 = .ok (.aload_n 0, 1) := dk_42 (dk_at dksX3_givesRights_11 9 rfl rfl)
theorem dX3_givesRights_269 : decode cX3_givesRights 269 = .ok (.getfield 73, 3) := dk_180 0 73 (dk_at dksX3_givesRights_11 10 rfl rfl)
theorem dX3_givesRights_272 : decode cX3_givesRights 272 = .ok (.iload 7, 2) := dk_21 7 (dk_at dksX3_givesRights_11 13 rfl rfl)
theorem dX3_givesRights_274 : decode cX3_givesRights 274 = .ok (.iaload, 1) := dk_46 (dk_at dksX3_givesRights_11 15 rfl rfl)
theorem dX3_givesRights_275 : decode cX3_givesRights 275 = .ok (.iload_n 1, 1) := dk_27 (dk_at dksX3_givesRights_11 16 rfl rfl)
theorem dX3_givesRights_276 : decode cX3_givesRights 276 = .ok (.if_icmp .ne 59, 3) := dk_160 0 59 (dk_at dksX3_givesRights_11 17 rfl rfl)
theorem dX3_givesRights_279 : decode cX3_givesRights 279 = .ok (.aload_n 0, 1) := dk_42 (dk_at dksX3_givesRights_11 20 rfl rfl)
theorem dX3_givesRights_280 : decode cX3_givesRights 280 = .ok (.getfield 76, 3) := dk_180 0 76 (dk_at dksX3_givesRights_11 21 rfl rfl)
theorem dX3_givesRights_283 : decode cX3_givesRights 283 = .ok (.iload 7, 2) := dk_21 7 (dk_at dksX3_givesRights_12 0 rfl rfl)
theorem dX3_givesRights_285 : decode cX3_givesRights 285 = .ok (.iaload, 1) := dk_46 (dk_at dksX3_givesRights_12 2 rfl rfl)
theorem dX3_givesRights_286 : decode cX3_givesRights 286 = .ok (.iload_n 2, 1) := dk_28 (dk_at dksX3_givesRights_12 3 rfl rfl)
theorem dX3_givesRights_287 : decode cX3_givesRights 287 = .ok (.if_icmp .ne 48, 3) := dk_160 0 48 (dk_at dksX3_givesRights_12 4 rfl rfl)
theorem dX3_givesRights_290 : decode cX3_givesRights 290 = .ok (.aload_n 0, 1) := dk_42 (dk_at dksX3_givesRights_12 7 rfl rfl)
theorem dX3_givesRights_291 : decode cX3_givesRights 291 = .ok (.getfield 142, 3) := dk_180 0 142 (dk_at dksX3_givesRights_12 8 rfl rfl)
theorem dX3_givesRights_294 : decode cX3_givesRights 294 = .ok (.bipush 6, 2) := dk_16 6 (dk_at dksX3_givesRights_12 11 rfl rfl)
theorem dX3_givesRights_296 : decode cX3_givesRights 296 = .ok (.aload_n 0, 1) := dk_42 (dk_at dksX3_givesRights_12 13 rfl rfl)
theorem dX3_givesRights_297 : decode cX3_givesRights 297 = .ok (.getfield 183, 3) := dk_180 0 183 (dk_at dksX3_givesRights_12 14 rfl rfl)
theorem dX3_givesRights_300 : decode cX3_givesRights 300 = .ok (.imul, 1) := dk_104 (dk_at dksX3_givesRights_12 17 rfl rfl)
theorem dX3_givesRights_301 : decode cX3_givesRights 301 = .ok (.aload_n 0, 1) := dk_42 (dk_at dksX3_givesRights_12 18 rfl rfl)
theorem dX3_givesRights_302 : decode cX3_givesRights 302 = .ok (.getfield 70, 3) := dk_180 0 70 (dk_at dksX3_givesRights_12 19 rfl rfl)
theorem dX3_givesRights_305 : decode cX3_givesRights 305 = .ok (.iload 7, 2) := dk_21 7 (dk_at dksX3_givesRights_12 22 rfl rfl)
theorem dX3_givesRights_307 : decode cX3_givesRights 307 = .ok (.iaload, 1) := dk_46 (dk_at dksX3_givesRights_13 0 rfl rfl)
theorem dX3_givesRights_308 : decode cX3_givesRights 308 = .ok (.iadd, 1) := dk_96 (dk_at dksX3_givesRights_13 1 rfl rfl)
theorem dX3_givesRights_309 : decode cX3_givesRights 309 = .ok (.dup2, 1) := dk_92 (dk_at dksX3_givesRights_13 2 rfl rfl)
theorem dX3_givesRights_310 : decode cX3_givesRights 310 = .ok (.iaload, 1) := dk_46 (dk_at dksX3_givesRights_13 3 rfl rfl)
theorem dX3_givesRights_311 : decode cX3_givesRights 311 = .ok (.aload_n 0, 1) := dk_42 (dk_at dksX3_givesRights_13 4 rfl rfl)
theorem dX3_givesRights_312 : decode cX3_givesRights 312 = .ok (.getfield 85, 3) := dk_180 0 85 (dk_at dksX3_givesRights_13 5 rfl rfl)
theorem dX3_givesRights_315 : decode cX3_givesRights 315 = .ok (.iload 7, 2) := dk_21 7 (dk_at dksX3_givesRights_13 8 rfl rfl)
theorem dX3_givesRights_317 : decode cX3_givesRights 317 = .ok (.iaload, 1) := dk_46 (dk_at dksX3_givesRights_13 10 rfl rfl)
theorem dX3_givesRights_318 : decode cX3_givesRights 318 = .ok (.iload 6, 2) := dk_21 6 (dk_at dksX3_givesRights_13 11 rfl rfl)
theorem dX3_givesRights_320 : decode cX3_givesRights 320 = .ok (.iload 4, 2) := dk_21 4 (dk_at dksX3_givesRights_13 13 rfl rfl)
theorem dX3_givesRights_322 : decode cX3_givesRights 322 = .ok (.ifCond .le 8, 3) := dk_158 0 8 (dk_at dksX3_givesRights_13 15 rfl rfl)
theorem dX3_givesRights_325 : decode cX3_givesRights 325 = .ok (.iload 5, 2) := dk_21 5 (dk_at dksX3_givesRights_13 18 rfl rfl)
theorem dX3_givesRights_327 : decode cX3_givesRights 327 = .ok (.goto 4, 3) := dk_167 0 4 (dk_at dksX3_givesRights_13 20 rfl rfl)
theorem dX3_givesRights_330 : decode cX3_givesRights 330 = .ok (.iconst 0, 1) := dk_3 (dk_at dksX3_givesRights_13 23 rfl rfl)
theorem dX3_givesRights_331 : decode cX3_givesRights 331 = .ok (.isub, 1) := dk_100 (dk_at dksX3_givesRights_14 0 rfl rfl)
theorem dX3_givesRights_332 : decode cX3_givesRights 332 = .ok (.imul, 1) := dk_104 (dk_at dksX3_givesRights_14 1 rfl rfl)
theorem dX3_givesRights_333 : decode cX3_givesRights 333 = .ok (.iadd, 1) := dk_96 (dk_at dksX3_givesRights_14 2 rfl rfl)
theorem dX3_givesRights_334 : decode cX3_givesRights 334 = .ok (.iastore, 1) := dk_79 (dk_at dksX3_givesRights_14 3 rfl rfl)
theorem dX3_givesRights_335 : decode cX3_givesRights 335 = .ok (.iinc 7 1, 3) := dk_132 7 1 (dk_at dksX3_givesRights_14 4 rfl rfl)
theorem dX3_givesRights_338 : decode cX3_givesRights 338 = .ok (.goto (-79), 3) := dk_167 255 177 (dk_at dksX3_givesRights_14 7 rfl rfl)
theorem dX3_givesRights_341 : decode cX3_givesRights 341 = .ok (.return_, 1) := dk_177 (dk_at dksX3_givesRights_14 10 rfl rfl)
abbrev cX3_offer : ByteArray := prog_15_method_38_code
def yX3_offer : MethodName := ⟨RX3, "offer", "(IIIZII)I"⟩
def dkwX3_offer_11 : List UInt8 := [167, 255, 216, 21, 7, 172]
abbrev dktX3_offer_11 : List UInt8 := dkwX3_offer_11 ++ []
def dkwX3_offer_10 : List UInt8 := [180, 0, 106, 21, 8, 4, 79, 42, 21, 7, 21, 8, 182, 1, 48, 42, 21, 7, 182, 1, 45, 54, 8]
abbrev dktX3_offer_10 : List UInt8 := dkwX3_offer_10 ++ dktX3_offer_11
def dkwX3_offer_9 : List UInt8 := [182, 1, 45, 54, 8, 21, 8, 2, 159, 0, 40, 42, 180, 0, 103, 21, 7, 46, 158, 0, 30, 42]
abbrev dktX3_offer_9 : List UInt8 := dkwX3_offer_9 ++ dktX3_offer_10
def dkwX3_offer_8 : List UInt8 := [16, 60, 162, 0, 17, 42, 180, 0, 106, 21, 8, 3, 79, 132, 8, 1, 167, 255, 238, 42, 21, 7]
abbrev dktX3_offer_8 : List UInt8 := dkwX3_offer_8 ++ dktX3_offer_9
def dkwX3_offer_7 : List UInt8 := [79, 42, 180, 0, 100, 21, 7, 21, 5, 79, 42, 180, 0, 103, 21, 7, 21, 6, 79, 3, 54, 8, 21, 8]
abbrev dktX3_offer_7 : List UInt8 := dkwX3_offer_7 ++ dktX3_offer_8
def dkwX3_offer_6 : List UInt8 := [42, 180, 0, 94, 21, 7, 29, 79, 42, 180, 0, 97, 21, 7, 21, 4, 153, 0, 7, 4, 167, 0, 4, 3]
abbrev dktX3_offer_6 : List UInt8 := dkwX3_offer_6 ++ dktX3_offer_7
def dkwX3_offer_5 : List UInt8 := [180, 1, 42, 4, 96, 181, 1, 42, 42, 180, 0, 88, 21, 7, 27, 79, 42, 180, 0, 91, 21, 7, 28, 79]
abbrev dktX3_offer_5 : List UInt8 := dkwX3_offer_5 ++ dktX3_offer_6
def dkwX3_offer_4 : List UInt8 := [167, 0, 4, 3, 181, 0, 175, 42, 180, 0, 175, 158, 0, 5, 3, 172, 42, 180, 1, 42, 54, 7, 42, 89]
abbrev dktX3_offer_4 : List UInt8 := dkwX3_offer_4 ++ dktX3_offer_5
def dkwX3_offer_3 : List UInt8 := [46, 4, 159, 0, 19, 42, 180, 0, 192, 153, 0, 12, 42, 180, 1, 42, 16, 60, 160, 0, 7, 6]
abbrev dktX3_offer_3 : List UInt8 := dkwX3_offer_3 ++ dktX3_offer_4
def dkwX3_offer_2 : List UInt8 := [154, 0, 7, 5, 167, 0, 4, 3, 181, 0, 175, 42, 180, 0, 175, 154, 0, 38, 42, 42, 180, 0, 19, 27]
abbrev dktX3_offer_2 : List UInt8 := dkwX3_offer_2 ++ dktX3_offer_3
def dkwX3_offer_1 : List UInt8 := [167, 0, 31, 21, 5, 3, 17, 1, 44, 184, 0, 179, 153, 0, 14, 21, 6, 4, 16, 10, 184, 0, 179]
abbrev dktX3_offer_1 : List UInt8 := dkwX3_offer_1 ++ dktX3_offer_2
def dkwX3_offer_0 : List UInt8 := [42, 27, 184, 0, 186, 153, 0, 17, 28, 184, 0, 195, 153, 0, 10, 29, 184, 0, 198, 154, 0, 7, 4]
abbrev dktX3_offer_0 : List UInt8 := dkwX3_offer_0 ++ dktX3_offer_1
theorem dksX3_offer_0 : cX3_offer.data.toList.drop 0 = dktX3_offer_0 := by decide +kernel
theorem dksX3_offer_1 : cX3_offer.data.toList.drop 23 = dktX3_offer_1 := dk_seg dksX3_offer_0 23 rfl rfl
theorem dksX3_offer_2 : cX3_offer.data.toList.drop 46 = dktX3_offer_2 := dk_seg dksX3_offer_1 23 rfl rfl
theorem dksX3_offer_3 : cX3_offer.data.toList.drop 70 = dktX3_offer_3 := dk_seg dksX3_offer_2 24 rfl rfl
theorem dksX3_offer_4 : cX3_offer.data.toList.drop 92 = dktX3_offer_4 := dk_seg dksX3_offer_3 22 rfl rfl
theorem dksX3_offer_5 : cX3_offer.data.toList.drop 116 = dktX3_offer_5 := dk_seg dksX3_offer_4 24 rfl rfl
theorem dksX3_offer_6 : cX3_offer.data.toList.drop 140 = dktX3_offer_6 := dk_seg dksX3_offer_5 24 rfl rfl
theorem dksX3_offer_7 : cX3_offer.data.toList.drop 164 = dktX3_offer_7 := dk_seg dksX3_offer_6 24 rfl rfl
theorem dksX3_offer_8 : cX3_offer.data.toList.drop 188 = dktX3_offer_8 := dk_seg dksX3_offer_7 24 rfl rfl
theorem dksX3_offer_9 : cX3_offer.data.toList.drop 210 = dktX3_offer_9 := dk_seg dksX3_offer_8 22 rfl rfl
theorem dksX3_offer_10 : cX3_offer.data.toList.drop 232 = dktX3_offer_10 := dk_seg dksX3_offer_9 22 rfl rfl
theorem dksX3_offer_11 : cX3_offer.data.toList.drop 255 = dktX3_offer_11 := dk_seg dksX3_offer_10 23 rfl rfl
theorem dX3_offer_0 : decode cX3_offer 0 = .ok (.aload_n 0, 1) := dk_42 (dk_at dksX3_offer_0 0 rfl rfl)
theorem dX3_offer_1 : decode cX3_offer 1 = .ok (.iload_n 1, 1) := dk_27 (dk_at dksX3_offer_0 1 rfl rfl)
theorem dX3_offer_2 : decode cX3_offer 2 = .ok (.invokestatic 186, 3) := dk_184 0 186 (dk_at dksX3_offer_0 2 rfl rfl)
theorem dX3_offer_5 : decode cX3_offer 5 = .ok (.ifCond .eq 17, 3) := dk_153 0 17 (dk_at dksX3_offer_0 5 rfl rfl)
theorem dX3_offer_8 : decode cX3_offer 8 = .ok (.iload_n 2, 1) := dk_28 (dk_at dksX3_offer_0 8 rfl rfl)
theorem dX3_offer_9 : decode cX3_offer 9 = .ok (.invokestatic 195, 3) := dk_184 0 195 (dk_at dksX3_offer_0 9 rfl rfl)
theorem dX3_offer_12 : decode cX3_offer 12 = .ok (.ifCond .eq 10, 3) := dk_153 0 10 (dk_at dksX3_offer_0 12 rfl rfl)
theorem dX3_offer_15 : decode cX3_offer 15 = .ok (.iload_n 3, 1) := dk_29 (dk_at dksX3_offer_0 15 rfl rfl)
theorem dX3_offer_16 : decode cX3_offer 16 = .ok (.invokestatic 198, 3) := dk_184 0 198 (dk_at dksX3_offer_0 16 rfl rfl)
theorem dX3_offer_19 : decode cX3_offer 19 = .ok (.ifCond .ne 7, 3) := dk_154 0 7 (dk_at dksX3_offer_0 19 rfl rfl)
theorem dX3_offer_22 : decode cX3_offer 22 = .ok (.iconst 1, 1) := dk_4 (dk_at dksX3_offer_0 22 rfl rfl)
theorem dX3_offer_23 : decode cX3_offer 23 = .ok (.goto 31, 3) := dk_167 0 31 (dk_at dksX3_offer_1 0 rfl rfl)
theorem dX3_offer_26 : decode cX3_offer 26 = .ok (.iload 5, 2) := dk_21 5 (dk_at dksX3_offer_1 3 rfl rfl)
theorem dX3_offer_28 : decode cX3_offer 28 = .ok (.iconst 0, 1) := dk_3 (dk_at dksX3_offer_1 5 rfl rfl)
theorem dX3_offer_29 : decode cX3_offer 29 = .ok (.sipush 300, 3) := dk_17 1 44 (dk_at dksX3_offer_1 6 rfl rfl)
theorem dX3_offer_32 : decode cX3_offer 32 = .ok (.invokestatic 179, 3) := dk_184 0 179 (dk_at dksX3_offer_1 9 rfl rfl)
theorem dX3_offer_35 : decode cX3_offer 35 = .ok (.ifCond .eq 14, 3) := dk_153 0 14 (dk_at dksX3_offer_1 12 rfl rfl)
theorem dX3_offer_38 : decode cX3_offer 38 = .ok (.iload 6, 2) := dk_21 6 (dk_at dksX3_offer_1 15 rfl rfl)
theorem dX3_offer_40 : decode cX3_offer 40 = .ok (.iconst 1, 1) := dk_4 (dk_at dksX3_offer_1 17 rfl rfl)
theorem dX3_offer_41 : decode cX3_offer 41 = .ok (.bipush 10, 2) := dk_16 10 (dk_at dksX3_offer_1 18 rfl rfl)
theorem dX3_offer_43 : decode cX3_offer 43 = .ok (.invokestatic 179, 3) := dk_184 0 179 (dk_at dksX3_offer_1 20 rfl rfl)
theorem dX3_offer_46 : decode cX3_offer 46 = .ok (.ifCond .ne 7, 3) := dk_154 0 7 (dk_at dksX3_offer_2 0 rfl rfl)
theorem dX3_offer_49 : decode cX3_offer 49 = .ok (.iconst 2, 1) := dk_5 (dk_at dksX3_offer_2 3 rfl rfl)
theorem dX3_offer_50 : decode cX3_offer 50 = .ok (.goto 4, 3) := dk_167 0 4 (dk_at dksX3_offer_2 4 rfl rfl)
theorem dX3_offer_53 : decode cX3_offer 53 = .ok (.iconst 0, 1) := dk_3 (dk_at dksX3_offer_2 7 rfl rfl)
theorem dX3_offer_54 : decode cX3_offer 54 = .ok (.putfield 175, 3) := dk_181 0 175 (dk_at dksX3_offer_2 8 rfl rfl)
theorem dX3_offer_57 : decode cX3_offer 57 = .ok (.aload_n 0, 1) := dk_42 (dk_at dksX3_offer_2 11 rfl rfl)
theorem dX3_offer_58 : decode cX3_offer 58 = .ok (.getfield 175, 3) := dk_180 0 175 (dk_at dksX3_offer_2 12 rfl rfl)
theorem dX3_offer_61 : decode cX3_offer 61 = .ok (.ifCond .ne 38, 3) := dk_154 0 38 (dk_at dksX3_offer_2 15 rfl rfl)
theorem dX3_offer_64 : decode cX3_offer 64 = .ok (.aload_n 0, 1) := dk_42 (dk_at dksX3_offer_2 18 rfl rfl)
theorem dX3_offer_65 : decode cX3_offer 65 = .ok (.aload_n 0, 1) := dk_42 (dk_at dksX3_offer_2 19 rfl rfl)
theorem dX3_offer_66 : decode cX3_offer 66 = .ok (.getfield 19, 3) := dk_180 0 19 (dk_at dksX3_offer_2 20 rfl rfl)
theorem dX3_offer_69 : decode cX3_offer 69 = .ok (.iload_n 1, 1) := dk_27 (dk_at dksX3_offer_2 23 rfl rfl)
theorem dX3_offer_70 : decode cX3_offer 70 = .ok (.iaload, 1) := dk_46 (dk_at dksX3_offer_3 0 rfl rfl)
theorem dX3_offer_71 : decode cX3_offer 71 = .ok (.iconst 1, 1) := dk_4 (dk_at dksX3_offer_3 1 rfl rfl)
theorem dX3_offer_72 : decode cX3_offer 72 = .ok (.if_icmp .eq 19, 3) := dk_159 0 19 (dk_at dksX3_offer_3 2 rfl rfl)
theorem dX3_offer_75 : decode cX3_offer 75 = .ok (.aload_n 0, 1) := dk_42 (dk_at dksX3_offer_3 5 rfl rfl)
theorem dX3_offer_76 : decode cX3_offer 76 = .ok (.getfield 192, 3) := dk_180 0 192 (dk_at dksX3_offer_3 6 rfl rfl)
theorem dX3_offer_79 : decode cX3_offer 79 = .ok (.ifCond .eq 12, 3) := dk_153 0 12 (dk_at dksX3_offer_3 9 rfl rfl)
theorem dX3_offer_82 : decode cX3_offer 82 = .ok (.aload_n 0, 1) := dk_42 (dk_at dksX3_offer_3 12 rfl rfl)
theorem dX3_offer_83 : decode cX3_offer 83 = .ok (.getfield 298, 3) := dk_180 1 42 (dk_at dksX3_offer_3 13 rfl rfl)
theorem dX3_offer_86 : decode cX3_offer 86 = .ok (.bipush 60, 2) := dk_16 60 (dk_at dksX3_offer_3 16 rfl rfl)
theorem dX3_offer_88 : decode cX3_offer 88 = .ok (.if_icmp .ne 7, 3) := dk_160 0 7 (dk_at dksX3_offer_3 18 rfl rfl)
theorem dX3_offer_91 : decode cX3_offer 91 = .ok (.iconst 3, 1) := dk_6 (dk_at dksX3_offer_3 21 rfl rfl)
theorem dX3_offer_92 : decode cX3_offer 92 = .ok (.goto 4, 3) := dk_167 0 4 (dk_at dksX3_offer_4 0 rfl rfl)
theorem dX3_offer_95 : decode cX3_offer 95 = .ok (.iconst 0, 1) := dk_3 (dk_at dksX3_offer_4 3 rfl rfl)
theorem dX3_offer_96 : decode cX3_offer 96 = .ok (.putfield 175, 3) := dk_181 0 175 (dk_at dksX3_offer_4 4 rfl rfl)
theorem dX3_offer_99 : decode cX3_offer 99 = .ok (.aload_n 0, 1) := dk_42 (dk_at dksX3_offer_4 7 rfl rfl)
theorem dX3_offer_100 : decode cX3_offer 100 = .ok (.getfield 175, 3) := dk_180 0 175 (dk_at dksX3_offer_4 8 rfl rfl)
theorem dX3_offer_103 : decode cX3_offer 103 = .ok (.ifCond .le 5, 3) := dk_158 0 5 (dk_at dksX3_offer_4 11 rfl rfl)
theorem dX3_offer_106 : decode cX3_offer 106 = .ok (.iconst 0, 1) := dk_3 (dk_at dksX3_offer_4 14 rfl rfl)
theorem dX3_offer_107 : decode cX3_offer 107 = .ok (.ireturn, 1) := dk_172 (dk_at dksX3_offer_4 15 rfl rfl)
theorem dX3_offer_108 : decode cX3_offer 108 = .ok (.aload_n 0, 1) := dk_42 (dk_at dksX3_offer_4 16 rfl rfl)
theorem dX3_offer_109 : decode cX3_offer 109 = .ok (.getfield 298, 3) := dk_180 1 42 (dk_at dksX3_offer_4 17 rfl rfl)
theorem dX3_offer_112 : decode cX3_offer 112 = .ok (.istore 7, 2) := dk_54 7 (dk_at dksX3_offer_4 20 rfl rfl)
theorem dX3_offer_114 : decode cX3_offer 114 = .ok (.aload_n 0, 1) := dk_42 (dk_at dksX3_offer_4 22 rfl rfl)
theorem dX3_offer_115 : decode cX3_offer 115 = .ok (.dup, 1) := dk_89 (dk_at dksX3_offer_4 23 rfl rfl)
theorem dX3_offer_116 : decode cX3_offer 116 = .ok (.getfield 298, 3) := dk_180 1 42 (dk_at dksX3_offer_5 0 rfl rfl)
theorem dX3_offer_119 : decode cX3_offer 119 = .ok (.iconst 1, 1) := dk_4 (dk_at dksX3_offer_5 3 rfl rfl)
theorem dX3_offer_120 : decode cX3_offer 120 = .ok (.iadd, 1) := dk_96 (dk_at dksX3_offer_5 4 rfl rfl)
theorem dX3_offer_121 : decode cX3_offer 121 = .ok (.putfield 298, 3) := dk_181 1 42 (dk_at dksX3_offer_5 5 rfl rfl)
theorem dX3_offer_124 : decode cX3_offer 124 = .ok (.aload_n 0, 1) := dk_42 (dk_at dksX3_offer_5 8 rfl rfl)
theorem dX3_offer_125 : decode cX3_offer 125 = .ok (.getfield 88, 3) := dk_180 0 88 (dk_at dksX3_offer_5 9 rfl rfl)
theorem dX3_offer_128 : decode cX3_offer 128 = .ok (.iload 7, 2) := dk_21 7 (dk_at dksX3_offer_5 12 rfl rfl)
theorem dX3_offer_130 : decode cX3_offer 130 = .ok (.iload_n 1, 1) := dk_27 (dk_at dksX3_offer_5 14 rfl rfl)
theorem dX3_offer_131 : decode cX3_offer 131 = .ok (.iastore, 1) := dk_79 (dk_at dksX3_offer_5 15 rfl rfl)
theorem dX3_offer_132 : decode cX3_offer 132 = .ok (.aload_n 0, 1) := dk_42 (dk_at dksX3_offer_5 16 rfl rfl)
theorem dX3_offer_133 : decode cX3_offer 133 = .ok (.getfield 91, 3) := dk_180 0 91 (dk_at dksX3_offer_5 17 rfl rfl)
theorem dX3_offer_136 : decode cX3_offer 136 = .ok (.iload 7, 2) := dk_21 7 (dk_at dksX3_offer_5 20 rfl rfl)
theorem dX3_offer_138 : decode cX3_offer 138 = .ok (.iload_n 2, 1) := dk_28 (dk_at dksX3_offer_5 22 rfl rfl)
theorem dX3_offer_139 : decode cX3_offer 139 = .ok (.iastore, 1) := dk_79 (dk_at dksX3_offer_5 23 rfl rfl)
theorem dX3_offer_140 : decode cX3_offer 140 = .ok (.aload_n 0, 1) := dk_42 (dk_at dksX3_offer_6 0 rfl rfl)
theorem dX3_offer_141 : decode cX3_offer 141 = .ok (.getfield 94, 3) := dk_180 0 94 (dk_at dksX3_offer_6 1 rfl rfl)
theorem dX3_offer_144 : decode cX3_offer 144 = .ok (.iload 7, 2) := dk_21 7 (dk_at dksX3_offer_6 4 rfl rfl)
theorem dX3_offer_146 : decode cX3_offer 146 = .ok (.iload_n 3, 1) := dk_29 (dk_at dksX3_offer_6 6 rfl rfl)
theorem dX3_offer_147 : decode cX3_offer 147 = .ok (.iastore, 1) := dk_79 (dk_at dksX3_offer_6 7 rfl rfl)
theorem dX3_offer_148 : decode cX3_offer 148 = .ok (.aload_n 0, 1) := dk_42 (dk_at dksX3_offer_6 8 rfl rfl)
theorem dX3_offer_149 : decode cX3_offer 149 = .ok (.getfield 97, 3) := dk_180 0 97 (dk_at dksX3_offer_6 9 rfl rfl)
theorem dX3_offer_152 : decode cX3_offer 152 = .ok (.iload 7, 2) := dk_21 7 (dk_at dksX3_offer_6 12 rfl rfl)
theorem dX3_offer_154 : decode cX3_offer 154 = .ok (.iload 4, 2) := dk_21 4 (dk_at dksX3_offer_6 14 rfl rfl)
theorem dX3_offer_156 : decode cX3_offer 156 = .ok (.ifCond .eq 7, 3) := dk_153 0 7 (dk_at dksX3_offer_6 16 rfl rfl)
theorem dX3_offer_159 : decode cX3_offer 159 = .ok (.iconst 1, 1) := dk_4 (dk_at dksX3_offer_6 19 rfl rfl)
theorem dX3_offer_160 : decode cX3_offer 160 = .ok (.goto 4, 3) := dk_167 0 4 (dk_at dksX3_offer_6 20 rfl rfl)
theorem dX3_offer_163 : decode cX3_offer 163 = .ok (.iconst 0, 1) := dk_3 (dk_at dksX3_offer_6 23 rfl rfl)
theorem dX3_offer_164 : decode cX3_offer 164 = .ok (.iastore, 1) := dk_79 (dk_at dksX3_offer_7 0 rfl rfl)
theorem dX3_offer_165 : decode cX3_offer 165 = .ok (.aload_n 0, 1) := dk_42 (dk_at dksX3_offer_7 1 rfl rfl)
theorem dX3_offer_166 : decode cX3_offer 166 = .ok (.getfield 100, 3) := dk_180 0 100 (dk_at dksX3_offer_7 2 rfl rfl)
theorem dX3_offer_169 : decode cX3_offer 169 = .ok (.iload 7, 2) := dk_21 7 (dk_at dksX3_offer_7 5 rfl rfl)
theorem dX3_offer_171 : decode cX3_offer 171 = .ok (.iload 5, 2) := dk_21 5 (dk_at dksX3_offer_7 7 rfl rfl)
theorem dX3_offer_173 : decode cX3_offer 173 = .ok (.iastore, 1) := dk_79 (dk_at dksX3_offer_7 9 rfl rfl)
theorem dX3_offer_174 : decode cX3_offer 174 = .ok (.aload_n 0, 1) := dk_42 (dk_at dksX3_offer_7 10 rfl rfl)
theorem dX3_offer_175 : decode cX3_offer 175 = .ok (.getfield 103, 3) := dk_180 0 103 (dk_at dksX3_offer_7 11 rfl rfl)
theorem dX3_offer_178 : decode cX3_offer 178 = .ok (.iload 7, 2) := dk_21 7 (dk_at dksX3_offer_7 14 rfl rfl)
theorem dX3_offer_180 : decode cX3_offer 180 = .ok (.iload 6, 2) := dk_21 6 (dk_at dksX3_offer_7 16 rfl rfl)
theorem dX3_offer_182 : decode cX3_offer 182 = .ok (.iastore, 1) := dk_79 (dk_at dksX3_offer_7 18 rfl rfl)
theorem dX3_offer_183 : decode cX3_offer 183 = .ok (.iconst 0, 1) := dk_3 (dk_at dksX3_offer_7 19 rfl rfl)
theorem dX3_offer_184 : decode cX3_offer 184 = .ok (.istore 8, 2) := dk_54 8 (dk_at dksX3_offer_7 20 rfl rfl)
theorem dX3_offer_186 : decode cX3_offer 186 = .ok (.iload 8, 2) := dk_21 8 (dk_at dksX3_offer_7 22 rfl rfl)
theorem dX3_offer_188 : decode cX3_offer 188 = .ok (.bipush 60, 2) := dk_16 60 (dk_at dksX3_offer_8 0 rfl rfl)
theorem dX3_offer_190 : decode cX3_offer 190 = .ok (.if_icmp .ge 17, 3) := dk_162 0 17 (dk_at dksX3_offer_8 2 rfl rfl)
theorem dX3_offer_193 : decode cX3_offer 193 = .ok (.aload_n 0, 1) := dk_42 (dk_at dksX3_offer_8 5 rfl rfl)
theorem dX3_offer_194 : decode cX3_offer 194 = .ok (.getfield 106, 3) := dk_180 0 106 (dk_at dksX3_offer_8 6 rfl rfl)
theorem dX3_offer_197 : decode cX3_offer 197 = .ok (.iload 8, 2) := dk_21 8 (dk_at dksX3_offer_8 9 rfl rfl)
theorem dX3_offer_199 : decode cX3_offer 199 = .ok (.iconst 0, 1) := dk_3 (dk_at dksX3_offer_8 11 rfl rfl)
theorem dX3_offer_200 : decode cX3_offer 200 = .ok (.iastore, 1) := dk_79 (dk_at dksX3_offer_8 12 rfl rfl)
theorem dX3_offer_201 : decode cX3_offer 201 = .ok (.iinc 8 1, 3) := dk_132 8 1 (dk_at dksX3_offer_8 13 rfl rfl)
theorem dX3_offer_204 : decode cX3_offer 204 = .ok (.goto (-18), 3) := dk_167 255 238 (dk_at dksX3_offer_8 16 rfl rfl)
theorem dX3_offer_207 : decode cX3_offer 207 = .ok (.aload_n 0, 1) := dk_42 (dk_at dksX3_offer_8 19 rfl rfl)
theorem dX3_offer_208 : decode cX3_offer 208 = .ok (.iload 7, 2) := dk_21 7 (dk_at dksX3_offer_8 20 rfl rfl)
theorem dX3_offer_210 : decode cX3_offer 210 = .ok (.invokevirtual 301, 3) := dk_182 1 45 (dk_at dksX3_offer_9 0 rfl rfl)
theorem dX3_offer_213 : decode cX3_offer 213 = .ok (.istore 8, 2) := dk_54 8 (dk_at dksX3_offer_9 3 rfl rfl)
theorem dX3_offer_215 : decode cX3_offer 215 = .ok (.iload 8, 2) := dk_21 8 (dk_at dksX3_offer_9 5 rfl rfl)
theorem dX3_offer_217 : decode cX3_offer 217 = .ok (.iconst (-1), 1) := dk_2 (dk_at dksX3_offer_9 7 rfl rfl)
theorem dX3_offer_218 : decode cX3_offer 218 = .ok (.if_icmp .eq 40, 3) := dk_159 0 40 (dk_at dksX3_offer_9 8 rfl rfl)
theorem dX3_offer_221 : decode cX3_offer 221 = .ok (.aload_n 0, 1) := dk_42 (dk_at dksX3_offer_9 11 rfl rfl)
theorem dX3_offer_222 : decode cX3_offer 222 = .ok (.getfield 103, 3) := dk_180 0 103 (dk_at dksX3_offer_9 12 rfl rfl)
theorem dX3_offer_225 : decode cX3_offer 225 = .ok (.iload 7, 2) := dk_21 7 (dk_at dksX3_offer_9 15 rfl rfl)
theorem dX3_offer_227 : decode cX3_offer 227 = .ok (.iaload, 1) := dk_46 (dk_at dksX3_offer_9 17 rfl rfl)
theorem dX3_offer_228 : decode cX3_offer 228 = .ok (.ifCond .le 30, 3) := dk_158 0 30 (dk_at dksX3_offer_9 18 rfl rfl)
theorem dX3_offer_231 : decode cX3_offer 231 = .ok (.aload_n 0, 1) := dk_42 (dk_at dksX3_offer_9 21 rfl rfl)
theorem dX3_offer_232 : decode cX3_offer 232 = .ok (.getfield 106, 3) := dk_180 0 106 (dk_at dksX3_offer_10 0 rfl rfl)
theorem dX3_offer_235 : decode cX3_offer 235 = .ok (.iload 8, 2) := dk_21 8 (dk_at dksX3_offer_10 3 rfl rfl)
theorem dX3_offer_237 : decode cX3_offer 237 = .ok (.iconst 1, 1) := dk_4 (dk_at dksX3_offer_10 5 rfl rfl)
theorem dX3_offer_238 : decode cX3_offer 238 = .ok (.iastore, 1) := dk_79 (dk_at dksX3_offer_10 6 rfl rfl)
theorem dX3_offer_239 : decode cX3_offer 239 = .ok (.aload_n 0, 1) := dk_42 (dk_at dksX3_offer_10 7 rfl rfl)
theorem dX3_offer_240 : decode cX3_offer 240 = .ok (.iload 7, 2) := dk_21 7 (dk_at dksX3_offer_10 8 rfl rfl)
theorem dX3_offer_242 : decode cX3_offer 242 = .ok (.iload 8, 2) := dk_21 8 (dk_at dksX3_offer_10 10 rfl rfl)
theorem dX3_offer_244 : decode cX3_offer 244 = .ok (.invokevirtual 304, 3) := dk_182 1 48 (dk_at dksX3_offer_10 12 rfl rfl)
theorem dX3_offer_247 : decode cX3_offer 247 = .ok (.aload_n 0, 1) := dk_42 (dk_at dksX3_offer_10 15 rfl rfl)
theorem dX3_offer_248 : decode cX3_offer 248 = .ok (.iload 7, 2) := dk_21 7 (dk_at dksX3_offer_10 16 rfl rfl)
theorem dX3_offer_250 : decode cX3_offer 250 = .ok (.invokevirtual 301, 3) := dk_182 1 45 (dk_at dksX3_offer_10 18 rfl rfl)
theorem dX3_offer_253 : decode cX3_offer 253 = .ok (.istore 8, 2) := dk_54 8 (dk_at dksX3_offer_10 21 rfl rfl)
theorem dX3_offer_255 : decode cX3_offer 255 = .ok (.goto (-40), 3) := dk_167 255 216 (dk_at dksX3_offer_11 0 rfl rfl)
theorem dX3_offer_258 : decode cX3_offer 258 = .ok (.iload 7, 2) := dk_21 7 (dk_at dksX3_offer_11 3 rfl rfl)
theorem dX3_offer_260 : decode cX3_offer 260 = .ok (.ireturn, 1) := dk_172 (dk_at dksX3_offer_11 5 rfl rfl)
abbrev cX3_restFor : ByteArray := prog_15_method_36_code
def yX3_restFor : MethodName := ⟨RX3, "restFor", "(I)I"⟩
def dkwX3_restFor_8 : List UInt8 := [28, 61, 132, 3, 1, 167, 255, 67, 28, 172]
abbrev dktX3_restFor_8 : List UInt8 := dkwX3_restFor_8 ++ []
def dkwX3_restFor_7 : List UInt8 := [164, 0, 7, 4, 167, 0, 4, 3, 54, 5, 21, 4, 153, 0, 12, 21, 5, 153, 0, 7, 29, 167, 0, 4]
abbrev dktX3_restFor_7 : List UInt8 := dkwX3_restFor_7 ++ dktX3_restFor_8
def dkwX3_restFor_6 : List UInt8 := [180, 0, 100, 28, 46, 162, 0, 25, 167, 0, 18, 42, 180, 0, 100, 29, 46, 42, 180, 0, 100, 28, 46]
abbrev dktX3_restFor_6 : List UInt8 := dkwX3_restFor_6 ++ dktX3_restFor_7
def dkwX3_restFor_5 : List UInt8 := [54, 4, 28, 2, 159, 0, 46, 42, 180, 0, 97, 27, 46, 4, 160, 0, 21, 42, 180, 0, 100, 29, 46, 42]
abbrev dktX3_restFor_5 : List UInt8 := dkwX3_restFor_5 ++ dktX3_restFor_6
def dkwX3_restFor_4 : List UInt8 := [167, 0, 18, 42, 180, 0, 100, 29, 46, 42, 180, 0, 100, 27, 46, 161, 0, 7, 4, 167, 0, 4, 3]
abbrev dktX3_restFor_4 : List UInt8 := dkwX3_restFor_4 ++ dktX3_restFor_5
def dkwX3_restFor_3 : List UInt8 := [180, 0, 97, 27, 46, 4, 160, 0, 21, 42, 180, 0, 100, 29, 46, 42, 180, 0, 100, 27, 46, 163, 0, 25]
abbrev dktX3_restFor_3 : List UInt8 := dkwX3_restFor_3 ++ dktX3_restFor_4
def dkwX3_restFor_2 : List UInt8 := [42, 180, 0, 97, 27, 46, 159, 0, 7, 4, 167, 0, 4, 3, 54, 4, 21, 4, 153, 0, 50, 42]
abbrev dktX3_restFor_2 : List UInt8 := dkwX3_restFor_2 ++ dktX3_restFor_3
def dkwX3_restFor_1 : List UInt8 := [158, 0, 37, 42, 180, 0, 94, 29, 46, 42, 180, 0, 94, 27, 46, 160, 0, 22, 42, 180, 0, 97, 29, 46]
abbrev dktX3_restFor_1 : List UInt8 := dkwX3_restFor_1 ++ dktX3_restFor_2
def dkwX3_restFor_0 : List UInt8 := [2, 61, 3, 62, 29, 27, 162, 0, 190, 42, 180, 0, 106, 29, 46, 154, 0, 46, 42, 180, 0, 103, 29, 46]
abbrev dktX3_restFor_0 : List UInt8 := dkwX3_restFor_0 ++ dktX3_restFor_1
theorem dksX3_restFor_0 : cX3_restFor.data.toList.drop 0 = dktX3_restFor_0 := by decide +kernel
theorem dksX3_restFor_1 : cX3_restFor.data.toList.drop 24 = dktX3_restFor_1 := dk_seg dksX3_restFor_0 24 rfl rfl
theorem dksX3_restFor_2 : cX3_restFor.data.toList.drop 48 = dktX3_restFor_2 := dk_seg dksX3_restFor_1 24 rfl rfl
theorem dksX3_restFor_3 : cX3_restFor.data.toList.drop 70 = dktX3_restFor_3 := dk_seg dksX3_restFor_2 22 rfl rfl
theorem dksX3_restFor_4 : cX3_restFor.data.toList.drop 94 = dktX3_restFor_4 := dk_seg dksX3_restFor_3 24 rfl rfl
theorem dksX3_restFor_5 : cX3_restFor.data.toList.drop 117 = dktX3_restFor_5 := dk_seg dksX3_restFor_4 23 rfl rfl
theorem dksX3_restFor_6 : cX3_restFor.data.toList.drop 141 = dktX3_restFor_6 := dk_seg dksX3_restFor_5 24 rfl rfl
theorem dksX3_restFor_7 : cX3_restFor.data.toList.drop 164 = dktX3_restFor_7 := dk_seg dksX3_restFor_6 23 rfl rfl
theorem dksX3_restFor_8 : cX3_restFor.data.toList.drop 188 = dktX3_restFor_8 := dk_seg dksX3_restFor_7 24 rfl rfl
theorem dX3_restFor_0 : decode cX3_restFor 0 = .ok (.iconst (-1), 1) := dk_2 (dk_at dksX3_restFor_0 0 rfl rfl)
theorem dX3_restFor_1 : decode cX3_restFor 1 = .ok (.istore_n 2, 1) := dk_61 (dk_at dksX3_restFor_0 1 rfl rfl)
theorem dX3_restFor_2 : decode cX3_restFor 2 = .ok (.iconst 0, 1) := dk_3 (dk_at dksX3_restFor_0 2 rfl rfl)
theorem dX3_restFor_3 : decode cX3_restFor 3 = .ok (.istore_n 3, 1) := dk_62 (dk_at dksX3_restFor_0 3 rfl rfl)
theorem dX3_restFor_4 : decode cX3_restFor 4 = .ok (.iload_n 3, 1) := dk_29 (dk_at dksX3_restFor_0 4 rfl rfl)
theorem dX3_restFor_5 : decode cX3_restFor 5 = .ok (.iload_n 1, 1) := dk_27 (dk_at dksX3_restFor_0 5 rfl rfl)
theorem dX3_restFor_6 : decode cX3_restFor 6 = .ok (.if_icmp .ge 190, 3) := dk_162 0 190 (dk_at dksX3_restFor_0 6 rfl rfl)
theorem dX3_restFor_9 : decode cX3_restFor 9 = .ok (.aload_n 0, 1) := dk_42 (dk_at dksX3_restFor_0 9 rfl rfl)
theorem dX3_restFor_10 : decode cX3_restFor 10 = .ok (.getfield 106, 3) := dk_180 0 106 (dk_at dksX3_restFor_0 10 rfl rfl)
theorem dX3_restFor_13 : decode cX3_restFor 13 = .ok (.iload_n 3, 1) := dk_29 (dk_at dksX3_restFor_0 13 rfl rfl)
theorem dX3_restFor_14 : decode cX3_restFor 14 = .ok (.iaload, 1) := dk_46 (dk_at dksX3_restFor_0 14 rfl rfl)
theorem dX3_restFor_15 : decode cX3_restFor 15 = .ok (.ifCond .ne 46, 3) := dk_154 0 46 (dk_at dksX3_restFor_0 15 rfl rfl)
theorem dX3_restFor_18 : decode cX3_restFor 18 = .ok (.aload_n 0, 1) := dk_42 (dk_at dksX3_restFor_0 18 rfl rfl)
theorem dX3_restFor_19 : decode cX3_restFor 19 = .ok (.getfield 103, 3) := dk_180 0 103 (dk_at dksX3_restFor_0 19 rfl rfl)
theorem dX3_restFor_22 : decode cX3_restFor 22 = .ok (.iload_n 3, 1) := dk_29 (dk_at dksX3_restFor_0 22 rfl rfl)
theorem dX3_restFor_23 : decode cX3_restFor 23 = .ok (.iaload, 1) := dk_46 (dk_at dksX3_restFor_0 23 rfl rfl)
theorem dX3_restFor_24 : decode cX3_restFor 24 = .ok (.ifCond .le 37, 3) := dk_158 0 37 (dk_at dksX3_restFor_1 0 rfl rfl)
theorem dX3_restFor_27 : decode cX3_restFor 27 = .ok (.aload_n 0, 1) := dk_42 (dk_at dksX3_restFor_1 3 rfl rfl)
theorem dX3_restFor_28 : decode cX3_restFor 28 = .ok (.getfield 94, 3) := dk_180 0 94 (dk_at dksX3_restFor_1 4 rfl rfl)
theorem dX3_restFor_31 : decode cX3_restFor 31 = .ok (.iload_n 3, 1) := dk_29 (dk_at dksX3_restFor_1 7 rfl rfl)
theorem dX3_restFor_32 : decode cX3_restFor 32 = .ok (.iaload, 1) := dk_46 (dk_at dksX3_restFor_1 8 rfl rfl)
theorem dX3_restFor_33 : decode cX3_restFor 33 = .ok (.aload_n 0, 1) := dk_42 (dk_at dksX3_restFor_1 9 rfl rfl)
theorem dX3_restFor_34 : decode cX3_restFor 34 = .ok (.getfield 94, 3) := dk_180 0 94 (dk_at dksX3_restFor_1 10 rfl rfl)
theorem dX3_restFor_37 : decode cX3_restFor 37 = .ok (.iload_n 1, 1) := dk_27 (dk_at dksX3_restFor_1 13 rfl rfl)
theorem dX3_restFor_38 : decode cX3_restFor 38 = .ok (.iaload, 1) := dk_46 (dk_at dksX3_restFor_1 14 rfl rfl)
theorem dX3_restFor_39 : decode cX3_restFor 39 = .ok (.if_icmp .ne 22, 3) := dk_160 0 22 (dk_at dksX3_restFor_1 15 rfl rfl)
theorem dX3_restFor_42 : decode cX3_restFor 42 = .ok (.aload_n 0, 1) := dk_42 (dk_at dksX3_restFor_1 18 rfl rfl)
theorem dX3_restFor_43 : decode cX3_restFor 43 = .ok (.getfield 97, 3) := dk_180 0 97 (dk_at dksX3_restFor_1 19 rfl rfl)
theorem dX3_restFor_46 : decode cX3_restFor 46 = .ok (.iload_n 3, 1) := dk_29 (dk_at dksX3_restFor_1 22 rfl rfl)
theorem dX3_restFor_47 : decode cX3_restFor 47 = .ok (.iaload, 1) := dk_46 (dk_at dksX3_restFor_1 23 rfl rfl)
theorem dX3_restFor_48 : decode cX3_restFor 48 = .ok (.aload_n 0, 1) := dk_42 (dk_at dksX3_restFor_2 0 rfl rfl)
theorem dX3_restFor_49 : decode cX3_restFor 49 = .ok (.getfield 97, 3) := dk_180 0 97 (dk_at dksX3_restFor_2 1 rfl rfl)
theorem dX3_restFor_52 : decode cX3_restFor 52 = .ok (.iload_n 1, 1) := dk_27 (dk_at dksX3_restFor_2 4 rfl rfl)
theorem dX3_restFor_53 : decode cX3_restFor 53 = .ok (.iaload, 1) := dk_46 (dk_at dksX3_restFor_2 5 rfl rfl)
theorem dX3_restFor_54 : decode cX3_restFor 54 = .ok (.if_icmp .eq 7, 3) := dk_159 0 7 (dk_at dksX3_restFor_2 6 rfl rfl)
theorem dX3_restFor_57 : decode cX3_restFor 57 = .ok (.iconst 1, 1) := dk_4 (dk_at dksX3_restFor_2 9 rfl rfl)
theorem dX3_restFor_58 : decode cX3_restFor 58 = .ok (.goto 4, 3) := dk_167 0 4 (dk_at dksX3_restFor_2 10 rfl rfl)
theorem dX3_restFor_61 : decode cX3_restFor 61 = .ok (.iconst 0, 1) := dk_3 (dk_at dksX3_restFor_2 13 rfl rfl)
theorem dX3_restFor_62 : decode cX3_restFor 62 = .ok (.istore 4, 2) := dk_54 4 (dk_at dksX3_restFor_2 14 rfl rfl)
theorem dX3_restFor_64 : decode cX3_restFor 64 = .ok (.iload 4, 2) := dk_21 4 (dk_at dksX3_restFor_2 16 rfl rfl)
theorem dX3_restFor_66 : decode cX3_restFor 66 = .ok (.ifCond .eq 50, 3) := dk_153 0 50 (dk_at dksX3_restFor_2 18 rfl rfl)
theorem dX3_restFor_69 : decode cX3_restFor 69 = .ok (.aload_n 0, 1) := dk_42 (dk_at dksX3_restFor_2 21 rfl rfl)
theorem dX3_restFor_70 : decode cX3_restFor 70 = .ok (.getfield 97, 3) := dk_180 0 97 (dk_at dksX3_restFor_3 0 rfl rfl)
theorem dX3_restFor_73 : decode cX3_restFor 73 = .ok (.iload_n 1, 1) := dk_27 (dk_at dksX3_restFor_3 3 rfl rfl)
theorem dX3_restFor_74 : decode cX3_restFor 74 = .ok (.iaload, 1) := dk_46 (dk_at dksX3_restFor_3 4 rfl rfl)
theorem dX3_restFor_75 : decode cX3_restFor 75 = .ok (.iconst 1, 1) := dk_4 (dk_at dksX3_restFor_3 5 rfl rfl)
theorem dX3_restFor_76 : decode cX3_restFor 76 = .ok (.if_icmp .ne 21, 3) := dk_160 0 21 (dk_at dksX3_restFor_3 6 rfl rfl)
theorem dX3_restFor_79 : decode cX3_restFor 79 = .ok (.aload_n 0, 1) := dk_42 (dk_at dksX3_restFor_3 9 rfl rfl)
theorem dX3_restFor_80 : decode cX3_restFor 80 = .ok (.getfield 100, 3) := dk_180 0 100 (dk_at dksX3_restFor_3 10 rfl rfl)
theorem dX3_restFor_83 : decode cX3_restFor 83 = .ok (.iload_n 3, 1) := dk_29 (dk_at dksX3_restFor_3 13 rfl rfl)
theorem dX3_restFor_84 : decode cX3_restFor 84 = .ok (.iaload, 1) := dk_46 (dk_at dksX3_restFor_3 14 rfl rfl)
theorem dX3_restFor_85 : decode cX3_restFor 85 = .ok (.aload_n 0, 1) := dk_42 (dk_at dksX3_restFor_3 15 rfl rfl)
theorem dX3_restFor_86 : decode cX3_restFor 86 = .ok (.getfield 100, 3) := dk_180 0 100 (dk_at dksX3_restFor_3 16 rfl rfl)
theorem dX3_restFor_89 : decode cX3_restFor 89 = .ok (.iload_n 1, 1) := dk_27 (dk_at dksX3_restFor_3 19 rfl rfl)
theorem dX3_restFor_90 : decode cX3_restFor 90 = .ok (.iaload, 1) := dk_46 (dk_at dksX3_restFor_3 20 rfl rfl)
theorem dX3_restFor_91 : decode cX3_restFor 91 = .ok (.if_icmp .gt 25, 3) := dk_163 0 25 (dk_at dksX3_restFor_3 21 rfl rfl)
theorem dX3_restFor_94 : decode cX3_restFor 94 = .ok (.goto 18, 3) := dk_167 0 18 (dk_at dksX3_restFor_4 0 rfl rfl)
theorem dX3_restFor_97 : decode cX3_restFor 97 = .ok (.aload_n 0, 1) := dk_42 (dk_at dksX3_restFor_4 3 rfl rfl)
theorem dX3_restFor_98 : decode cX3_restFor 98 = .ok (.getfield 100, 3) := dk_180 0 100 (dk_at dksX3_restFor_4 4 rfl rfl)
theorem dX3_restFor_101 : decode cX3_restFor 101 = .ok (.iload_n 3, 1) := dk_29 (dk_at dksX3_restFor_4 7 rfl rfl)
theorem dX3_restFor_102 : decode cX3_restFor 102 = .ok (.iaload, 1) := dk_46 (dk_at dksX3_restFor_4 8 rfl rfl)
theorem dX3_restFor_103 : decode cX3_restFor 103 = .ok (.aload_n 0, 1) := dk_42 (dk_at dksX3_restFor_4 9 rfl rfl)
theorem dX3_restFor_104 : decode cX3_restFor 104 = .ok (.getfield 100, 3) := dk_180 0 100 (dk_at dksX3_restFor_4 10 rfl rfl)
theorem dX3_restFor_107 : decode cX3_restFor 107 = .ok (.iload_n 1, 1) := dk_27 (dk_at dksX3_restFor_4 13 rfl rfl)
theorem dX3_restFor_108 : decode cX3_restFor 108 = .ok (.iaload, 1) := dk_46 (dk_at dksX3_restFor_4 14 rfl rfl)
theorem dX3_restFor_109 : decode cX3_restFor 109 = .ok (.if_icmp .lt 7, 3) := dk_161 0 7 (dk_at dksX3_restFor_4 15 rfl rfl)
theorem dX3_restFor_112 : decode cX3_restFor 112 = .ok (.iconst 1, 1) := dk_4 (dk_at dksX3_restFor_4 18 rfl rfl)
theorem dX3_restFor_113 : decode cX3_restFor 113 = .ok (.goto 4, 3) := dk_167 0 4 (dk_at dksX3_restFor_4 19 rfl rfl)
theorem dX3_restFor_116 : decode cX3_restFor 116 = .ok (.iconst 0, 1) := dk_3 (dk_at dksX3_restFor_4 22 rfl rfl)
theorem dX3_restFor_117 : decode cX3_restFor 117 = .ok (.istore 4, 2) := dk_54 4 (dk_at dksX3_restFor_5 0 rfl rfl)
theorem dX3_restFor_119 : decode cX3_restFor 119 = .ok (.iload_n 2, 1) := dk_28 (dk_at dksX3_restFor_5 2 rfl rfl)
theorem dX3_restFor_120 : decode cX3_restFor 120 = .ok (.iconst (-1), 1) := dk_2 (dk_at dksX3_restFor_5 3 rfl rfl)
theorem dX3_restFor_121 : decode cX3_restFor 121 = .ok (.if_icmp .eq 46, 3) := dk_159 0 46 (dk_at dksX3_restFor_5 4 rfl rfl)
theorem dX3_restFor_124 : decode cX3_restFor 124 = .ok (.aload_n 0, 1) := dk_42 (dk_at dksX3_restFor_5 7 rfl rfl)
theorem dX3_restFor_125 : decode cX3_restFor 125 = .ok (.getfield 97, 3) := dk_180 0 97 (dk_at dksX3_restFor_5 8 rfl rfl)
theorem dX3_restFor_128 : decode cX3_restFor 128 = .ok (.iload_n 1, 1) := dk_27 (dk_at dksX3_restFor_5 11 rfl rfl)
theorem dX3_restFor_129 : decode cX3_restFor 129 = .ok (.iaload, 1) := dk_46 (dk_at dksX3_restFor_5 12 rfl rfl)
theorem dX3_restFor_130 : decode cX3_restFor 130 = .ok (.iconst 1, 1) := dk_4 (dk_at dksX3_restFor_5 13 rfl rfl)
theorem dX3_restFor_131 : decode cX3_restFor 131 = .ok (.if_icmp .ne 21, 3) := dk_160 0 21 (dk_at dksX3_restFor_5 14 rfl rfl)
theorem dX3_restFor_134 : decode cX3_restFor 134 = .ok (.aload_n 0, 1) := dk_42 (dk_at dksX3_restFor_5 17 rfl rfl)
theorem dX3_restFor_135 : decode cX3_restFor 135 = .ok (.getfield 100, 3) := dk_180 0 100 (dk_at dksX3_restFor_5 18 rfl rfl)
theorem dX3_restFor_138 : decode cX3_restFor 138 = .ok (.iload_n 3, 1) := dk_29 (dk_at dksX3_restFor_5 21 rfl rfl)
theorem dX3_restFor_139 : decode cX3_restFor 139 = .ok (.iaload, 1) := dk_46 (dk_at dksX3_restFor_5 22 rfl rfl)
theorem dX3_restFor_140 : decode cX3_restFor 140 = .ok (.aload_n 0, 1) := dk_42 (dk_at dksX3_restFor_5 23 rfl rfl)
theorem dX3_restFor_141 : decode cX3_restFor 141 = .ok (.getfield 100, 3) := dk_180 0 100 (dk_at dksX3_restFor_6 0 rfl rfl)
theorem dX3_restFor_144 : decode cX3_restFor 144 = .ok (.iload_n 2, 1) := dk_28 (dk_at dksX3_restFor_6 3 rfl rfl)
theorem dX3_restFor_145 : decode cX3_restFor 145 = .ok (.iaload, 1) := dk_46 (dk_at dksX3_restFor_6 4 rfl rfl)
theorem dX3_restFor_146 : decode cX3_restFor 146 = .ok (.if_icmp .ge 25, 3) := dk_162 0 25 (dk_at dksX3_restFor_6 5 rfl rfl)
theorem dX3_restFor_149 : decode cX3_restFor 149 = .ok (.goto 18, 3) := dk_167 0 18 (dk_at dksX3_restFor_6 8 rfl rfl)
theorem dX3_restFor_152 : decode cX3_restFor 152 = .ok (.aload_n 0, 1) := dk_42 (dk_at dksX3_restFor_6 11 rfl rfl)
theorem dX3_restFor_153 : decode cX3_restFor 153 = .ok (.getfield 100, 3) := dk_180 0 100 (dk_at dksX3_restFor_6 12 rfl rfl)
theorem dX3_restFor_156 : decode cX3_restFor 156 = .ok (.iload_n 3, 1) := dk_29 (dk_at dksX3_restFor_6 15 rfl rfl)
theorem dX3_restFor_157 : decode cX3_restFor 157 = .ok (.iaload, 1) := dk_46 (dk_at dksX3_restFor_6 16 rfl rfl)
theorem dX3_restFor_158 : decode cX3_restFor 158 = .ok (.aload_n 0, 1) := dk_42 (dk_at dksX3_restFor_6 17 rfl rfl)
theorem dX3_restFor_159 : decode cX3_restFor 159 = .ok (.getfield 100, 3) := dk_180 0 100 (dk_at dksX3_restFor_6 18 rfl rfl)
theorem dX3_restFor_162 : decode cX3_restFor 162 = .ok (.iload_n 2, 1) := dk_28 (dk_at dksX3_restFor_6 21 rfl rfl)
theorem dX3_restFor_163 : decode cX3_restFor 163 = .ok (.iaload, 1) := dk_46 (dk_at dksX3_restFor_6 22 rfl rfl)
theorem dX3_restFor_164 : decode cX3_restFor 164 = .ok (.if_icmp .le 7, 3) := dk_164 0 7 (dk_at dksX3_restFor_7 0 rfl rfl)
theorem dX3_restFor_167 : decode cX3_restFor 167 = .ok (.iconst 1, 1) := dk_4 (dk_at dksX3_restFor_7 3 rfl rfl)
theorem dX3_restFor_168 : decode cX3_restFor 168 = .ok (.goto 4, 3) := dk_167 0 4 (dk_at dksX3_restFor_7 4 rfl rfl)
theorem dX3_restFor_171 : decode cX3_restFor 171 = .ok (.iconst 0, 1) := dk_3 (dk_at dksX3_restFor_7 7 rfl rfl)
theorem dX3_restFor_172 : decode cX3_restFor 172 = .ok (.istore 5, 2) := dk_54 5 (dk_at dksX3_restFor_7 8 rfl rfl)
theorem dX3_restFor_174 : decode cX3_restFor 174 = .ok (.iload 4, 2) := dk_21 4 (dk_at dksX3_restFor_7 10 rfl rfl)
theorem dX3_restFor_176 : decode cX3_restFor 176 = .ok (.ifCond .eq 12, 3) := dk_153 0 12 (dk_at dksX3_restFor_7 12 rfl rfl)
theorem dX3_restFor_179 : decode cX3_restFor 179 = .ok (.iload 5, 2) := dk_21 5 (dk_at dksX3_restFor_7 15 rfl rfl)
theorem dX3_restFor_181 : decode cX3_restFor 181 = .ok (.ifCond .eq 7, 3) := dk_153 0 7 (dk_at dksX3_restFor_7 17 rfl rfl)
theorem dX3_restFor_184 : decode cX3_restFor 184 = .ok (.iload_n 3, 1) := dk_29 (dk_at dksX3_restFor_7 20 rfl rfl)
theorem dX3_restFor_185 : decode cX3_restFor 185 = .ok (.goto 4, 3) := dk_167 0 4 (dk_at dksX3_restFor_7 21 rfl rfl)
theorem dX3_restFor_188 : decode cX3_restFor 188 = .ok (.iload_n 2, 1) := dk_28 (dk_at dksX3_restFor_8 0 rfl rfl)
theorem dX3_restFor_189 : decode cX3_restFor 189 = .ok (.istore_n 2, 1) := dk_61 (dk_at dksX3_restFor_8 1 rfl rfl)
theorem dX3_restFor_190 : decode cX3_restFor 190 = .ok (.iinc 3 1, 3) := dk_132 3 1 (dk_at dksX3_restFor_8 2 rfl rfl)
theorem dX3_restFor_193 : decode cX3_restFor 193 = .ok (.goto (-189), 3) := dk_167 255 67 (dk_at dksX3_restFor_8 5 rfl rfl)
theorem dX3_restFor_196 : decode cX3_restFor 196 = .ok (.iload_n 2, 1) := dk_28 (dk_at dksX3_restFor_8 8 rfl rfl)
theorem dX3_restFor_197 : decode cX3_restFor 197 = .ok (.ireturn, 1) := dk_172 (dk_at dksX3_restFor_8 9 rfl rfl)
abbrev cX3_meets : ByteArray := prog_15_method_37_code
def yX3_meets : MethodName := ⟨RX3, "meets", "(II)V"⟩
def dkwX3_meets_10 : List UInt8 := [182, 1, 31, 177]
abbrev dktX3_meets_10 : List UInt8 := dkwX3_meets_10 ++ []
def dkwX3_meets_9 : List UInt8 := [180, 0, 88, 21, 5, 46, 42, 180, 0, 91, 21, 5, 46, 29, 21, 7, 116, 42, 180, 0, 100, 28, 46]
abbrev dktX3_meets_9 : List UInt8 := dkwX3_meets_9 ++ dktX3_meets_10
def dkwX3_meets_8 : List UInt8 := [46, 42, 180, 0, 91, 21, 4, 46, 29, 21, 7, 42, 180, 0, 100, 28, 46, 182, 1, 31, 42, 42]
abbrev dktX3_meets_8 : List UInt8 := dkwX3_meets_8 ++ dktX3_meets_9
def dkwX3_meets_7 : List UInt8 := [7, 42, 180, 0, 91, 21, 5, 46, 104, 29, 96, 92, 46, 21, 7, 100, 79, 42, 42, 180, 0, 88, 21, 4]
abbrev dktX3_meets_7 : List UInt8 := dkwX3_meets_7 ++ dktX3_meets_8
def dkwX3_meets_6 : List UInt8 := [180, 0, 151, 7, 42, 180, 0, 91, 21, 4, 46, 104, 29, 96, 92, 46, 21, 7, 96, 79, 42, 180, 0, 151]
abbrev dktX3_meets_6 : List UInt8 := dkwX3_meets_6 ++ dktX3_meets_7
def dkwX3_meets_5 : List UInt8 := [180, 0, 103, 27, 92, 46, 21, 7, 100, 79, 42, 180, 0, 103, 28, 92, 46, 21, 7, 100, 79, 42]
abbrev dktX3_meets_5 : List UInt8 := dkwX3_meets_5 ++ dktX3_meets_6
def dkwX3_meets_4 : List UInt8 := [180, 0, 91, 21, 4, 46, 42, 180, 0, 91, 21, 5, 46, 29, 21, 6, 182, 1, 38, 54, 7, 42]
abbrev dktX3_meets_4 : List UInt8 := dkwX3_meets_4 ++ dktX3_meets_5
def dkwX3_meets_3 : List UInt8 := [54, 6, 42, 180, 0, 88, 27, 46, 42, 180, 0, 88, 28, 46, 160, 0, 7, 3, 167, 0, 24, 42, 42]
abbrev dktX3_meets_3 : List UInt8 := dkwX3_meets_3 ++ dktX3_meets_4
def dkwX3_meets_2 : List UInt8 := [180, 0, 103, 28, 46, 162, 0, 12, 42, 180, 0, 103, 27, 46, 167, 0, 9, 42, 180, 0, 103, 28, 46]
abbrev dktX3_meets_2 : List UInt8 := dkwX3_meets_2 ++ dktX3_meets_3
def dkwX3_meets_1 : List UInt8 := [42, 180, 0, 97, 27, 46, 4, 160, 0, 7, 27, 167, 0, 4, 28, 54, 5, 42, 180, 0, 103, 27, 46, 42]
abbrev dktX3_meets_1 : List UInt8 := dkwX3_meets_1 ++ dktX3_meets_2
def dkwX3_meets_0 : List UInt8 := [42, 180, 0, 94, 27, 46, 62, 42, 180, 0, 97, 27, 46, 4, 160, 0, 7, 28, 167, 0, 4, 27, 54, 4]
abbrev dktX3_meets_0 : List UInt8 := dkwX3_meets_0 ++ dktX3_meets_1
theorem dksX3_meets_0 : cX3_meets.data.toList.drop 0 = dktX3_meets_0 := by decide +kernel
theorem dksX3_meets_1 : cX3_meets.data.toList.drop 24 = dktX3_meets_1 := dk_seg dksX3_meets_0 24 rfl rfl
theorem dksX3_meets_2 : cX3_meets.data.toList.drop 48 = dktX3_meets_2 := dk_seg dksX3_meets_1 24 rfl rfl
theorem dksX3_meets_3 : cX3_meets.data.toList.drop 71 = dktX3_meets_3 := dk_seg dksX3_meets_2 23 rfl rfl
theorem dksX3_meets_4 : cX3_meets.data.toList.drop 94 = dktX3_meets_4 := dk_seg dksX3_meets_3 23 rfl rfl
theorem dksX3_meets_5 : cX3_meets.data.toList.drop 116 = dktX3_meets_5 := dk_seg dksX3_meets_4 22 rfl rfl
theorem dksX3_meets_6 : cX3_meets.data.toList.drop 138 = dktX3_meets_6 := dk_seg dksX3_meets_5 22 rfl rfl
theorem dksX3_meets_7 : cX3_meets.data.toList.drop 162 = dktX3_meets_7 := dk_seg dksX3_meets_6 24 rfl rfl
theorem dksX3_meets_8 : cX3_meets.data.toList.drop 186 = dktX3_meets_8 := dk_seg dksX3_meets_7 24 rfl rfl
theorem dksX3_meets_9 : cX3_meets.data.toList.drop 208 = dktX3_meets_9 := dk_seg dksX3_meets_8 22 rfl rfl
theorem dksX3_meets_10 : cX3_meets.data.toList.drop 231 = dktX3_meets_10 := dk_seg dksX3_meets_9 23 rfl rfl
theorem dX3_meets_0 : decode cX3_meets 0 = .ok (.aload_n 0, 1) := dk_42 (dk_at dksX3_meets_0 0 rfl rfl)
theorem dX3_meets_1 : decode cX3_meets 1 = .ok (.getfield 94, 3) := dk_180 0 94 (dk_at dksX3_meets_0 1 rfl rfl)
theorem dX3_meets_4 : decode cX3_meets 4 = .ok (.iload_n 1, 1) := dk_27 (dk_at dksX3_meets_0 4 rfl rfl)
theorem dX3_meets_5 : decode cX3_meets 5 = .ok (.iaload, 1) := dk_46 (dk_at dksX3_meets_0 5 rfl rfl)
theorem dX3_meets_6 : decode cX3_meets 6 = .ok (.istore_n 3, 1) := dk_62 (dk_at dksX3_meets_0 6 rfl rfl)
theorem dX3_meets_7 : decode cX3_meets 7 = .ok (.aload_n 0, 1) := dk_42 (dk_at dksX3_meets_0 7 rfl rfl)
theorem dX3_meets_8 : decode cX3_meets 8 = .ok (.getfield 97, 3) := dk_180 0 97 (dk_at dksX3_meets_0 8 rfl rfl)
theorem dX3_meets_11 : decode cX3_meets 11 = .ok (.iload_n 1, 1) := dk_27 (dk_at dksX3_meets_0 11 rfl rfl)
theorem dX3_meets_12 : decode cX3_meets 12 = .ok (.iaload, 1) := dk_46 (dk_at dksX3_meets_0 12 rfl rfl)
theorem dX3_meets_13 : decode cX3_meets 13 = .ok (.iconst 1, 1) := dk_4 (dk_at dksX3_meets_0 13 rfl rfl)
theorem dX3_meets_14 : decode cX3_meets 14 = .ok (.if_icmp .ne 7, 3) := dk_160 0 7 (dk_at dksX3_meets_0 14 rfl rfl)
theorem dX3_meets_17 : decode cX3_meets 17 = .ok (.iload_n 2, 1) := dk_28 (dk_at dksX3_meets_0 17 rfl rfl)
theorem dX3_meets_18 : decode cX3_meets 18 = .ok (.goto 4, 3) := dk_167 0 4 (dk_at dksX3_meets_0 18 rfl rfl)
theorem dX3_meets_21 : decode cX3_meets 21 = .ok (.iload_n 1, 1) := dk_27 (dk_at dksX3_meets_0 21 rfl rfl)
theorem dX3_meets_22 : decode cX3_meets 22 = .ok (.istore 4, 2) := dk_54 4 (dk_at dksX3_meets_0 22 rfl rfl)
theorem dX3_meets_24 : decode cX3_meets 24 = .ok (.aload_n 0, 1) := dk_42 (dk_at dksX3_meets_1 0 rfl rfl)
theorem dX3_meets_25 : decode cX3_meets 25 = .ok (.getfield 97, 3) := dk_180 0 97 (dk_at dksX3_meets_1 1 rfl rfl)
theorem dX3_meets_28 : decode cX3_meets 28 = .ok (.iload_n 1, 1) := dk_27 (dk_at dksX3_meets_1 4 rfl rfl)
theorem dX3_meets_29 : decode cX3_meets 29 = .ok (.iaload, 1) := dk_46 (dk_at dksX3_meets_1 5 rfl rfl)
theorem dX3_meets_30 : decode cX3_meets 30 = .ok (.iconst 1, 1) := dk_4 (dk_at dksX3_meets_1 6 rfl rfl)
theorem dX3_meets_31 : decode cX3_meets 31 = .ok (.if_icmp .ne 7, 3) := dk_160 0 7 (dk_at dksX3_meets_1 7 rfl rfl)
theorem dX3_meets_34 : decode cX3_meets 34 = .ok (.iload_n 1, 1) := dk_27 (dk_at dksX3_meets_1 10 rfl rfl)
theorem dX3_meets_35 : decode cX3_meets 35 = .ok (.goto 4, 3) := dk_167 0 4 (dk_at dksX3_meets_1 11 rfl rfl)
theorem dX3_meets_38 : decode cX3_meets 38 = .ok (.iload_n 2, 1) := dk_28 (dk_at dksX3_meets_1 14 rfl rfl)
theorem dX3_meets_39 : decode cX3_meets 39 = .ok (.istore 5, 2) := dk_54 5 (dk_at dksX3_meets_1 15 rfl rfl)
theorem dX3_meets_41 : decode cX3_meets 41 = .ok (.aload_n 0, 1) := dk_42 (dk_at dksX3_meets_1 17 rfl rfl)
theorem dX3_meets_42 : decode cX3_meets 42 = .ok (.getfield 103, 3) := dk_180 0 103 (dk_at dksX3_meets_1 18 rfl rfl)
theorem dX3_meets_45 : decode cX3_meets 45 = .ok (.iload_n 1, 1) := dk_27 (dk_at dksX3_meets_1 21 rfl rfl)
theorem dX3_meets_46 : decode cX3_meets 46 = .ok (.iaload, 1) := dk_46 (dk_at dksX3_meets_1 22 rfl rfl)
theorem dX3_meets_47 : decode cX3_meets 47 = .ok (.aload_n 0, 1) := dk_42 (dk_at dksX3_meets_1 23 rfl rfl)
theorem dX3_meets_48 : decode cX3_meets 48 = .ok (.getfield 103, 3) := dk_180 0 103 (dk_at dksX3_meets_2 0 rfl rfl)
theorem dX3_meets_51 : decode cX3_meets 51 = .ok (.iload_n 2, 1) := dk_28 (dk_at dksX3_meets_2 3 rfl rfl)
theorem dX3_meets_52 : decode cX3_meets 52 = .ok (.iaload, 1) := dk_46 (dk_at dksX3_meets_2 4 rfl rfl)
theorem dX3_meets_53 : decode cX3_meets 53 = .ok (.if_icmp .ge 12, 3) := dk_162 0 12 (dk_at dksX3_meets_2 5 rfl rfl)
theorem dX3_meets_56 : decode cX3_meets 56 = .ok (.aload_n 0, 1) := dk_42 (dk_at dksX3_meets_2 8 rfl rfl)
theorem dX3_meets_57 : decode cX3_meets 57 = .ok (.getfield 103, 3) := dk_180 0 103 (dk_at dksX3_meets_2 9 rfl rfl)
theorem dX3_meets_60 : decode cX3_meets 60 = .ok (.iload_n 1, 1) := dk_27 (dk_at dksX3_meets_2 12 rfl rfl)
theorem dX3_meets_61 : decode cX3_meets 61 = .ok (.iaload, 1) := dk_46 (dk_at dksX3_meets_2 13 rfl rfl)
theorem dX3_meets_62 : decode cX3_meets 62 = .ok (.goto 9, 3) := dk_167 0 9 (dk_at dksX3_meets_2 14 rfl rfl)
theorem dX3_meets_65 : decode cX3_meets 65 = .ok (.aload_n 0, 1) := dk_42 (dk_at dksX3_meets_2 17 rfl rfl)
theorem dX3_meets_66 : decode cX3_meets 66 = .ok (.getfield 103, 3) := dk_180 0 103 (dk_at dksX3_meets_2 18 rfl rfl)
theorem dX3_meets_69 : decode cX3_meets 69 = .ok (.iload_n 2, 1) := dk_28 (dk_at dksX3_meets_2 21 rfl rfl)
theorem dX3_meets_70 : decode cX3_meets 70 = .ok (.iaload, 1) := dk_46 (dk_at dksX3_meets_2 22 rfl rfl)
theorem dX3_meets_71 : decode cX3_meets 71 = .ok (.istore 6, 2) := dk_54 6 (dk_at dksX3_meets_3 0 rfl rfl)
theorem dX3_meets_73 : decode cX3_meets 73 = .ok (.aload_n 0, 1) := dk_42 (dk_at dksX3_meets_3 2 rfl rfl)
theorem dX3_meets_74 : decode cX3_meets 74 = .ok (.getfield 88, 3) := dk_180 0 88 (dk_at dksX3_meets_3 3 rfl rfl)
theorem dX3_meets_77 : decode cX3_meets 77 = .ok (.iload_n 1, 1) := dk_27 (dk_at dksX3_meets_3 6 rfl rfl)
theorem dX3_meets_78 : decode cX3_meets 78 = .ok (.iaload, 1) := dk_46 (dk_at dksX3_meets_3 7 rfl rfl)
theorem dX3_meets_79 : decode cX3_meets 79 = .ok (.aload_n 0, 1) := dk_42 (dk_at dksX3_meets_3 8 rfl rfl)
theorem dX3_meets_80 : decode cX3_meets 80 = .ok (.getfield 88, 3) := dk_180 0 88 (dk_at dksX3_meets_3 9 rfl rfl)
theorem dX3_meets_83 : decode cX3_meets 83 = .ok (.iload_n 2, 1) := dk_28 (dk_at dksX3_meets_3 12 rfl rfl)
theorem dX3_meets_84 : decode cX3_meets 84 = .ok (.iaload, 1) := dk_46 (dk_at dksX3_meets_3 13 rfl rfl)
theorem dX3_meets_85 : decode cX3_meets 85 = .ok (.if_icmp .ne 7, 3) := dk_160 0 7 (dk_at dksX3_meets_3 14 rfl rfl)
theorem dX3_meets_88 : decode cX3_meets 88 = .ok (.iconst 0, 1) := dk_3 (dk_at dksX3_meets_3 17 rfl rfl)
theorem dX3_meets_89 : decode cX3_meets 89 = .ok (.goto 24, 3) := dk_167 0 24 (dk_at dksX3_meets_3 18 rfl rfl)
theorem dX3_meets_92 : decode cX3_meets 92 = .ok (.aload_n 0, 1) := dk_42 (dk_at dksX3_meets_3 21 rfl rfl)
theorem dX3_meets_93 : decode cX3_meets 93 = .ok (.aload_n 0, 1) := dk_42 (dk_at dksX3_meets_3 22 rfl rfl)
theorem dX3_meets_94 : decode cX3_meets 94 = .ok (.getfield 91, 3) := dk_180 0 91 (dk_at dksX3_meets_4 0 rfl rfl)
theorem dX3_meets_97 : decode cX3_meets 97 = .ok (.iload 4, 2) := dk_21 4 (dk_at dksX3_meets_4 3 rfl rfl)
theorem dX3_meets_99 : decode cX3_meets 99 = .ok (.iaload, 1) := dk_46 (dk_at dksX3_meets_4 5 rfl rfl)
theorem dX3_meets_100 : decode cX3_meets 100 = .ok (.aload_n 0, 1) := dk_42 (dk_at dksX3_meets_4 6 rfl rfl)
theorem dX3_meets_101 : decode cX3_meets 101 = .ok (.getfield 91, 3) := dk_180 0 91 (dk_at dksX3_meets_4 7 rfl rfl)
theorem dX3_meets_104 : decode cX3_meets 104 = .ok (.iload 5, 2) := dk_21 5 (dk_at dksX3_meets_4 10 rfl rfl)
theorem dX3_meets_106 : decode cX3_meets 106 = .ok (.iaload, 1) := dk_46 (dk_at dksX3_meets_4 12 rfl rfl)
theorem dX3_meets_107 : decode cX3_meets 107 = .ok (.iload_n 3, 1) := dk_29 (dk_at dksX3_meets_4 13 rfl rfl)
theorem dX3_meets_108 : decode cX3_meets 108 = .ok (.iload 6, 2) := dk_21 6 (dk_at dksX3_meets_4 14 rfl rfl)
theorem dX3_meets_110 : decode cX3_meets 110 = .ok (.invokevirtual 294, 3) := dk_182 1 38 (dk_at dksX3_meets_4 16 rfl rfl)
theorem dX3_meets_113 : decode cX3_meets 113 = .ok (.istore 7, 2) := dk_54 7 (dk_at dksX3_meets_4 19 rfl rfl)
theorem dX3_meets_115 : decode cX3_meets 115 = .ok (.aload_n 0, 1) := dk_42 (dk_at dksX3_meets_4 21 rfl rfl)
theorem dX3_meets_116 : decode cX3_meets 116 = .ok (.getfield 103, 3) := dk_180 0 103 (dk_at dksX3_meets_5 0 rfl rfl)
theorem dX3_meets_119 : decode cX3_meets 119 = .ok (.iload_n 1, 1) := dk_27 (dk_at dksX3_meets_5 3 rfl rfl)
theorem dX3_meets_120 : decode cX3_meets 120 = .ok (.dup2, 1) := dk_92 (dk_at dksX3_meets_5 4 rfl rfl)
theorem dX3_meets_121 : decode cX3_meets 121 = .ok (.iaload, 1) := dk_46 (dk_at dksX3_meets_5 5 rfl rfl)
theorem dX3_meets_122 : decode cX3_meets 122 = .ok (.iload 7, 2) := dk_21 7 (dk_at dksX3_meets_5 6 rfl rfl)
theorem dX3_meets_124 : decode cX3_meets 124 = .ok (.isub, 1) := dk_100 (dk_at dksX3_meets_5 8 rfl rfl)
theorem dX3_meets_125 : decode cX3_meets 125 = .ok (.iastore, 1) := dk_79 (dk_at dksX3_meets_5 9 rfl rfl)
theorem dX3_meets_126 : decode cX3_meets 126 = .ok (.aload_n 0, 1) := dk_42 (dk_at dksX3_meets_5 10 rfl rfl)
theorem dX3_meets_127 : decode cX3_meets 127 = .ok (.getfield 103, 3) := dk_180 0 103 (dk_at dksX3_meets_5 11 rfl rfl)
theorem dX3_meets_130 : decode cX3_meets 130 = .ok (.iload_n 2, 1) := dk_28 (dk_at dksX3_meets_5 14 rfl rfl)
theorem dX3_meets_131 : decode cX3_meets 131 = .ok (.dup2, 1) := dk_92 (dk_at dksX3_meets_5 15 rfl rfl)
theorem dX3_meets_132 : decode cX3_meets 132 = .ok (.iaload, 1) := dk_46 (dk_at dksX3_meets_5 16 rfl rfl)
theorem dX3_meets_133 : decode cX3_meets 133 = .ok (.iload 7, 2) := dk_21 7 (dk_at dksX3_meets_5 17 rfl rfl)
theorem dX3_meets_135 : decode cX3_meets 135 = .ok (.isub, 1) := dk_100 (dk_at dksX3_meets_5 19 rfl rfl)
theorem dX3_meets_136 : decode cX3_meets 136 = .ok (.iastore, 1) := dk_79 (dk_at dksX3_meets_5 20 rfl rfl)
theorem dX3_meets_137 : decode cX3_meets 137 = .ok (.aload_n 0, 1) := dk_42 (dk_at dksX3_meets_5 21 rfl rfl)
theorem dX3_meets_138 : decode cX3_meets 138 = .ok (.getfield 151, 3) := dk_180 0 151 (dk_at dksX3_meets_6 0 rfl rfl)
theorem dX3_meets_141 : decode cX3_meets 141 = .ok (.iconst 4, 1) := dk_7 (dk_at dksX3_meets_6 3 rfl rfl)
theorem dX3_meets_142 : decode cX3_meets 142 = .ok (.aload_n 0, 1) := dk_42 (dk_at dksX3_meets_6 4 rfl rfl)
theorem dX3_meets_143 : decode cX3_meets 143 = .ok (.getfield 91, 3) := dk_180 0 91 (dk_at dksX3_meets_6 5 rfl rfl)
theorem dX3_meets_146 : decode cX3_meets 146 = .ok (.iload 4, 2) := dk_21 4 (dk_at dksX3_meets_6 8 rfl rfl)
theorem dX3_meets_148 : decode cX3_meets 148 = .ok (.iaload, 1) := dk_46 (dk_at dksX3_meets_6 10 rfl rfl)
theorem dX3_meets_149 : decode cX3_meets 149 = .ok (.imul, 1) := dk_104 (dk_at dksX3_meets_6 11 rfl rfl)
theorem dX3_meets_150 : decode cX3_meets 150 = .ok (.iload_n 3, 1) := dk_29 (dk_at dksX3_meets_6 12 rfl rfl)
theorem dX3_meets_151 : decode cX3_meets 151 = .ok (.iadd, 1) := dk_96 (dk_at dksX3_meets_6 13 rfl rfl)
theorem dX3_meets_152 : decode cX3_meets 152 = .ok (.dup2, 1) := dk_92 (dk_at dksX3_meets_6 14 rfl rfl)
theorem dX3_meets_153 : decode cX3_meets 153 = .ok (.iaload, 1) := dk_46 (dk_at dksX3_meets_6 15 rfl rfl)
theorem dX3_meets_154 : decode cX3_meets 154 = .ok (.iload 7, 2) := dk_21 7 (dk_at dksX3_meets_6 16 rfl rfl)
theorem dX3_meets_156 : decode cX3_meets 156 = .ok (.iadd, 1) := dk_96 (dk_at dksX3_meets_6 18 rfl rfl)
theorem dX3_meets_157 : decode cX3_meets 157 = .ok (.iastore, 1) := dk_79 (dk_at dksX3_meets_6 19 rfl rfl)
theorem dX3_meets_158 : decode cX3_meets 158 = .ok (.aload_n 0, 1) := dk_42 (dk_at dksX3_meets_6 20 rfl rfl)
theorem dX3_meets_159 : decode cX3_meets 159 = .ok (.getfield 151, 3) := dk_180 0 151 (dk_at dksX3_meets_6 21 rfl rfl)
theorem dX3_meets_162 : decode cX3_meets 162 = .ok (.iconst 4, 1) := dk_7 (dk_at dksX3_meets_7 0 rfl rfl)
theorem dX3_meets_163 : decode cX3_meets 163 = .ok (.aload_n 0, 1) := dk_42 (dk_at dksX3_meets_7 1 rfl rfl)
theorem dX3_meets_164 : decode cX3_meets 164 = .ok (.getfield 91, 3) := dk_180 0 91 (dk_at dksX3_meets_7 2 rfl rfl)
theorem dX3_meets_167 : decode cX3_meets 167 = .ok (.iload 5, 2) := dk_21 5 (dk_at dksX3_meets_7 5 rfl rfl)
theorem dX3_meets_169 : decode cX3_meets 169 = .ok (.iaload, 1) := dk_46 (dk_at dksX3_meets_7 7 rfl rfl)
theorem dX3_meets_170 : decode cX3_meets 170 = .ok (.imul, 1) := dk_104 (dk_at dksX3_meets_7 8 rfl rfl)
theorem dX3_meets_171 : decode cX3_meets 171 = .ok (.iload_n 3, 1) := dk_29 (dk_at dksX3_meets_7 9 rfl rfl)
theorem dX3_meets_172 : decode cX3_meets 172 = .ok (.iadd, 1) := dk_96 (dk_at dksX3_meets_7 10 rfl rfl)
theorem dX3_meets_173 : decode cX3_meets 173 = .ok (.dup2, 1) := dk_92 (dk_at dksX3_meets_7 11 rfl rfl)
theorem dX3_meets_174 : decode cX3_meets 174 = .ok (.iaload, 1) := dk_46 (dk_at dksX3_meets_7 12 rfl rfl)
theorem dX3_meets_175 : decode cX3_meets 175 = .ok (.iload 7, 2) := dk_21 7 (dk_at dksX3_meets_7 13 rfl rfl)
theorem dX3_meets_177 : decode cX3_meets 177 = .ok (.isub, 1) := dk_100 (dk_at dksX3_meets_7 15 rfl rfl)
theorem dX3_meets_178 : decode cX3_meets 178 = .ok (.iastore, 1) := dk_79 (dk_at dksX3_meets_7 16 rfl rfl)
theorem dX3_meets_179 : decode cX3_meets 179 = .ok (.aload_n 0, 1) := dk_42 (dk_at dksX3_meets_7 17 rfl rfl)
theorem dX3_meets_180 : decode cX3_meets 180 = .ok (.aload_n 0, 1) := dk_42 (dk_at dksX3_meets_7 18 rfl rfl)
theorem dX3_meets_181 : decode cX3_meets 181 = .ok (.getfield 88, 3) := dk_180 0 88 (dk_at dksX3_meets_7 19 rfl rfl)
theorem dX3_meets_184 : decode cX3_meets 184 = .ok (.iload 4, 2) := dk_21 4 (dk_at dksX3_meets_7 22 rfl rfl)
theorem dX3_meets_186 : decode cX3_meets 186 = .ok (.iaload, 1) := dk_46 (dk_at dksX3_meets_8 0 rfl rfl)
theorem dX3_meets_187 : decode cX3_meets 187 = .ok (.aload_n 0, 1) := dk_42 (dk_at dksX3_meets_8 1 rfl rfl)
theorem dX3_meets_188 : decode cX3_meets 188 = .ok (.getfield 91, 3) := dk_180 0 91 (dk_at dksX3_meets_8 2 rfl rfl)
theorem dX3_meets_191 : decode cX3_meets 191 = .ok (.iload 4, 2) := dk_21 4 (dk_at dksX3_meets_8 5 rfl rfl)
theorem dX3_meets_193 : decode cX3_meets 193 = .ok (.iaload, 1) := dk_46 (dk_at dksX3_meets_8 7 rfl rfl)
theorem dX3_meets_194 : decode cX3_meets 194 = .ok (.iload_n 3, 1) := dk_29 (dk_at dksX3_meets_8 8 rfl rfl)
theorem dX3_meets_195 : decode cX3_meets 195 = .ok (.iload 7, 2) := dk_21 7 (dk_at dksX3_meets_8 9 rfl rfl)
theorem dX3_meets_197 : decode cX3_meets 197 = .ok (.aload_n 0, 1) := dk_42 (dk_at dksX3_meets_8 11 rfl rfl)
theorem dX3_meets_198 : decode cX3_meets 198 = .ok (.getfield 100, 3) := dk_180 0 100 (dk_at dksX3_meets_8 12 rfl rfl)
theorem dX3_meets_201 : decode cX3_meets 201 = .ok (.iload_n 2, 1) := dk_28 (dk_at dksX3_meets_8 15 rfl rfl)
theorem dX3_meets_202 : decode cX3_meets 202 = .ok (.iaload, 1) := dk_46 (dk_at dksX3_meets_8 16 rfl rfl)
theorem dX3_meets_203 : decode cX3_meets 203 = .ok (.invokevirtual 287, 3) := dk_182 1 31 (dk_at dksX3_meets_8 17 rfl rfl)
theorem dX3_meets_206 : decode cX3_meets 206 = .ok (.aload_n 0, 1) := dk_42 (dk_at dksX3_meets_8 20 rfl rfl)
theorem dX3_meets_207 : decode cX3_meets 207 = .ok (.aload_n 0, 1) := dk_42 (dk_at dksX3_meets_8 21 rfl rfl)
theorem dX3_meets_208 : decode cX3_meets 208 = .ok (.getfield 88, 3) := dk_180 0 88 (dk_at dksX3_meets_9 0 rfl rfl)
theorem dX3_meets_211 : decode cX3_meets 211 = .ok (.iload 5, 2) := dk_21 5 (dk_at dksX3_meets_9 3 rfl rfl)
theorem dX3_meets_213 : decode cX3_meets 213 = .ok (.iaload, 1) := dk_46 (dk_at dksX3_meets_9 5 rfl rfl)
theorem dX3_meets_214 : decode cX3_meets 214 = .ok (.aload_n 0, 1) := dk_42 (dk_at dksX3_meets_9 6 rfl rfl)
theorem dX3_meets_215 : decode cX3_meets 215 = .ok (.getfield 91, 3) := dk_180 0 91 (dk_at dksX3_meets_9 7 rfl rfl)
theorem dX3_meets_218 : decode cX3_meets 218 = .ok (.iload 5, 2) := dk_21 5 (dk_at dksX3_meets_9 10 rfl rfl)
theorem dX3_meets_220 : decode cX3_meets 220 = .ok (.iaload, 1) := dk_46 (dk_at dksX3_meets_9 12 rfl rfl)
theorem dX3_meets_221 : decode cX3_meets 221 = .ok (.iload_n 3, 1) := dk_29 (dk_at dksX3_meets_9 13 rfl rfl)
theorem dX3_meets_222 : decode cX3_meets 222 = .ok (.iload 7, 2) := dk_21 7 (dk_at dksX3_meets_9 14 rfl rfl)
theorem dX3_meets_224 : decode cX3_meets 224 = .ok (.ineg, 1) := dk_116 (dk_at dksX3_meets_9 16 rfl rfl)
theorem dX3_meets_225 : decode cX3_meets 225 = .ok (.aload_n 0, 1) := dk_42 (dk_at dksX3_meets_9 17 rfl rfl)
theorem dX3_meets_226 : decode cX3_meets 226 = .ok (.getfield 100, 3) := dk_180 0 100 (dk_at dksX3_meets_9 18 rfl rfl)
theorem dX3_meets_229 : decode cX3_meets 229 = .ok (.iload_n 2, 1) := dk_28 (dk_at dksX3_meets_9 21 rfl rfl)
theorem dX3_meets_230 : decode cX3_meets 230 = .ok (.iaload, 1) := dk_46 (dk_at dksX3_meets_9 22 rfl rfl)
theorem dX3_meets_231 : decode cX3_meets 231 = .ok (.invokevirtual 287, 3) := dk_182 1 31 (dk_at dksX3_meets_10 0 rfl rfl)
theorem dX3_meets_234 : decode cX3_meets 234 = .ok (.return_, 1) := dk_177 (dk_at dksX3_meets_10 3 rfl rfl)
abbrev cX3_room : ByteArray := prog_15_method_35_code
def yX3_room : MethodName := ⟨RX3, "room", "(IIII)I"⟩
def dkwX3_room_7 : List UInt8 := [7, 28, 104, 29, 96, 92, 46, 21, 5, 96, 79, 21, 5, 172]
abbrev dktX3_room_7 : List UInt8 := dkwX3_room_7 ++ []
def dkwX3_room_6 : List UInt8 := [96, 79, 167, 255, 126, 42, 180, 0, 151, 7, 27, 104, 29, 96, 92, 46, 21, 5, 100, 79, 42, 180, 0, 151]
abbrev dktX3_room_6 : List UInt8 := dkwX3_room_6 ++ dktX3_room_7
def dkwX3_room_5 : List UInt8 := [4, 100, 79, 42, 180, 0, 151, 7, 28, 104, 29, 96, 92, 46, 21, 6, 153, 0, 7, 3, 167, 0, 4, 4]
abbrev dktX3_room_5 : List UInt8 := dkwX3_room_5 ++ dktX3_room_6
def dkwX3_room_4 : List UInt8 := [3, 96, 54, 5, 42, 180, 0, 151, 7, 27, 104, 29, 96, 92, 46, 21, 6, 153, 0, 7, 3, 167, 0, 4]
abbrev dktX3_room_4 : List UInt8 := dkwX3_room_4 ++ dktX3_room_5
def dkwX3_room_3 : List UInt8 := [180, 0, 151, 16, 8, 29, 96, 46, 182, 0, 228, 54, 6, 21, 5, 21, 6, 153, 0, 7, 4, 167, 0, 4]
abbrev dktX3_room_3 : List UInt8 := dkwX3_room_3 ++ dktX3_room_4
def dkwX3_room_2 : List UInt8 := [29, 96, 92, 46, 4, 100, 79, 42, 42, 180, 0, 151, 29, 46, 42, 180, 0, 151, 7, 29, 96, 46, 42]
abbrev dktX3_room_2 : List UInt8 := dkwX3_room_2 ++ dktX3_room_3
def dkwX3_room_1 : List UInt8 := [162, 0, 124, 42, 180, 0, 151, 7, 27, 104, 29, 96, 92, 46, 4, 96, 79, 42, 180, 0, 151, 7, 28, 104]
abbrev dktX3_room_1 : List UInt8 := dkwX3_room_1 ++ dktX3_room_2
def dkwX3_room_0 : List UInt8 := [27, 28, 160, 0, 6, 21, 4, 172, 3, 54, 5, 4, 54, 6, 21, 6, 153, 0, 131, 21, 5, 21, 4]
abbrev dktX3_room_0 : List UInt8 := dkwX3_room_0 ++ dktX3_room_1
theorem dksX3_room_0 : cX3_room.data.toList.drop 0 = dktX3_room_0 := by decide +kernel
theorem dksX3_room_1 : cX3_room.data.toList.drop 23 = dktX3_room_1 := dk_seg dksX3_room_0 23 rfl rfl
theorem dksX3_room_2 : cX3_room.data.toList.drop 47 = dktX3_room_2 := dk_seg dksX3_room_1 24 rfl rfl
theorem dksX3_room_3 : cX3_room.data.toList.drop 70 = dktX3_room_3 := dk_seg dksX3_room_2 23 rfl rfl
theorem dksX3_room_4 : cX3_room.data.toList.drop 94 = dktX3_room_4 := dk_seg dksX3_room_3 24 rfl rfl
theorem dksX3_room_5 : cX3_room.data.toList.drop 118 = dktX3_room_5 := dk_seg dksX3_room_4 24 rfl rfl
theorem dksX3_room_6 : cX3_room.data.toList.drop 142 = dktX3_room_6 := dk_seg dksX3_room_5 24 rfl rfl
theorem dksX3_room_7 : cX3_room.data.toList.drop 166 = dktX3_room_7 := dk_seg dksX3_room_6 24 rfl rfl
theorem dX3_room_0 : decode cX3_room 0 = .ok (.iload_n 1, 1) := dk_27 (dk_at dksX3_room_0 0 rfl rfl)
theorem dX3_room_1 : decode cX3_room 1 = .ok (.iload_n 2, 1) := dk_28 (dk_at dksX3_room_0 1 rfl rfl)
theorem dX3_room_2 : decode cX3_room 2 = .ok (.if_icmp .ne 6, 3) := dk_160 0 6 (dk_at dksX3_room_0 2 rfl rfl)
theorem dX3_room_5 : decode cX3_room 5 = .ok (.iload 4, 2) := dk_21 4 (dk_at dksX3_room_0 5 rfl rfl)
theorem dX3_room_7 : decode cX3_room 7 = .ok (.ireturn, 1) := dk_172 (dk_at dksX3_room_0 7 rfl rfl)
theorem dX3_room_8 : decode cX3_room 8 = .ok (.iconst 0, 1) := dk_3 (dk_at dksX3_room_0 8 rfl rfl)
theorem dX3_room_9 : decode cX3_room 9 = .ok (.istore 5, 2) := dk_54 5 (dk_at dksX3_room_0 9 rfl rfl)
theorem dX3_room_11 : decode cX3_room 11 = .ok (.iconst 1, 1) := dk_4 (dk_at dksX3_room_0 11 rfl rfl)
theorem dX3_room_12 : decode cX3_room 12 = .ok (.istore 6, 2) := dk_54 6 (dk_at dksX3_room_0 12 rfl rfl)
theorem dX3_room_14 : decode cX3_room 14 = .ok (.iload 6, 2) := dk_21 6 (dk_at dksX3_room_0 14 rfl rfl)
theorem dX3_room_16 : decode cX3_room 16 = .ok (.ifCond .eq 131, 3) := dk_153 0 131 (dk_at dksX3_room_0 16 rfl rfl)
theorem dX3_room_19 : decode cX3_room 19 = .ok (.iload 5, 2) := dk_21 5 (dk_at dksX3_room_0 19 rfl rfl)
theorem dX3_room_21 : decode cX3_room 21 = .ok (.iload 4, 2) := dk_21 4 (dk_at dksX3_room_0 21 rfl rfl)
theorem dX3_room_23 : decode cX3_room 23 = .ok (.if_icmp .ge 124, 3) := dk_162 0 124 (dk_at dksX3_room_1 0 rfl rfl)
theorem dX3_room_26 : decode cX3_room 26 = .ok (.aload_n 0, 1) := dk_42 (dk_at dksX3_room_1 3 rfl rfl)
theorem dX3_room_27 : decode cX3_room 27 = .ok (.getfield 151, 3) := dk_180 0 151 (dk_at dksX3_room_1 4 rfl rfl)
theorem dX3_room_30 : decode cX3_room 30 = .ok (.iconst 4, 1) := dk_7 (dk_at dksX3_room_1 7 rfl rfl)
theorem dX3_room_31 : decode cX3_room 31 = .ok (.iload_n 1, 1) := dk_27 (dk_at dksX3_room_1 8 rfl rfl)
theorem dX3_room_32 : decode cX3_room 32 = .ok (.imul, 1) := dk_104 (dk_at dksX3_room_1 9 rfl rfl)
theorem dX3_room_33 : decode cX3_room 33 = .ok (.iload_n 3, 1) := dk_29 (dk_at dksX3_room_1 10 rfl rfl)
theorem dX3_room_34 : decode cX3_room 34 = .ok (.iadd, 1) := dk_96 (dk_at dksX3_room_1 11 rfl rfl)
theorem dX3_room_35 : decode cX3_room 35 = .ok (.dup2, 1) := dk_92 (dk_at dksX3_room_1 12 rfl rfl)
theorem dX3_room_36 : decode cX3_room 36 = .ok (.iaload, 1) := dk_46 (dk_at dksX3_room_1 13 rfl rfl)
theorem dX3_room_37 : decode cX3_room 37 = .ok (.iconst 1, 1) := dk_4 (dk_at dksX3_room_1 14 rfl rfl)
theorem dX3_room_38 : decode cX3_room 38 = .ok (.iadd, 1) := dk_96 (dk_at dksX3_room_1 15 rfl rfl)
theorem dX3_room_39 : decode cX3_room 39 = .ok (.iastore, 1) := dk_79 (dk_at dksX3_room_1 16 rfl rfl)
theorem dX3_room_40 : decode cX3_room 40 = .ok (.aload_n 0, 1) := dk_42 (dk_at dksX3_room_1 17 rfl rfl)
theorem dX3_room_41 : decode cX3_room 41 = .ok (.getfield 151, 3) := dk_180 0 151 (dk_at dksX3_room_1 18 rfl rfl)
theorem dX3_room_44 : decode cX3_room 44 = .ok (.iconst 4, 1) := dk_7 (dk_at dksX3_room_1 21 rfl rfl)
theorem dX3_room_45 : decode cX3_room 45 = .ok (.iload_n 2, 1) := dk_28 (dk_at dksX3_room_1 22 rfl rfl)
theorem dX3_room_46 : decode cX3_room 46 = .ok (.imul, 1) := dk_104 (dk_at dksX3_room_1 23 rfl rfl)
theorem dX3_room_47 : decode cX3_room 47 = .ok (.iload_n 3, 1) := dk_29 (dk_at dksX3_room_2 0 rfl rfl)
theorem dX3_room_48 : decode cX3_room 48 = .ok (.iadd, 1) := dk_96 (dk_at dksX3_room_2 1 rfl rfl)
theorem dX3_room_49 : decode cX3_room 49 = .ok (.dup2, 1) := dk_92 (dk_at dksX3_room_2 2 rfl rfl)
theorem dX3_room_50 : decode cX3_room 50 = .ok (.iaload, 1) := dk_46 (dk_at dksX3_room_2 3 rfl rfl)
theorem dX3_room_51 : decode cX3_room 51 = .ok (.iconst 1, 1) := dk_4 (dk_at dksX3_room_2 4 rfl rfl)
theorem dX3_room_52 : decode cX3_room 52 = .ok (.isub, 1) := dk_100 (dk_at dksX3_room_2 5 rfl rfl)
theorem dX3_room_53 : decode cX3_room 53 = .ok (.iastore, 1) := dk_79 (dk_at dksX3_room_2 6 rfl rfl)
theorem dX3_room_54 : decode cX3_room 54 = .ok (.aload_n 0, 1) := dk_42 (dk_at dksX3_room_2 7 rfl rfl)
theorem dX3_room_55 : decode cX3_room 55 = .ok (.aload_n 0, 1) := dk_42 (dk_at dksX3_room_2 8 rfl rfl)
theorem dX3_room_56 : decode cX3_room 56 = .ok (.getfield 151, 3) := dk_180 0 151 (dk_at dksX3_room_2 9 rfl rfl)
theorem dX3_room_59 : decode cX3_room 59 = .ok (.iload_n 3, 1) := dk_29 (dk_at dksX3_room_2 12 rfl rfl)
theorem dX3_room_60 : decode cX3_room 60 = .ok (.iaload, 1) := dk_46 (dk_at dksX3_room_2 13 rfl rfl)
theorem dX3_room_61 : decode cX3_room 61 = .ok (.aload_n 0, 1) := dk_42 (dk_at dksX3_room_2 14 rfl rfl)
theorem dX3_room_62 : decode cX3_room 62 = .ok (.getfield 151, 3) := dk_180 0 151 (dk_at dksX3_room_2 15 rfl rfl)
theorem dX3_room_65 : decode cX3_room 65 = .ok (.iconst 4, 1) := dk_7 (dk_at dksX3_room_2 18 rfl rfl)
theorem dX3_room_66 : decode cX3_room 66 = .ok (.iload_n 3, 1) := dk_29 (dk_at dksX3_room_2 19 rfl rfl)
theorem dX3_room_67 : decode cX3_room 67 = .ok (.iadd, 1) := dk_96 (dk_at dksX3_room_2 20 rfl rfl)
theorem dX3_room_68 : decode cX3_room 68 = .ok (.iaload, 1) := dk_46 (dk_at dksX3_room_2 21 rfl rfl)
theorem dX3_room_69 : decode cX3_room 69 = .ok (.aload_n 0, 1) := dk_42 (dk_at dksX3_room_2 22 rfl rfl)
theorem dX3_room_70 : decode cX3_room 70 = .ok (.getfield 151, 3) := dk_180 0 151 (dk_at dksX3_room_3 0 rfl rfl)
theorem dX3_room_73 : decode cX3_room 73 = .ok (.bipush 8, 2) := dk_16 8 (dk_at dksX3_room_3 3 rfl rfl)
theorem dX3_room_75 : decode cX3_room 75 = .ok (.iload_n 3, 1) := dk_29 (dk_at dksX3_room_3 5 rfl rfl)
theorem dX3_room_76 : decode cX3_room 76 = .ok (.iadd, 1) := dk_96 (dk_at dksX3_room_3 6 rfl rfl)
theorem dX3_room_77 : decode cX3_room 77 = .ok (.iaload, 1) := dk_46 (dk_at dksX3_room_3 7 rfl rfl)
theorem dX3_room_78 : decode cX3_room 78 = .ok (.invokevirtual 228, 3) := dk_182 0 228 (dk_at dksX3_room_3 8 rfl rfl)
theorem dX3_room_81 : decode cX3_room 81 = .ok (.istore 6, 2) := dk_54 6 (dk_at dksX3_room_3 11 rfl rfl)
theorem dX3_room_83 : decode cX3_room 83 = .ok (.iload 5, 2) := dk_21 5 (dk_at dksX3_room_3 13 rfl rfl)
theorem dX3_room_85 : decode cX3_room 85 = .ok (.iload 6, 2) := dk_21 6 (dk_at dksX3_room_3 15 rfl rfl)
theorem dX3_room_87 : decode cX3_room 87 = .ok (.ifCond .eq 7, 3) := dk_153 0 7 (dk_at dksX3_room_3 17 rfl rfl)
theorem dX3_room_90 : decode cX3_room 90 = .ok (.iconst 1, 1) := dk_4 (dk_at dksX3_room_3 20 rfl rfl)
theorem dX3_room_91 : decode cX3_room 91 = .ok (.goto 4, 3) := dk_167 0 4 (dk_at dksX3_room_3 21 rfl rfl)
theorem dX3_room_94 : decode cX3_room 94 = .ok (.iconst 0, 1) := dk_3 (dk_at dksX3_room_4 0 rfl rfl)
theorem dX3_room_95 : decode cX3_room 95 = .ok (.iadd, 1) := dk_96 (dk_at dksX3_room_4 1 rfl rfl)
theorem dX3_room_96 : decode cX3_room 96 = .ok (.istore 5, 2) := dk_54 5 (dk_at dksX3_room_4 2 rfl rfl)
theorem dX3_room_98 : decode cX3_room 98 = .ok (.aload_n 0, 1) := dk_42 (dk_at dksX3_room_4 4 rfl rfl)
theorem dX3_room_99 : decode cX3_room 99 = .ok (.getfield 151, 3) := dk_180 0 151 (dk_at dksX3_room_4 5 rfl rfl)
theorem dX3_room_102 : decode cX3_room 102 = .ok (.iconst 4, 1) := dk_7 (dk_at dksX3_room_4 8 rfl rfl)
theorem dX3_room_103 : decode cX3_room 103 = .ok (.iload_n 1, 1) := dk_27 (dk_at dksX3_room_4 9 rfl rfl)
theorem dX3_room_104 : decode cX3_room 104 = .ok (.imul, 1) := dk_104 (dk_at dksX3_room_4 10 rfl rfl)
theorem dX3_room_105 : decode cX3_room 105 = .ok (.iload_n 3, 1) := dk_29 (dk_at dksX3_room_4 11 rfl rfl)
theorem dX3_room_106 : decode cX3_room 106 = .ok (.iadd, 1) := dk_96 (dk_at dksX3_room_4 12 rfl rfl)
theorem dX3_room_107 : decode cX3_room 107 = .ok (.dup2, 1) := dk_92 (dk_at dksX3_room_4 13 rfl rfl)
theorem dX3_room_108 : decode cX3_room 108 = .ok (.iaload, 1) := dk_46 (dk_at dksX3_room_4 14 rfl rfl)
theorem dX3_room_109 : decode cX3_room 109 = .ok (.iload 6, 2) := dk_21 6 (dk_at dksX3_room_4 15 rfl rfl)
theorem dX3_room_111 : decode cX3_room 111 = .ok (.ifCond .eq 7, 3) := dk_153 0 7 (dk_at dksX3_room_4 17 rfl rfl)
theorem dX3_room_114 : decode cX3_room 114 = .ok (.iconst 0, 1) := dk_3 (dk_at dksX3_room_4 20 rfl rfl)
theorem dX3_room_115 : decode cX3_room 115 = .ok (.goto 4, 3) := dk_167 0 4 (dk_at dksX3_room_4 21 rfl rfl)
theorem dX3_room_118 : decode cX3_room 118 = .ok (.iconst 1, 1) := dk_4 (dk_at dksX3_room_5 0 rfl rfl)
theorem dX3_room_119 : decode cX3_room 119 = .ok (.isub, 1) := dk_100 (dk_at dksX3_room_5 1 rfl rfl)
theorem dX3_room_120 : decode cX3_room 120 = .ok (.iastore, 1) := dk_79 (dk_at dksX3_room_5 2 rfl rfl)
theorem dX3_room_121 : decode cX3_room 121 = .ok (.aload_n 0, 1) := dk_42 (dk_at dksX3_room_5 3 rfl rfl)
theorem dX3_room_122 : decode cX3_room 122 = .ok (.getfield 151, 3) := dk_180 0 151 (dk_at dksX3_room_5 4 rfl rfl)
theorem dX3_room_125 : decode cX3_room 125 = .ok (.iconst 4, 1) := dk_7 (dk_at dksX3_room_5 7 rfl rfl)
theorem dX3_room_126 : decode cX3_room 126 = .ok (.iload_n 2, 1) := dk_28 (dk_at dksX3_room_5 8 rfl rfl)
theorem dX3_room_127 : decode cX3_room 127 = .ok (.imul, 1) := dk_104 (dk_at dksX3_room_5 9 rfl rfl)
theorem dX3_room_128 : decode cX3_room 128 = .ok (.iload_n 3, 1) := dk_29 (dk_at dksX3_room_5 10 rfl rfl)
theorem dX3_room_129 : decode cX3_room 129 = .ok (.iadd, 1) := dk_96 (dk_at dksX3_room_5 11 rfl rfl)
theorem dX3_room_130 : decode cX3_room 130 = .ok (.dup2, 1) := dk_92 (dk_at dksX3_room_5 12 rfl rfl)
theorem dX3_room_131 : decode cX3_room 131 = .ok (.iaload, 1) := dk_46 (dk_at dksX3_room_5 13 rfl rfl)
theorem dX3_room_132 : decode cX3_room 132 = .ok (.iload 6, 2) := dk_21 6 (dk_at dksX3_room_5 14 rfl rfl)
theorem dX3_room_134 : decode cX3_room 134 = .ok (.ifCond .eq 7, 3) := dk_153 0 7 (dk_at dksX3_room_5 16 rfl rfl)
theorem dX3_room_137 : decode cX3_room 137 = .ok (.iconst 0, 1) := dk_3 (dk_at dksX3_room_5 19 rfl rfl)
theorem dX3_room_138 : decode cX3_room 138 = .ok (.goto 4, 3) := dk_167 0 4 (dk_at dksX3_room_5 20 rfl rfl)
theorem dX3_room_141 : decode cX3_room 141 = .ok (.iconst 1, 1) := dk_4 (dk_at dksX3_room_5 23 rfl rfl)
theorem dX3_room_142 : decode cX3_room 142 = .ok (.iadd, 1) := dk_96 (dk_at dksX3_room_6 0 rfl rfl)
theorem dX3_room_143 : decode cX3_room 143 = .ok (.iastore, 1) := dk_79 (dk_at dksX3_room_6 1 rfl rfl)
theorem dX3_room_144 : decode cX3_room 144 = .ok (.goto (-130), 3) := dk_167 255 126 (dk_at dksX3_room_6 2 rfl rfl)
theorem dX3_room_147 : decode cX3_room 147 = .ok (.aload_n 0, 1) := dk_42 (dk_at dksX3_room_6 5 rfl rfl)
theorem dX3_room_148 : decode cX3_room 148 = .ok (.getfield 151, 3) := dk_180 0 151 (dk_at dksX3_room_6 6 rfl rfl)
theorem dX3_room_151 : decode cX3_room 151 = .ok (.iconst 4, 1) := dk_7 (dk_at dksX3_room_6 9 rfl rfl)
theorem dX3_room_152 : decode cX3_room 152 = .ok (.iload_n 1, 1) := dk_27 (dk_at dksX3_room_6 10 rfl rfl)
theorem dX3_room_153 : decode cX3_room 153 = .ok (.imul, 1) := dk_104 (dk_at dksX3_room_6 11 rfl rfl)
theorem dX3_room_154 : decode cX3_room 154 = .ok (.iload_n 3, 1) := dk_29 (dk_at dksX3_room_6 12 rfl rfl)
theorem dX3_room_155 : decode cX3_room 155 = .ok (.iadd, 1) := dk_96 (dk_at dksX3_room_6 13 rfl rfl)
theorem dX3_room_156 : decode cX3_room 156 = .ok (.dup2, 1) := dk_92 (dk_at dksX3_room_6 14 rfl rfl)
theorem dX3_room_157 : decode cX3_room 157 = .ok (.iaload, 1) := dk_46 (dk_at dksX3_room_6 15 rfl rfl)
theorem dX3_room_158 : decode cX3_room 158 = .ok (.iload 5, 2) := dk_21 5 (dk_at dksX3_room_6 16 rfl rfl)
theorem dX3_room_160 : decode cX3_room 160 = .ok (.isub, 1) := dk_100 (dk_at dksX3_room_6 18 rfl rfl)
theorem dX3_room_161 : decode cX3_room 161 = .ok (.iastore, 1) := dk_79 (dk_at dksX3_room_6 19 rfl rfl)
theorem dX3_room_162 : decode cX3_room 162 = .ok (.aload_n 0, 1) := dk_42 (dk_at dksX3_room_6 20 rfl rfl)
theorem dX3_room_163 : decode cX3_room 163 = .ok (.getfield 151, 3) := dk_180 0 151 (dk_at dksX3_room_6 21 rfl rfl)
theorem dX3_room_166 : decode cX3_room 166 = .ok (.iconst 4, 1) := dk_7 (dk_at dksX3_room_7 0 rfl rfl)
theorem dX3_room_167 : decode cX3_room 167 = .ok (.iload_n 2, 1) := dk_28 (dk_at dksX3_room_7 1 rfl rfl)
theorem dX3_room_168 : decode cX3_room 168 = .ok (.imul, 1) := dk_104 (dk_at dksX3_room_7 2 rfl rfl)
theorem dX3_room_169 : decode cX3_room 169 = .ok (.iload_n 3, 1) := dk_29 (dk_at dksX3_room_7 3 rfl rfl)
theorem dX3_room_170 : decode cX3_room 170 = .ok (.iadd, 1) := dk_96 (dk_at dksX3_room_7 4 rfl rfl)
theorem dX3_room_171 : decode cX3_room 171 = .ok (.dup2, 1) := dk_92 (dk_at dksX3_room_7 5 rfl rfl)
theorem dX3_room_172 : decode cX3_room 172 = .ok (.iaload, 1) := dk_46 (dk_at dksX3_room_7 6 rfl rfl)
theorem dX3_room_173 : decode cX3_room 173 = .ok (.iload 5, 2) := dk_21 5 (dk_at dksX3_room_7 7 rfl rfl)
theorem dX3_room_175 : decode cX3_room 175 = .ok (.iadd, 1) := dk_96 (dk_at dksX3_room_7 9 rfl rfl)
theorem dX3_room_176 : decode cX3_room 176 = .ok (.iastore, 1) := dk_79 (dk_at dksX3_room_7 10 rfl rfl)
theorem dX3_room_177 : decode cX3_room 177 = .ok (.iload 5, 2) := dk_21 5 (dk_at dksX3_room_7 11 rfl rfl)
theorem dX3_room_179 : decode cX3_room 179 = .ok (.ireturn, 1) := dk_172 (dk_at dksX3_room_7 13 rfl rfl)
abbrev cX3_takeBack : ByteArray := prog_15_method_39_code
def yX3_takeBack : MethodName := ⟨RX3, "takeBack", "(I)I"⟩
def dkwX3_takeBack_2 : List UInt8 := [180, 0, 103, 27, 46, 61, 42, 180, 0, 103, 27, 3, 79, 28, 172]
abbrev dktX3_takeBack_2 : List UInt8 := dkwX3_takeBack_2 ++ []
def dkwX3_takeBack_1 : List UInt8 := [46, 154, 0, 7, 5, 167, 0, 4, 3, 181, 0, 175, 42, 180, 0, 175, 158, 0, 5, 3, 172, 42]
abbrev dktX3_takeBack_1 : List UInt8 := dkwX3_takeBack_1 ++ dktX3_takeBack_2
def dkwX3_takeBack_0 : List UInt8 := [42, 27, 3, 42, 180, 1, 42, 4, 100, 184, 0, 179, 154, 0, 7, 4, 167, 0, 17, 42, 180, 0, 103, 27]
abbrev dktX3_takeBack_0 : List UInt8 := dkwX3_takeBack_0 ++ dktX3_takeBack_1
theorem dksX3_takeBack_0 : cX3_takeBack.data.toList.drop 0 = dktX3_takeBack_0 := by decide +kernel
theorem dksX3_takeBack_1 : cX3_takeBack.data.toList.drop 24 = dktX3_takeBack_1 := dk_seg dksX3_takeBack_0 24 rfl rfl
theorem dksX3_takeBack_2 : cX3_takeBack.data.toList.drop 46 = dktX3_takeBack_2 := dk_seg dksX3_takeBack_1 22 rfl rfl
theorem dX3_takeBack_0 : decode cX3_takeBack 0 = .ok (.aload_n 0, 1) := dk_42 (dk_at dksX3_takeBack_0 0 rfl rfl)
theorem dX3_takeBack_1 : decode cX3_takeBack 1 = .ok (.iload_n 1, 1) := dk_27 (dk_at dksX3_takeBack_0 1 rfl rfl)
theorem dX3_takeBack_2 : decode cX3_takeBack 2 = .ok (.iconst 0, 1) := dk_3 (dk_at dksX3_takeBack_0 2 rfl rfl)
theorem dX3_takeBack_3 : decode cX3_takeBack 3 = .ok (.aload_n 0, 1) := dk_42 (dk_at dksX3_takeBack_0 3 rfl rfl)
theorem dX3_takeBack_4 : decode cX3_takeBack 4 = .ok (.getfield 298, 3) := dk_180 1 42 (dk_at dksX3_takeBack_0 4 rfl rfl)
theorem dX3_takeBack_7 : decode cX3_takeBack 7 = .ok (.iconst 1, 1) := dk_4 (dk_at dksX3_takeBack_0 7 rfl rfl)
theorem dX3_takeBack_8 : decode cX3_takeBack 8 = .ok (.isub, 1) := dk_100 (dk_at dksX3_takeBack_0 8 rfl rfl)
theorem dX3_takeBack_9 : decode cX3_takeBack 9 = .ok (.invokestatic 179, 3) := dk_184 0 179 (dk_at dksX3_takeBack_0 9 rfl rfl)
theorem dX3_takeBack_12 : decode cX3_takeBack 12 = .ok (.ifCond .ne 7, 3) := dk_154 0 7 (dk_at dksX3_takeBack_0 12 rfl rfl)
theorem dX3_takeBack_15 : decode cX3_takeBack 15 = .ok (.iconst 1, 1) := dk_4 (dk_at dksX3_takeBack_0 15 rfl rfl)
theorem dX3_takeBack_16 : decode cX3_takeBack 16 = .ok (.goto 17, 3) := dk_167 0 17 (dk_at dksX3_takeBack_0 16 rfl rfl)
theorem dX3_takeBack_19 : decode cX3_takeBack 19 = .ok (.aload_n 0, 1) := dk_42 (dk_at dksX3_takeBack_0 19 rfl rfl)
theorem dX3_takeBack_20 : decode cX3_takeBack 20 = .ok (.getfield 103, 3) := dk_180 0 103 (dk_at dksX3_takeBack_0 20 rfl rfl)
theorem dX3_takeBack_23 : decode cX3_takeBack 23 = .ok (.iload_n 1, 1) := dk_27 (dk_at dksX3_takeBack_0 23 rfl rfl)
theorem dX3_takeBack_24 : decode cX3_takeBack 24 = .ok (.iaload, 1) := dk_46 (dk_at dksX3_takeBack_1 0 rfl rfl)
theorem dX3_takeBack_25 : decode cX3_takeBack 25 = .ok (.ifCond .ne 7, 3) := dk_154 0 7 (dk_at dksX3_takeBack_1 1 rfl rfl)
theorem dX3_takeBack_28 : decode cX3_takeBack 28 = .ok (.iconst 2, 1) := dk_5 (dk_at dksX3_takeBack_1 4 rfl rfl)
theorem dX3_takeBack_29 : decode cX3_takeBack 29 = .ok (.goto 4, 3) := dk_167 0 4 (dk_at dksX3_takeBack_1 5 rfl rfl)
theorem dX3_takeBack_32 : decode cX3_takeBack 32 = .ok (.iconst 0, 1) := dk_3 (dk_at dksX3_takeBack_1 8 rfl rfl)
theorem dX3_takeBack_33 : decode cX3_takeBack 33 = .ok (.putfield 175, 3) := dk_181 0 175 (dk_at dksX3_takeBack_1 9 rfl rfl)
theorem dX3_takeBack_36 : decode cX3_takeBack 36 = .ok (.aload_n 0, 1) := dk_42 (dk_at dksX3_takeBack_1 12 rfl rfl)
theorem dX3_takeBack_37 : decode cX3_takeBack 37 = .ok (.getfield 175, 3) := dk_180 0 175 (dk_at dksX3_takeBack_1 13 rfl rfl)
theorem dX3_takeBack_40 : decode cX3_takeBack 40 = .ok (.ifCond .le 5, 3) := dk_158 0 5 (dk_at dksX3_takeBack_1 16 rfl rfl)
theorem dX3_takeBack_43 : decode cX3_takeBack 43 = .ok (.iconst 0, 1) := dk_3 (dk_at dksX3_takeBack_1 19 rfl rfl)
theorem dX3_takeBack_44 : decode cX3_takeBack 44 = .ok (.ireturn, 1) := dk_172 (dk_at dksX3_takeBack_1 20 rfl rfl)
theorem dX3_takeBack_45 : decode cX3_takeBack 45 = .ok (.aload_n 0, 1) := dk_42 (dk_at dksX3_takeBack_1 21 rfl rfl)
theorem dX3_takeBack_46 : decode cX3_takeBack 46 = .ok (.getfield 103, 3) := dk_180 0 103 (dk_at dksX3_takeBack_2 0 rfl rfl)
theorem dX3_takeBack_49 : decode cX3_takeBack 49 = .ok (.iload_n 1, 1) := dk_27 (dk_at dksX3_takeBack_2 3 rfl rfl)
theorem dX3_takeBack_50 : decode cX3_takeBack 50 = .ok (.iaload, 1) := dk_46 (dk_at dksX3_takeBack_2 4 rfl rfl)
theorem dX3_takeBack_51 : decode cX3_takeBack 51 = .ok (.istore_n 2, 1) := dk_61 (dk_at dksX3_takeBack_2 5 rfl rfl)
theorem dX3_takeBack_52 : decode cX3_takeBack 52 = .ok (.aload_n 0, 1) := dk_42 (dk_at dksX3_takeBack_2 6 rfl rfl)
theorem dX3_takeBack_53 : decode cX3_takeBack 53 = .ok (.getfield 103, 3) := dk_180 0 103 (dk_at dksX3_takeBack_2 7 rfl rfl)
theorem dX3_takeBack_56 : decode cX3_takeBack 56 = .ok (.iload_n 1, 1) := dk_27 (dk_at dksX3_takeBack_2 10 rfl rfl)
theorem dX3_takeBack_57 : decode cX3_takeBack 57 = .ok (.iconst 0, 1) := dk_3 (dk_at dksX3_takeBack_2 11 rfl rfl)
theorem dX3_takeBack_58 : decode cX3_takeBack 58 = .ok (.iastore, 1) := dk_79 (dk_at dksX3_takeBack_2 12 rfl rfl)
theorem dX3_takeBack_59 : decode cX3_takeBack 59 = .ok (.iload_n 2, 1) := dk_28 (dk_at dksX3_takeBack_2 13 rfl rfl)
theorem dX3_takeBack_60 : decode cX3_takeBack 60 = .ok (.ireturn, 1) := dk_172 (dk_at dksX3_takeBack_2 14 rfl rfl)
abbrev cX3_aid : ByteArray := prog_15_method_40_code
def yX3_aid : MethodName := ⟨RX3, "aid", "(IIZII)I"⟩
def dkwX3_aid_7 : List UInt8 := [4, 96, 79, 42, 180, 0, 109, 42, 180, 0, 183, 46, 4, 100, 172]
abbrev dktX3_aid_7 : List UInt8 := dkwX3_aid_7 ++ []
def dkwX3_aid_6 : List UInt8 := [21, 6, 21, 4, 79, 42, 180, 0, 124, 21, 6, 21, 5, 79, 42, 180, 0, 109, 42, 180, 0, 183, 92, 46]
abbrev dktX3_aid_6 : List UInt8 := dkwX3_aid_6 ++ dktX3_aid_7
def dkwX3_aid_5 : List UInt8 := [21, 6, 28, 79, 42, 180, 0, 118, 21, 6, 29, 153, 0, 7, 4, 167, 0, 4, 3, 79, 42, 180, 0, 121]
abbrev dktX3_aid_5 : List UInt8 := dkwX3_aid_5 ++ dktX3_aid_6
def dkwX3_aid_4 : List UInt8 := [42, 180, 0, 109, 42, 180, 0, 183, 46, 96, 54, 6, 42, 180, 0, 112, 21, 6, 27, 79, 42, 180, 0, 115]
abbrev dktX3_aid_4 : List UInt8 := dkwX3_aid_4 ++ dktX3_aid_5
def dkwX3_aid_3 : List UInt8 := [6, 167, 0, 4, 3, 181, 0, 175, 42, 180, 0, 175, 158, 0, 5, 3, 172, 16, 30, 42, 180, 0, 183, 104]
abbrev dktX3_aid_3 : List UInt8 := dkwX3_aid_3 ++ dktX3_aid_4
def dkwX3_aid_2 : List UInt8 := [42, 180, 0, 19, 27, 46, 4, 159, 0, 17, 42, 180, 0, 109, 42, 180, 0, 183, 46, 16, 30, 160, 0, 7]
abbrev dktX3_aid_2 : List UInt8 := dkwX3_aid_2 ++ dktX3_aid_3
def dkwX3_aid_1 : List UInt8 := [17, 1, 44, 184, 0, 179, 153, 0, 14, 21, 5, 4, 16, 10, 184, 0, 179, 154, 0, 7, 5, 167, 0, 32]
abbrev dktX3_aid_1 : List UInt8 := dkwX3_aid_1 ++ dktX3_aid_2
def dkwX3_aid_0 : List UInt8 := [42, 27, 184, 0, 186, 153, 0, 10, 28, 184, 0, 198, 154, 0, 7, 4, 167, 0, 59, 21, 4, 3]
abbrev dktX3_aid_0 : List UInt8 := dkwX3_aid_0 ++ dktX3_aid_1
theorem dksX3_aid_0 : cX3_aid.data.toList.drop 0 = dktX3_aid_0 := by decide +kernel
theorem dksX3_aid_1 : cX3_aid.data.toList.drop 22 = dktX3_aid_1 := dk_seg dksX3_aid_0 22 rfl rfl
theorem dksX3_aid_2 : cX3_aid.data.toList.drop 46 = dktX3_aid_2 := dk_seg dksX3_aid_1 24 rfl rfl
theorem dksX3_aid_3 : cX3_aid.data.toList.drop 70 = dktX3_aid_3 := dk_seg dksX3_aid_2 24 rfl rfl
theorem dksX3_aid_4 : cX3_aid.data.toList.drop 94 = dktX3_aid_4 := dk_seg dksX3_aid_3 24 rfl rfl
theorem dksX3_aid_5 : cX3_aid.data.toList.drop 118 = dktX3_aid_5 := dk_seg dksX3_aid_4 24 rfl rfl
theorem dksX3_aid_6 : cX3_aid.data.toList.drop 142 = dktX3_aid_6 := dk_seg dksX3_aid_5 24 rfl rfl
theorem dksX3_aid_7 : cX3_aid.data.toList.drop 166 = dktX3_aid_7 := dk_seg dksX3_aid_6 24 rfl rfl
theorem dX3_aid_0 : decode cX3_aid 0 = .ok (.aload_n 0, 1) := dk_42 (dk_at dksX3_aid_0 0 rfl rfl)
theorem dX3_aid_1 : decode cX3_aid 1 = .ok (.iload_n 1, 1) := dk_27 (dk_at dksX3_aid_0 1 rfl rfl)
theorem dX3_aid_2 : decode cX3_aid 2 = .ok (.invokestatic 186, 3) := dk_184 0 186 (dk_at dksX3_aid_0 2 rfl rfl)
theorem dX3_aid_5 : decode cX3_aid 5 = .ok (.ifCond .eq 10, 3) := dk_153 0 10 (dk_at dksX3_aid_0 5 rfl rfl)
theorem dX3_aid_8 : decode cX3_aid 8 = .ok (.iload_n 2, 1) := dk_28 (dk_at dksX3_aid_0 8 rfl rfl)
theorem dX3_aid_9 : decode cX3_aid 9 = .ok (.invokestatic 198, 3) := dk_184 0 198 (dk_at dksX3_aid_0 9 rfl rfl)
theorem dX3_aid_12 : decode cX3_aid 12 = .ok (.ifCond .ne 7, 3) := dk_154 0 7 (dk_at dksX3_aid_0 12 rfl rfl)
theorem dX3_aid_15 : decode cX3_aid 15 = .ok (.iconst 1, 1) := dk_4 (dk_at dksX3_aid_0 15 rfl rfl)
theorem dX3_aid_16 : decode cX3_aid 16 = .ok (.goto 59, 3) := dk_167 0 59 (dk_at dksX3_aid_0 16 rfl rfl)
theorem dX3_aid_19 : decode cX3_aid 19 = .ok (.iload 4, 2) := dk_21 4 (dk_at dksX3_aid_0 19 rfl rfl)
theorem dX3_aid_21 : decode cX3_aid 21 = .ok (.iconst 0, 1) := dk_3 (dk_at dksX3_aid_0 21 rfl rfl)
theorem dX3_aid_22 : decode cX3_aid 22 = .ok (.sipush 300, 3) := dk_17 1 44 (dk_at dksX3_aid_1 0 rfl rfl)
theorem dX3_aid_25 : decode cX3_aid 25 = .ok (.invokestatic 179, 3) := dk_184 0 179 (dk_at dksX3_aid_1 3 rfl rfl)
theorem dX3_aid_28 : decode cX3_aid 28 = .ok (.ifCond .eq 14, 3) := dk_153 0 14 (dk_at dksX3_aid_1 6 rfl rfl)
theorem dX3_aid_31 : decode cX3_aid 31 = .ok (.iload 5, 2) := dk_21 5 (dk_at dksX3_aid_1 9 rfl rfl)
theorem dX3_aid_33 : decode cX3_aid 33 = .ok (.iconst 1, 1) := dk_4 (dk_at dksX3_aid_1 11 rfl rfl)
theorem dX3_aid_34 : decode cX3_aid 34 = .ok (.bipush 10, 2) := dk_16 10 (dk_at dksX3_aid_1 12 rfl rfl)
theorem dX3_aid_36 : decode cX3_aid 36 = .ok (.invokestatic 179, 3) := dk_184 0 179 (dk_at dksX3_aid_1 14 rfl rfl)
theorem dX3_aid_39 : decode cX3_aid 39 = .ok (.ifCond .ne 7, 3) := dk_154 0 7 (dk_at dksX3_aid_1 17 rfl rfl)
theorem dX3_aid_42 : decode cX3_aid 42 = .ok (.iconst 2, 1) := dk_5 (dk_at dksX3_aid_1 20 rfl rfl)
theorem dX3_aid_43 : decode cX3_aid 43 = .ok (.goto 32, 3) := dk_167 0 32 (dk_at dksX3_aid_1 21 rfl rfl)
theorem dX3_aid_46 : decode cX3_aid 46 = .ok (.aload_n 0, 1) := dk_42 (dk_at dksX3_aid_2 0 rfl rfl)
theorem dX3_aid_47 : decode cX3_aid 47 = .ok (.getfield 19, 3) := dk_180 0 19 (dk_at dksX3_aid_2 1 rfl rfl)
theorem dX3_aid_50 : decode cX3_aid 50 = .ok (.iload_n 1, 1) := dk_27 (dk_at dksX3_aid_2 4 rfl rfl)
theorem dX3_aid_51 : decode cX3_aid 51 = .ok (.iaload, 1) := dk_46 (dk_at dksX3_aid_2 5 rfl rfl)
theorem dX3_aid_52 : decode cX3_aid 52 = .ok (.iconst 1, 1) := dk_4 (dk_at dksX3_aid_2 6 rfl rfl)
theorem dX3_aid_53 : decode cX3_aid 53 = .ok (.if_icmp .eq 17, 3) := dk_159 0 17 (dk_at dksX3_aid_2 7 rfl rfl)
theorem dX3_aid_56 : decode cX3_aid 56 = .ok (.aload_n 0, 1) := dk_42 (dk_at dksX3_aid_2 10 rfl rfl)
theorem dX3_aid_57 : decode cX3_aid 57 = .ok (.getfield 109, 3) := dk_180 0 109 (dk_at dksX3_aid_2 11 rfl rfl)
theorem dX3_aid_60 : decode cX3_aid 60 = .ok (.aload_n 0, 1) := dk_42 (dk_at dksX3_aid_2 14 rfl rfl)
theorem dX3_aid_61 : decode cX3_aid 61 = .ok (.getfield 183, 3) := dk_180 0 183 (dk_at dksX3_aid_2 15 rfl rfl)
theorem dX3_aid_64 : decode cX3_aid 64 = .ok (.iaload, 1) := dk_46 (dk_at dksX3_aid_2 18 rfl rfl)
theorem dX3_aid_65 : decode cX3_aid 65 = .ok (.bipush 30, 2) := dk_16 30 (dk_at dksX3_aid_2 19 rfl rfl)
theorem dX3_aid_67 : decode cX3_aid 67 = .ok (.if_icmp .ne 7, 3) := dk_160 0 7 (dk_at dksX3_aid_2 21 rfl rfl)
theorem dX3_aid_70 : decode cX3_aid 70 = .ok (.iconst 3, 1) := dk_6 (dk_at dksX3_aid_3 0 rfl rfl)
theorem dX3_aid_71 : decode cX3_aid 71 = .ok (.goto 4, 3) := dk_167 0 4 (dk_at dksX3_aid_3 1 rfl rfl)
theorem dX3_aid_74 : decode cX3_aid 74 = .ok (.iconst 0, 1) := dk_3 (dk_at dksX3_aid_3 4 rfl rfl)
theorem dX3_aid_75 : decode cX3_aid 75 = .ok (.putfield 175, 3) := dk_181 0 175 (dk_at dksX3_aid_3 5 rfl rfl)
theorem dX3_aid_78 : decode cX3_aid 78 = .ok (.aload_n 0, 1) := dk_42 (dk_at dksX3_aid_3 8 rfl rfl)
theorem dX3_aid_79 : decode cX3_aid 79 = .ok (.getfield 175, 3) := dk_180 0 175 (dk_at dksX3_aid_3 9 rfl rfl)
theorem dX3_aid_82 : decode cX3_aid 82 = .ok (.ifCond .le 5, 3) := dk_158 0 5 (dk_at dksX3_aid_3 12 rfl rfl)
theorem dX3_aid_85 : decode cX3_aid 85 = .ok (.iconst 0, 1) := dk_3 (dk_at dksX3_aid_3 15 rfl rfl)
theorem dX3_aid_86 : decode cX3_aid 86 = .ok (.ireturn, 1) := dk_172 (dk_at dksX3_aid_3 16 rfl rfl)
theorem dX3_aid_87 : decode cX3_aid 87 = .ok (.bipush 30, 2) := dk_16 30 (dk_at dksX3_aid_3 17 rfl rfl)
theorem dX3_aid_89 : decode cX3_aid 89 = .ok (.aload_n 0, 1) := dk_42 (dk_at dksX3_aid_3 19 rfl rfl)
theorem dX3_aid_90 : decode cX3_aid 90 = .ok (.getfield 183, 3) := dk_180 0 183 (dk_at dksX3_aid_3 20 rfl rfl)
theorem dX3_aid_93 : decode cX3_aid 93 = .ok (.imul, 1) := dk_104 (dk_at dksX3_aid_3 23 rfl rfl)
theorem dX3_aid_94 : decode cX3_aid 94 = .ok (.aload_n 0, 1) := dk_42 (dk_at dksX3_aid_4 0 rfl rfl)
theorem dX3_aid_95 : decode cX3_aid 95 = .ok (.getfield 109, 3) := dk_180 0 109 (dk_at dksX3_aid_4 1 rfl rfl)
theorem dX3_aid_98 : decode cX3_aid 98 = .ok (.aload_n 0, 1) := dk_42 (dk_at dksX3_aid_4 4 rfl rfl)
theorem dX3_aid_99 : decode cX3_aid 99 = .ok (.getfield 183, 3) := dk_180 0 183 (dk_at dksX3_aid_4 5 rfl rfl)
theorem dX3_aid_102 : decode cX3_aid 102 = .ok (.iaload, 1) := dk_46 (dk_at dksX3_aid_4 8 rfl rfl)
theorem dX3_aid_103 : decode cX3_aid 103 = .ok (.iadd, 1) := dk_96 (dk_at dksX3_aid_4 9 rfl rfl)
theorem dX3_aid_104 : decode cX3_aid 104 = .ok (.istore 6, 2) := dk_54 6 (dk_at dksX3_aid_4 10 rfl rfl)
theorem dX3_aid_106 : decode cX3_aid 106 = .ok (.aload_n 0, 1) := dk_42 (dk_at dksX3_aid_4 12 rfl rfl)
theorem dX3_aid_107 : decode cX3_aid 107 = .ok (.getfield 112, 3) := dk_180 0 112 (dk_at dksX3_aid_4 13 rfl rfl)
theorem dX3_aid_110 : decode cX3_aid 110 = .ok (.iload 6, 2) := dk_21 6 (dk_at dksX3_aid_4 16 rfl rfl)
theorem dX3_aid_112 : decode cX3_aid 112 = .ok (.iload_n 1, 1) := dk_27 (dk_at dksX3_aid_4 18 rfl rfl)
theorem dX3_aid_113 : decode cX3_aid 113 = .ok (.iastore, 1) := dk_79 (dk_at dksX3_aid_4 19 rfl rfl)
theorem dX3_aid_114 : decode cX3_aid 114 = .ok (.aload_n 0, 1) := dk_42 (dk_at dksX3_aid_4 20 rfl rfl)
theorem dX3_aid_115 : decode cX3_aid 115 = .ok (.getfield 115, 3) := dk_180 0 115 (dk_at dksX3_aid_4 21 rfl rfl)
theorem dX3_aid_118 : decode cX3_aid 118 = .ok (.iload 6, 2) := dk_21 6 (dk_at dksX3_aid_5 0 rfl rfl)
theorem dX3_aid_120 : decode cX3_aid 120 = .ok (.iload_n 2, 1) := dk_28 (dk_at dksX3_aid_5 2 rfl rfl)
theorem dX3_aid_121 : decode cX3_aid 121 = .ok (.iastore, 1) := dk_79 (dk_at dksX3_aid_5 3 rfl rfl)
theorem dX3_aid_122 : decode cX3_aid 122 = .ok (.aload_n 0, 1) := dk_42 (dk_at dksX3_aid_5 4 rfl rfl)
theorem dX3_aid_123 : decode cX3_aid 123 = .ok (.getfield 118, 3) := dk_180 0 118 (dk_at dksX3_aid_5 5 rfl rfl)
theorem dX3_aid_126 : decode cX3_aid 126 = .ok (.iload 6, 2) := dk_21 6 (dk_at dksX3_aid_5 8 rfl rfl)
theorem dX3_aid_128 : decode cX3_aid 128 = .ok (.iload_n 3, 1) := dk_29 (dk_at dksX3_aid_5 10 rfl rfl)
theorem dX3_aid_129 : decode cX3_aid 129 = .ok (.ifCond .eq 7, 3) := dk_153 0 7 (dk_at dksX3_aid_5 11 rfl rfl)
theorem dX3_aid_132 : decode cX3_aid 132 = .ok (.iconst 1, 1) := dk_4 (dk_at dksX3_aid_5 14 rfl rfl)
theorem dX3_aid_133 : decode cX3_aid 133 = .ok (.goto 4, 3) := dk_167 0 4 (dk_at dksX3_aid_5 15 rfl rfl)
theorem dX3_aid_136 : decode cX3_aid 136 = .ok (.iconst 0, 1) := dk_3 (dk_at dksX3_aid_5 18 rfl rfl)
theorem dX3_aid_137 : decode cX3_aid 137 = .ok (.iastore, 1) := dk_79 (dk_at dksX3_aid_5 19 rfl rfl)
theorem dX3_aid_138 : decode cX3_aid 138 = .ok (.aload_n 0, 1) := dk_42 (dk_at dksX3_aid_5 20 rfl rfl)
theorem dX3_aid_139 : decode cX3_aid 139 = .ok (.getfield 121, 3) := dk_180 0 121 (dk_at dksX3_aid_5 21 rfl rfl)
theorem dX3_aid_142 : decode cX3_aid 142 = .ok (.iload 6, 2) := dk_21 6 (dk_at dksX3_aid_6 0 rfl rfl)
theorem dX3_aid_144 : decode cX3_aid 144 = .ok (.iload 4, 2) := dk_21 4 (dk_at dksX3_aid_6 2 rfl rfl)
theorem dX3_aid_146 : decode cX3_aid 146 = .ok (.iastore, 1) := dk_79 (dk_at dksX3_aid_6 4 rfl rfl)
theorem dX3_aid_147 : decode cX3_aid 147 = .ok (.aload_n 0, 1) := dk_42 (dk_at dksX3_aid_6 5 rfl rfl)
theorem dX3_aid_148 : decode cX3_aid 148 = .ok (.getfield 124, 3) := dk_180 0 124 (dk_at dksX3_aid_6 6 rfl rfl)
theorem dX3_aid_151 : decode cX3_aid 151 = .ok (.iload 6, 2) := dk_21 6 (dk_at dksX3_aid_6 9 rfl rfl)
theorem dX3_aid_153 : decode cX3_aid 153 = .ok (.iload 5, 2) := dk_21 5 (dk_at dksX3_aid_6 11 rfl rfl)
theorem dX3_aid_155 : decode cX3_aid 155 = .ok (.iastore, 1) := dk_79 (dk_at dksX3_aid_6 13 rfl rfl)
theorem dX3_aid_156 : decode cX3_aid 156 = .ok (.aload_n 0, 1) := dk_42 (dk_at dksX3_aid_6 14 rfl rfl)
theorem dX3_aid_157 : decode cX3_aid 157 = .ok (.getfield 109, 3) := dk_180 0 109 (dk_at dksX3_aid_6 15 rfl rfl)
theorem dX3_aid_160 : decode cX3_aid 160 = .ok (.aload_n 0, 1) := dk_42 (dk_at dksX3_aid_6 18 rfl rfl)
theorem dX3_aid_161 : decode cX3_aid 161 = .ok (.getfield 183, 3) := dk_180 0 183 (dk_at dksX3_aid_6 19 rfl rfl)
theorem dX3_aid_164 : decode cX3_aid 164 = .ok (.dup2, 1) := dk_92 (dk_at dksX3_aid_6 22 rfl rfl)
theorem dX3_aid_165 : decode cX3_aid 165 = .ok (.iaload, 1) := dk_46 (dk_at dksX3_aid_6 23 rfl rfl)
theorem dX3_aid_166 : decode cX3_aid 166 = .ok (.iconst 1, 1) := dk_4 (dk_at dksX3_aid_7 0 rfl rfl)
theorem dX3_aid_167 : decode cX3_aid 167 = .ok (.iadd, 1) := dk_96 (dk_at dksX3_aid_7 1 rfl rfl)
theorem dX3_aid_168 : decode cX3_aid 168 = .ok (.iastore, 1) := dk_79 (dk_at dksX3_aid_7 2 rfl rfl)
theorem dX3_aid_169 : decode cX3_aid 169 = .ok (.aload_n 0, 1) := dk_42 (dk_at dksX3_aid_7 3 rfl rfl)
theorem dX3_aid_170 : decode cX3_aid 170 = .ok (.getfield 109, 3) := dk_180 0 109 (dk_at dksX3_aid_7 4 rfl rfl)
theorem dX3_aid_173 : decode cX3_aid 173 = .ok (.aload_n 0, 1) := dk_42 (dk_at dksX3_aid_7 7 rfl rfl)
theorem dX3_aid_174 : decode cX3_aid 174 = .ok (.getfield 183, 3) := dk_180 0 183 (dk_at dksX3_aid_7 8 rfl rfl)
theorem dX3_aid_177 : decode cX3_aid 177 = .ok (.iaload, 1) := dk_46 (dk_at dksX3_aid_7 11 rfl rfl)
theorem dX3_aid_178 : decode cX3_aid 178 = .ok (.iconst 1, 1) := dk_4 (dk_at dksX3_aid_7 12 rfl rfl)
theorem dX3_aid_179 : decode cX3_aid 179 = .ok (.isub, 1) := dk_100 (dk_at dksX3_aid_7 13 rfl rfl)
theorem dX3_aid_180 : decode cX3_aid 180 = .ok (.ireturn, 1) := dk_172 (dk_at dksX3_aid_7 14 rfl rfl)
abbrev cX3_close : ByteArray := prog_15_method_41_code
def yX3_close : MethodName := ⟨RX3, "close", "()I"⟩
def dkwX3_close_3 : List UInt8 := [180, 0, 183, 172]
abbrev dktX3_close_3 : List UInt8 := dkwX3_close_3 ++ []
def dkwX3_close_2 : List UInt8 := [181, 0, 192, 42, 3, 181, 0, 201, 42, 3, 181, 0, 204, 42, 3, 181, 0, 207, 42, 3, 181, 1, 42, 42]
abbrev dktX3_close_2 : List UInt8 := dkwX3_close_2 ++ dktX3_close_3
def dkwX3_close_1 : List UInt8 := [181, 0, 175, 42, 180, 0, 175, 158, 0, 5, 3, 172, 42, 89, 180, 0, 183, 4, 96, 181, 0, 183, 42, 3]
abbrev dktX3_close_1 : List UInt8 := dkwX3_close_1 ++ dktX3_close_2
def dkwX3_close_0 : List UInt8 := [42, 42, 180, 0, 192, 153, 0, 12, 42, 180, 0, 183, 16, 9, 160, 0, 7, 4, 167, 0, 4, 3]
abbrev dktX3_close_0 : List UInt8 := dkwX3_close_0 ++ dktX3_close_1
theorem dksX3_close_0 : cX3_close.data.toList.drop 0 = dktX3_close_0 := by decide +kernel
theorem dksX3_close_1 : cX3_close.data.toList.drop 22 = dktX3_close_1 := dk_seg dksX3_close_0 22 rfl rfl
theorem dksX3_close_2 : cX3_close.data.toList.drop 46 = dktX3_close_2 := dk_seg dksX3_close_1 24 rfl rfl
theorem dksX3_close_3 : cX3_close.data.toList.drop 70 = dktX3_close_3 := dk_seg dksX3_close_2 24 rfl rfl
theorem dX3_close_0 : decode cX3_close 0 = .ok (.aload_n 0, 1) := dk_42 (dk_at dksX3_close_0 0 rfl rfl)
theorem dX3_close_1 : decode cX3_close 1 = .ok (.aload_n 0, 1) := dk_42 (dk_at dksX3_close_0 1 rfl rfl)
theorem dX3_close_2 : decode cX3_close 2 = .ok (.getfield 192, 3) := dk_180 0 192 (dk_at dksX3_close_0 2 rfl rfl)
theorem dX3_close_5 : decode cX3_close 5 = .ok (.ifCond .eq 12, 3) := dk_153 0 12 (dk_at dksX3_close_0 5 rfl rfl)
theorem dX3_close_8 : decode cX3_close 8 = .ok (.aload_n 0, 1) := dk_42 (dk_at dksX3_close_0 8 rfl rfl)
theorem dX3_close_9 : decode cX3_close 9 = .ok (.getfield 183, 3) := dk_180 0 183 (dk_at dksX3_close_0 9 rfl rfl)
theorem dX3_close_12 : decode cX3_close 12 = .ok (.bipush 9, 2) := dk_16 9 (dk_at dksX3_close_0 12 rfl rfl)
theorem dX3_close_14 : decode cX3_close 14 = .ok (.if_icmp .ne 7, 3) := dk_160 0 7 (dk_at dksX3_close_0 14 rfl rfl)
theorem dX3_close_17 : decode cX3_close 17 = .ok (.iconst 1, 1) := dk_4 (dk_at dksX3_close_0 17 rfl rfl)
theorem dX3_close_18 : decode cX3_close 18 = .ok (.goto 4, 3) := dk_167 0 4 (dk_at dksX3_close_0 18 rfl rfl)
theorem dX3_close_21 : decode cX3_close 21 = .ok (.iconst 0, 1) := dk_3 (dk_at dksX3_close_0 21 rfl rfl)
theorem dX3_close_22 : decode cX3_close 22 = .ok (.putfield 175, 3) := dk_181 0 175 (dk_at dksX3_close_1 0 rfl rfl)
theorem dX3_close_25 : decode cX3_close 25 = .ok (.aload_n 0, 1) := dk_42 (dk_at dksX3_close_1 3 rfl rfl)
theorem dX3_close_26 : decode cX3_close 26 = .ok (.getfield 175, 3) := dk_180 0 175 (dk_at dksX3_close_1 4 rfl rfl)
theorem dX3_close_29 : decode cX3_close 29 = .ok (.ifCond .le 5, 3) := dk_158 0 5 (dk_at dksX3_close_1 7 rfl rfl)
theorem dX3_close_32 : decode cX3_close 32 = .ok (.iconst 0, 1) := dk_3 (dk_at dksX3_close_1 10 rfl rfl)
theorem dX3_close_33 : decode cX3_close 33 = .ok (.ireturn, 1) := dk_172 (dk_at dksX3_close_1 11 rfl rfl)
theorem dX3_close_34 : decode cX3_close 34 = .ok (.aload_n 0, 1) := dk_42 (dk_at dksX3_close_1 12 rfl rfl)
theorem dX3_close_35 : decode cX3_close 35 = .ok (.dup, 1) := dk_89 (dk_at dksX3_close_1 13 rfl rfl)
theorem dX3_close_36 : decode cX3_close 36 = .ok (.getfield 183, 3) := dk_180 0 183 (dk_at dksX3_close_1 14 rfl rfl)
theorem dX3_close_39 : decode cX3_close 39 = .ok (.iconst 1, 1) := dk_4 (dk_at dksX3_close_1 17 rfl rfl)
theorem dX3_close_40 : decode cX3_close 40 = .ok (.iadd, 1) := dk_96 (dk_at dksX3_close_1 18 rfl rfl)
theorem dX3_close_41 : decode cX3_close 41 = .ok (.putfield 183, 3) := dk_181 0 183 (dk_at dksX3_close_1 19 rfl rfl)
theorem dX3_close_44 : decode cX3_close 44 = .ok (.aload_n 0, 1) := dk_42 (dk_at dksX3_close_1 22 rfl rfl)
theorem dX3_close_45 : decode cX3_close 45 = .ok (.iconst 0, 1) := dk_3 (dk_at dksX3_close_1 23 rfl rfl)
theorem dX3_close_46 : decode cX3_close 46 = .ok (.putfield 192, 3) := dk_181 0 192 (dk_at dksX3_close_2 0 rfl rfl)
theorem dX3_close_49 : decode cX3_close 49 = .ok (.aload_n 0, 1) := dk_42 (dk_at dksX3_close_2 3 rfl rfl)
theorem dX3_close_50 : decode cX3_close 50 = .ok (.iconst 0, 1) := dk_3 (dk_at dksX3_close_2 4 rfl rfl)
theorem dX3_close_51 : decode cX3_close 51 = .ok (.putfield 201, 3) := dk_181 0 201 (dk_at dksX3_close_2 5 rfl rfl)
theorem dX3_close_54 : decode cX3_close 54 = .ok (.aload_n 0, 1) := dk_42 (dk_at dksX3_close_2 8 rfl rfl)
theorem dX3_close_55 : decode cX3_close 55 = .ok (.iconst 0, 1) := dk_3 (dk_at dksX3_close_2 9 rfl rfl)
theorem dX3_close_56 : decode cX3_close 56 = .ok (.putfield 204, 3) := dk_181 0 204 (dk_at dksX3_close_2 10 rfl rfl)
theorem dX3_close_59 : decode cX3_close 59 = .ok (.aload_n 0, 1) := dk_42 (dk_at dksX3_close_2 13 rfl rfl)
theorem dX3_close_60 : decode cX3_close 60 = .ok (.iconst 0, 1) := dk_3 (dk_at dksX3_close_2 14 rfl rfl)
theorem dX3_close_61 : decode cX3_close 61 = .ok (.putfield 207, 3) := dk_181 0 207 (dk_at dksX3_close_2 15 rfl rfl)
theorem dX3_close_64 : decode cX3_close 64 = .ok (.aload_n 0, 1) := dk_42 (dk_at dksX3_close_2 18 rfl rfl)
theorem dX3_close_65 : decode cX3_close 65 = .ok (.iconst 0, 1) := dk_3 (dk_at dksX3_close_2 19 rfl rfl)
theorem dX3_close_66 : decode cX3_close 66 = .ok (.putfield 298, 3) := dk_181 1 42 (dk_at dksX3_close_2 20 rfl rfl)
theorem dX3_close_69 : decode cX3_close 69 = .ok (.aload_n 0, 1) := dk_42 (dk_at dksX3_close_2 23 rfl rfl)
theorem dX3_close_70 : decode cX3_close 70 = .ok (.getfield 183, 3) := dk_180 0 183 (dk_at dksX3_close_3 0 rfl rfl)
theorem dX3_close_73 : decode cX3_close 73 = .ok (.ireturn, 1) := dk_172 (dk_at dksX3_close_3 3 rfl rfl)
abbrev cX3_read : ByteArray := prog_15_method_44_code
def yX3_read : MethodName := ⟨RX3, "read", "(IIIII)I"⟩
def dkwX3_read_4 : List UInt8 := [79, 42, 27, 28, 29, 21, 4, 182, 1, 57, 172]
abbrev dktX3_read_4 : List UInt8 := dkwX3_read_4 ++ []
def dkwX3_read_3 : List UInt8 := [27, 28, 29, 21, 4, 184, 1, 51, 21, 5, 79, 42, 180, 0, 139, 27, 28, 29, 21, 4, 184, 1, 51, 4]
abbrev dktX3_read_3 : List UInt8 := dkwX3_read_3 ++ dktX3_read_4
def dkwX3_read_2 : List UInt8 := [154, 0, 7, 5, 167, 0, 4, 3, 181, 0, 175, 42, 180, 0, 175, 158, 0, 5, 3, 172, 42, 180, 0, 136]
abbrev dktX3_read_2 : List UInt8 := dkwX3_read_2 ++ dktX3_read_3
def dkwX3_read_1 : List UInt8 := [21, 4, 184, 0, 198, 154, 0, 7, 4, 167, 0, 22, 21, 5, 17, 255, 56, 17, 0, 200, 184, 0, 179]
abbrev dktX3_read_1 : List UInt8 := dkwX3_read_1 ++ dktX3_read_2
def dkwX3_read_0 : List UInt8 := [42, 42, 27, 182, 1, 54, 153, 0, 25, 28, 184, 0, 186, 153, 0, 18, 29, 184, 0, 195, 153, 0, 11]
abbrev dktX3_read_0 : List UInt8 := dkwX3_read_0 ++ dktX3_read_1
theorem dksX3_read_0 : cX3_read.data.toList.drop 0 = dktX3_read_0 := by decide +kernel
theorem dksX3_read_1 : cX3_read.data.toList.drop 23 = dktX3_read_1 := dk_seg dksX3_read_0 23 rfl rfl
theorem dksX3_read_2 : cX3_read.data.toList.drop 46 = dktX3_read_2 := dk_seg dksX3_read_1 23 rfl rfl
theorem dksX3_read_3 : cX3_read.data.toList.drop 70 = dktX3_read_3 := dk_seg dksX3_read_2 24 rfl rfl
theorem dksX3_read_4 : cX3_read.data.toList.drop 94 = dktX3_read_4 := dk_seg dksX3_read_3 24 rfl rfl
theorem dX3_read_0 : decode cX3_read 0 = .ok (.aload_n 0, 1) := dk_42 (dk_at dksX3_read_0 0 rfl rfl)
theorem dX3_read_1 : decode cX3_read 1 = .ok (.aload_n 0, 1) := dk_42 (dk_at dksX3_read_0 1 rfl rfl)
theorem dX3_read_2 : decode cX3_read 2 = .ok (.iload_n 1, 1) := dk_27 (dk_at dksX3_read_0 2 rfl rfl)
theorem dX3_read_3 : decode cX3_read 3 = .ok (.invokevirtual 310, 3) := dk_182 1 54 (dk_at dksX3_read_0 3 rfl rfl)
theorem dX3_read_6 : decode cX3_read 6 = .ok (.ifCond .eq 25, 3) := dk_153 0 25 (dk_at dksX3_read_0 6 rfl rfl)
theorem dX3_read_9 : decode cX3_read 9 = .ok (.iload_n 2, 1) := dk_28 (dk_at dksX3_read_0 9 rfl rfl)
theorem dX3_read_10 : decode cX3_read 10 = .ok (.invokestatic 186, 3) := dk_184 0 186 (dk_at dksX3_read_0 10 rfl rfl)
theorem dX3_read_13 : decode cX3_read 13 = .ok (.ifCond .eq 18, 3) := dk_153 0 18 (dk_at dksX3_read_0 13 rfl rfl)
theorem dX3_read_16 : decode cX3_read 16 = .ok (.iload_n 3, 1) := dk_29 (dk_at dksX3_read_0 16 rfl rfl)
theorem dX3_read_17 : decode cX3_read 17 = .ok (.invokestatic 195, 3) := dk_184 0 195 (dk_at dksX3_read_0 17 rfl rfl)
theorem dX3_read_20 : decode cX3_read 20 = .ok (.ifCond .eq 11, 3) := dk_153 0 11 (dk_at dksX3_read_0 20 rfl rfl)
theorem dX3_read_23 : decode cX3_read 23 = .ok (.iload 4, 2) := dk_21 4 (dk_at dksX3_read_1 0 rfl rfl)
theorem dX3_read_25 : decode cX3_read 25 = .ok (.invokestatic 198, 3) := dk_184 0 198 (dk_at dksX3_read_1 2 rfl rfl)
theorem dX3_read_28 : decode cX3_read 28 = .ok (.ifCond .ne 7, 3) := dk_154 0 7 (dk_at dksX3_read_1 5 rfl rfl)
theorem dX3_read_31 : decode cX3_read 31 = .ok (.iconst 1, 1) := dk_4 (dk_at dksX3_read_1 8 rfl rfl)
theorem dX3_read_32 : decode cX3_read 32 = .ok (.goto 22, 3) := dk_167 0 22 (dk_at dksX3_read_1 9 rfl rfl)
theorem dX3_read_35 : decode cX3_read 35 = .ok (.iload 5, 2) := dk_21 5 (dk_at dksX3_read_1 12 rfl rfl)
theorem dX3_read_37 : decode cX3_read 37 = .ok (.sipush (-200), 3) := dk_17 255 56 (dk_at dksX3_read_1 14 rfl rfl)
theorem dX3_read_40 : decode cX3_read 40 = .ok (.sipush 200, 3) := dk_17 0 200 (dk_at dksX3_read_1 17 rfl rfl)
theorem dX3_read_43 : decode cX3_read 43 = .ok (.invokestatic 179, 3) := dk_184 0 179 (dk_at dksX3_read_1 20 rfl rfl)
theorem dX3_read_46 : decode cX3_read 46 = .ok (.ifCond .ne 7, 3) := dk_154 0 7 (dk_at dksX3_read_2 0 rfl rfl)
theorem dX3_read_49 : decode cX3_read 49 = .ok (.iconst 2, 1) := dk_5 (dk_at dksX3_read_2 3 rfl rfl)
theorem dX3_read_50 : decode cX3_read 50 = .ok (.goto 4, 3) := dk_167 0 4 (dk_at dksX3_read_2 4 rfl rfl)
theorem dX3_read_53 : decode cX3_read 53 = .ok (.iconst 0, 1) := dk_3 (dk_at dksX3_read_2 7 rfl rfl)
theorem dX3_read_54 : decode cX3_read 54 = .ok (.putfield 175, 3) := dk_181 0 175 (dk_at dksX3_read_2 8 rfl rfl)
theorem dX3_read_57 : decode cX3_read 57 = .ok (.aload_n 0, 1) := dk_42 (dk_at dksX3_read_2 11 rfl rfl)
theorem dX3_read_58 : decode cX3_read 58 = .ok (.getfield 175, 3) := dk_180 0 175 (dk_at dksX3_read_2 12 rfl rfl)
theorem dX3_read_61 : decode cX3_read 61 = .ok (.ifCond .le 5, 3) := dk_158 0 5 (dk_at dksX3_read_2 15 rfl rfl)
theorem dX3_read_64 : decode cX3_read 64 = .ok (.iconst 0, 1) := dk_3 (dk_at dksX3_read_2 18 rfl rfl)
theorem dX3_read_65 : decode cX3_read 65 = .ok (.ireturn, 1) := dk_172 (dk_at dksX3_read_2 19 rfl rfl)
theorem dX3_read_66 : decode cX3_read 66 = .ok (.aload_n 0, 1) := dk_42 (dk_at dksX3_read_2 20 rfl rfl)
theorem dX3_read_67 : decode cX3_read 67 = .ok (.getfield 136, 3) := dk_180 0 136 (dk_at dksX3_read_2 21 rfl rfl)
theorem dX3_read_70 : decode cX3_read 70 = .ok (.iload_n 1, 1) := dk_27 (dk_at dksX3_read_3 0 rfl rfl)
theorem dX3_read_71 : decode cX3_read 71 = .ok (.iload_n 2, 1) := dk_28 (dk_at dksX3_read_3 1 rfl rfl)
theorem dX3_read_72 : decode cX3_read 72 = .ok (.iload_n 3, 1) := dk_29 (dk_at dksX3_read_3 2 rfl rfl)
theorem dX3_read_73 : decode cX3_read 73 = .ok (.iload 4, 2) := dk_21 4 (dk_at dksX3_read_3 3 rfl rfl)
theorem dX3_read_75 : decode cX3_read 75 = .ok (.invokestatic 307, 3) := dk_184 1 51 (dk_at dksX3_read_3 5 rfl rfl)
theorem dX3_read_78 : decode cX3_read 78 = .ok (.iload 5, 2) := dk_21 5 (dk_at dksX3_read_3 8 rfl rfl)
theorem dX3_read_80 : decode cX3_read 80 = .ok (.iastore, 1) := dk_79 (dk_at dksX3_read_3 10 rfl rfl)
theorem dX3_read_81 : decode cX3_read 81 = .ok (.aload_n 0, 1) := dk_42 (dk_at dksX3_read_3 11 rfl rfl)
theorem dX3_read_82 : decode cX3_read 82 = .ok (.getfield 139, 3) := dk_180 0 139 (dk_at dksX3_read_3 12 rfl rfl)
theorem dX3_read_85 : decode cX3_read 85 = .ok (.iload_n 1, 1) := dk_27 (dk_at dksX3_read_3 15 rfl rfl)
theorem dX3_read_86 : decode cX3_read 86 = .ok (.iload_n 2, 1) := dk_28 (dk_at dksX3_read_3 16 rfl rfl)
theorem dX3_read_87 : decode cX3_read 87 = .ok (.iload_n 3, 1) := dk_29 (dk_at dksX3_read_3 17 rfl rfl)
theorem dX3_read_88 : decode cX3_read 88 = .ok (.iload 4, 2) := dk_21 4 (dk_at dksX3_read_3 18 rfl rfl)
theorem dX3_read_90 : decode cX3_read 90 = .ok (.invokestatic 307, 3) := dk_184 1 51 (dk_at dksX3_read_3 20 rfl rfl)
theorem dX3_read_93 : decode cX3_read 93 = .ok (.iconst 1, 1) := dk_4 (dk_at dksX3_read_3 23 rfl rfl)
theorem dX3_read_94 : decode cX3_read 94 = .ok (.iastore, 1) := dk_79 (dk_at dksX3_read_4 0 rfl rfl)
theorem dX3_read_95 : decode cX3_read 95 = .ok (.aload_n 0, 1) := dk_42 (dk_at dksX3_read_4 1 rfl rfl)
theorem dX3_read_96 : decode cX3_read 96 = .ok (.iload_n 1, 1) := dk_27 (dk_at dksX3_read_4 2 rfl rfl)
theorem dX3_read_97 : decode cX3_read 97 = .ok (.iload_n 2, 1) := dk_28 (dk_at dksX3_read_4 3 rfl rfl)
theorem dX3_read_98 : decode cX3_read 98 = .ok (.iload_n 3, 1) := dk_29 (dk_at dksX3_read_4 4 rfl rfl)
theorem dX3_read_99 : decode cX3_read 99 = .ok (.iload 4, 2) := dk_21 4 (dk_at dksX3_read_4 5 rfl rfl)
theorem dX3_read_101 : decode cX3_read 101 = .ok (.invokevirtual 313, 3) := dk_182 1 57 (dk_at dksX3_read_4 7 rfl rfl)
theorem dX3_read_104 : decode cX3_read 104 = .ok (.ireturn, 1) := dk_172 (dk_at dksX3_read_4 10 rfl rfl)
abbrev cX3_isClosed : ByteArray := prog_15_method_7_code
def yX3_isClosed : MethodName := ⟨RX3, "isClosed", "(I)Z"⟩
def dkwX3_isClosed_0 : List UInt8 := [27, 3, 42, 180, 0, 183, 4, 100, 184, 0, 179, 172]
abbrev dktX3_isClosed_0 : List UInt8 := dkwX3_isClosed_0 ++ []
theorem dksX3_isClosed_0 : cX3_isClosed.data.toList.drop 0 = dktX3_isClosed_0 := by decide +kernel
theorem dX3_isClosed_0 : decode cX3_isClosed 0 = .ok (.iload_n 1, 1) := dk_27 (dk_at dksX3_isClosed_0 0 rfl rfl)
theorem dX3_isClosed_1 : decode cX3_isClosed 1 = .ok (.iconst 0, 1) := dk_3 (dk_at dksX3_isClosed_0 1 rfl rfl)
theorem dX3_isClosed_2 : decode cX3_isClosed 2 = .ok (.aload_n 0, 1) := dk_42 (dk_at dksX3_isClosed_0 2 rfl rfl)
theorem dX3_isClosed_3 : decode cX3_isClosed 3 = .ok (.getfield 183, 3) := dk_180 0 183 (dk_at dksX3_isClosed_0 3 rfl rfl)
theorem dX3_isClosed_6 : decode cX3_isClosed 6 = .ok (.iconst 1, 1) := dk_4 (dk_at dksX3_isClosed_0 6 rfl rfl)
theorem dX3_isClosed_7 : decode cX3_isClosed 7 = .ok (.isub, 1) := dk_100 (dk_at dksX3_isClosed_0 7 rfl rfl)
theorem dX3_isClosed_8 : decode cX3_isClosed 8 = .ok (.invokestatic 179, 3) := dk_184 0 179 (dk_at dksX3_isClosed_0 8 rfl rfl)
theorem dX3_isClosed_11 : decode cX3_isClosed 11 = .ok (.ireturn, 1) := dk_172 (dk_at dksX3_isClosed_0 11 rfl rfl)
abbrev cX3_placeOf : ByteArray := prog_15_method_42_code
def yX3_placeOf : MethodName := ⟨RX3, "placeOf", "(IIII)I"⟩
def dkwX3_placeOf_0 : List UInt8 := [16, 72, 26, 104, 16, 12, 27, 104, 96, 7, 28, 104, 96, 29, 96, 172]
abbrev dktX3_placeOf_0 : List UInt8 := dkwX3_placeOf_0 ++ []
theorem dksX3_placeOf_0 : cX3_placeOf.data.toList.drop 0 = dktX3_placeOf_0 := by decide +kernel
theorem dX3_placeOf_0 : decode cX3_placeOf 0 = .ok (.bipush 72, 2) := dk_16 72 (dk_at dksX3_placeOf_0 0 rfl rfl)
theorem dX3_placeOf_2 : decode cX3_placeOf 2 = .ok (.iload_n 0, 1) := dk_26 (dk_at dksX3_placeOf_0 2 rfl rfl)
theorem dX3_placeOf_3 : decode cX3_placeOf 3 = .ok (.imul, 1) := dk_104 (dk_at dksX3_placeOf_0 3 rfl rfl)
theorem dX3_placeOf_4 : decode cX3_placeOf 4 = .ok (.bipush 12, 2) := dk_16 12 (dk_at dksX3_placeOf_0 4 rfl rfl)
theorem dX3_placeOf_6 : decode cX3_placeOf 6 = .ok (.iload_n 1, 1) := dk_27 (dk_at dksX3_placeOf_0 6 rfl rfl)
theorem dX3_placeOf_7 : decode cX3_placeOf 7 = .ok (.imul, 1) := dk_104 (dk_at dksX3_placeOf_0 7 rfl rfl)
theorem dX3_placeOf_8 : decode cX3_placeOf 8 = .ok (.iadd, 1) := dk_96 (dk_at dksX3_placeOf_0 8 rfl rfl)
theorem dX3_placeOf_9 : decode cX3_placeOf 9 = .ok (.iconst 4, 1) := dk_7 (dk_at dksX3_placeOf_0 9 rfl rfl)
theorem dX3_placeOf_10 : decode cX3_placeOf 10 = .ok (.iload_n 2, 1) := dk_28 (dk_at dksX3_placeOf_0 10 rfl rfl)
theorem dX3_placeOf_11 : decode cX3_placeOf 11 = .ok (.imul, 1) := dk_104 (dk_at dksX3_placeOf_0 11 rfl rfl)
theorem dX3_placeOf_12 : decode cX3_placeOf 12 = .ok (.iadd, 1) := dk_96 (dk_at dksX3_placeOf_0 12 rfl rfl)
theorem dX3_placeOf_13 : decode cX3_placeOf 13 = .ok (.iload_n 3, 1) := dk_29 (dk_at dksX3_placeOf_0 13 rfl rfl)
theorem dX3_placeOf_14 : decode cX3_placeOf 14 = .ok (.iadd, 1) := dk_96 (dk_at dksX3_placeOf_0 14 rfl rfl)
theorem dX3_placeOf_15 : decode cX3_placeOf 15 = .ok (.ireturn, 1) := dk_172 (dk_at dksX3_placeOf_0 15 rfl rfl)
abbrev cX3_gapOf : ByteArray := prog_15_method_43_code
def yX3_gapOf : MethodName := ⟨RX3, "gapOf", "(IIII)I"⟩
def dkwX3_gapOf_1 : List UInt8 := [180, 0, 136, 21, 5, 46, 42, 180, 0, 133, 21, 5, 46, 100, 167, 0, 4, 3, 172]
abbrev dktX3_gapOf_1 : List UInt8 := dkwX3_gapOf_1 ++ []
def dkwX3_gapOf_0 : List UInt8 := [27, 28, 29, 21, 4, 184, 1, 51, 54, 5, 42, 180, 0, 139, 21, 5, 46, 4, 160, 0, 21, 42]
abbrev dktX3_gapOf_0 : List UInt8 := dkwX3_gapOf_0 ++ dktX3_gapOf_1
theorem dksX3_gapOf_0 : cX3_gapOf.data.toList.drop 0 = dktX3_gapOf_0 := by decide +kernel
theorem dksX3_gapOf_1 : cX3_gapOf.data.toList.drop 22 = dktX3_gapOf_1 := dk_seg dksX3_gapOf_0 22 rfl rfl
theorem dX3_gapOf_0 : decode cX3_gapOf 0 = .ok (.iload_n 1, 1) := dk_27 (dk_at dksX3_gapOf_0 0 rfl rfl)
theorem dX3_gapOf_1 : decode cX3_gapOf 1 = .ok (.iload_n 2, 1) := dk_28 (dk_at dksX3_gapOf_0 1 rfl rfl)
theorem dX3_gapOf_2 : decode cX3_gapOf 2 = .ok (.iload_n 3, 1) := dk_29 (dk_at dksX3_gapOf_0 2 rfl rfl)
theorem dX3_gapOf_3 : decode cX3_gapOf 3 = .ok (.iload 4, 2) := dk_21 4 (dk_at dksX3_gapOf_0 3 rfl rfl)
theorem dX3_gapOf_5 : decode cX3_gapOf 5 = .ok (.invokestatic 307, 3) := dk_184 1 51 (dk_at dksX3_gapOf_0 5 rfl rfl)
theorem dX3_gapOf_8 : decode cX3_gapOf 8 = .ok (.istore 5, 2) := dk_54 5 (dk_at dksX3_gapOf_0 8 rfl rfl)
theorem dX3_gapOf_10 : decode cX3_gapOf 10 = .ok (.aload_n 0, 1) := dk_42 (dk_at dksX3_gapOf_0 10 rfl rfl)
theorem dX3_gapOf_11 : decode cX3_gapOf 11 = .ok (.getfield 139, 3) := dk_180 0 139 (dk_at dksX3_gapOf_0 11 rfl rfl)
theorem dX3_gapOf_14 : decode cX3_gapOf 14 = .ok (.iload 5, 2) := dk_21 5 (dk_at dksX3_gapOf_0 14 rfl rfl)
theorem dX3_gapOf_16 : decode cX3_gapOf 16 = .ok (.iaload, 1) := dk_46 (dk_at dksX3_gapOf_0 16 rfl rfl)
theorem dX3_gapOf_17 : decode cX3_gapOf 17 = .ok (.iconst 1, 1) := dk_4 (dk_at dksX3_gapOf_0 17 rfl rfl)
theorem dX3_gapOf_18 : decode cX3_gapOf 18 = .ok (.if_icmp .ne 21, 3) := dk_160 0 21 (dk_at dksX3_gapOf_0 18 rfl rfl)
theorem dX3_gapOf_21 : decode cX3_gapOf 21 = .ok (.aload_n 0, 1) := dk_42 (dk_at dksX3_gapOf_0 21 rfl rfl)
theorem dX3_gapOf_22 : decode cX3_gapOf 22 = .ok (.getfield 136, 3) := dk_180 0 136 (dk_at dksX3_gapOf_1 0 rfl rfl)
theorem dX3_gapOf_25 : decode cX3_gapOf 25 = .ok (.iload 5, 2) := dk_21 5 (dk_at dksX3_gapOf_1 3 rfl rfl)
theorem dX3_gapOf_27 : decode cX3_gapOf 27 = .ok (.iaload, 1) := dk_46 (dk_at dksX3_gapOf_1 5 rfl rfl)
theorem dX3_gapOf_28 : decode cX3_gapOf 28 = .ok (.aload_n 0, 1) := dk_42 (dk_at dksX3_gapOf_1 6 rfl rfl)
theorem dX3_gapOf_29 : decode cX3_gapOf 29 = .ok (.getfield 133, 3) := dk_180 0 133 (dk_at dksX3_gapOf_1 7 rfl rfl)
theorem dX3_gapOf_32 : decode cX3_gapOf 32 = .ok (.iload 5, 2) := dk_21 5 (dk_at dksX3_gapOf_1 10 rfl rfl)
theorem dX3_gapOf_34 : decode cX3_gapOf 34 = .ok (.iaload, 1) := dk_46 (dk_at dksX3_gapOf_1 12 rfl rfl)
theorem dX3_gapOf_35 : decode cX3_gapOf 35 = .ok (.isub, 1) := dk_100 (dk_at dksX3_gapOf_1 13 rfl rfl)
theorem dX3_gapOf_36 : decode cX3_gapOf 36 = .ok (.goto 4, 3) := dk_167 0 4 (dk_at dksX3_gapOf_1 14 rfl rfl)
theorem dX3_gapOf_39 : decode cX3_gapOf 39 = .ok (.iconst 0, 1) := dk_3 (dk_at dksX3_gapOf_1 17 rfl rfl)
theorem dX3_gapOf_40 : decode cX3_gapOf 40 = .ok (.ireturn, 1) := dk_172 (dk_at dksX3_gapOf_1 18 rfl rfl)
abbrev cX3_run : ByteArray := prog_15_method_53_code
def yX3_run : MethodName := ⟨RX3, "run", "(I)I"⟩
def dkwX3_run_6 : List UInt8 := [182, 1, 85, 132, 2, 1, 42, 182, 1, 81, 62, 167, 255, 238, 28, 172]
abbrev dktX3_run_6 : List UInt8 := dkwX3_run_6 ++ []
def dkwX3_run_5 : List UInt8 := [181, 1, 75, 132, 2, 1, 167, 255, 184, 3, 61, 42, 182, 1, 81, 62, 29, 2, 159, 0, 19, 42, 29]
abbrev dktX3_run_5 : List UInt8 := dkwX3_run_5 ++ dktX3_run_6
def dkwX3_run_4 : List UInt8 := [28, 96, 92, 46, 29, 96, 79, 42, 180, 0, 13, 28, 92, 46, 29, 96, 79, 42, 89, 180, 1, 75, 29, 100]
abbrev dktX3_run_4 : List UInt8 := dkwX3_run_4 ++ dktX3_run_5
def dkwX3_run_3 : List UInt8 := [182, 1, 78, 42, 180, 0, 145, 16, 6, 27, 104, 28, 96, 46, 100, 62, 42, 180, 0, 145, 16, 6, 27, 104]
abbrev dktX3_run_3 : List UInt8 := dkwX3_run_3 ++ dktX3_run_4
def dkwX3_run_2 : List UInt8 := [96, 79, 3, 61, 28, 16, 6, 162, 0, 72, 42, 180, 0, 19, 28, 46, 154, 0, 57, 42, 27, 28]
abbrev dktX3_run_2 : List UInt8 := dkwX3_run_2 ++ dktX3_run_3
def dkwX3_run_1 : List UInt8 := [167, 0, 4, 3, 181, 0, 175, 42, 180, 0, 175, 158, 0, 5, 3, 172, 42, 180, 0, 148, 27, 92, 46, 4]
abbrev dktX3_run_1 : List UInt8 := dkwX3_run_1 ++ dktX3_run_2
def dkwX3_run_0 : List UInt8 := [42, 42, 27, 182, 1, 54, 154, 0, 7, 4, 167, 0, 18, 42, 180, 0, 148, 27, 46, 6, 160, 0, 7, 5]
abbrev dktX3_run_0 : List UInt8 := dkwX3_run_0 ++ dktX3_run_1
theorem dksX3_run_0 : cX3_run.data.toList.drop 0 = dktX3_run_0 := by decide +kernel
theorem dksX3_run_1 : cX3_run.data.toList.drop 24 = dktX3_run_1 := dk_seg dksX3_run_0 24 rfl rfl
theorem dksX3_run_2 : cX3_run.data.toList.drop 48 = dktX3_run_2 := dk_seg dksX3_run_1 24 rfl rfl
theorem dksX3_run_3 : cX3_run.data.toList.drop 70 = dktX3_run_3 := dk_seg dksX3_run_2 22 rfl rfl
theorem dksX3_run_4 : cX3_run.data.toList.drop 94 = dktX3_run_4 := dk_seg dksX3_run_3 24 rfl rfl
theorem dksX3_run_5 : cX3_run.data.toList.drop 118 = dktX3_run_5 := dk_seg dksX3_run_4 24 rfl rfl
theorem dksX3_run_6 : cX3_run.data.toList.drop 141 = dktX3_run_6 := dk_seg dksX3_run_5 23 rfl rfl
theorem dX3_run_0 : decode cX3_run 0 = .ok (.aload_n 0, 1) := dk_42 (dk_at dksX3_run_0 0 rfl rfl)
theorem dX3_run_1 : decode cX3_run 1 = .ok (.aload_n 0, 1) := dk_42 (dk_at dksX3_run_0 1 rfl rfl)
theorem dX3_run_2 : decode cX3_run 2 = .ok (.iload_n 1, 1) := dk_27 (dk_at dksX3_run_0 2 rfl rfl)
theorem dX3_run_3 : decode cX3_run 3 = .ok (.invokevirtual 310, 3) := dk_182 1 54 (dk_at dksX3_run_0 3 rfl rfl)
theorem dX3_run_6 : decode cX3_run 6 = .ok (.ifCond .ne 7, 3) := dk_154 0 7 (dk_at dksX3_run_0 6 rfl rfl)
theorem dX3_run_9 : decode cX3_run 9 = .ok (.iconst 1, 1) := dk_4 (dk_at dksX3_run_0 9 rfl rfl)
theorem dX3_run_10 : decode cX3_run 10 = .ok (.goto 18, 3) := dk_167 0 18 (dk_at dksX3_run_0 10 rfl rfl)
theorem dX3_run_13 : decode cX3_run 13 = .ok (.aload_n 0, 1) := dk_42 (dk_at dksX3_run_0 13 rfl rfl)
theorem dX3_run_14 : decode cX3_run 14 = .ok (.getfield 148, 3) := dk_180 0 148 (dk_at dksX3_run_0 14 rfl rfl)
theorem dX3_run_17 : decode cX3_run 17 = .ok (.iload_n 1, 1) := dk_27 (dk_at dksX3_run_0 17 rfl rfl)
theorem dX3_run_18 : decode cX3_run 18 = .ok (.iaload, 1) := dk_46 (dk_at dksX3_run_0 18 rfl rfl)
theorem dX3_run_19 : decode cX3_run 19 = .ok (.iconst 3, 1) := dk_6 (dk_at dksX3_run_0 19 rfl rfl)
theorem dX3_run_20 : decode cX3_run 20 = .ok (.if_icmp .ne 7, 3) := dk_160 0 7 (dk_at dksX3_run_0 20 rfl rfl)
theorem dX3_run_23 : decode cX3_run 23 = .ok (.iconst 2, 1) := dk_5 (dk_at dksX3_run_0 23 rfl rfl)
theorem dX3_run_24 : decode cX3_run 24 = .ok (.goto 4, 3) := dk_167 0 4 (dk_at dksX3_run_1 0 rfl rfl)
theorem dX3_run_27 : decode cX3_run 27 = .ok (.iconst 0, 1) := dk_3 (dk_at dksX3_run_1 3 rfl rfl)
theorem dX3_run_28 : decode cX3_run 28 = .ok (.putfield 175, 3) := dk_181 0 175 (dk_at dksX3_run_1 4 rfl rfl)
theorem dX3_run_31 : decode cX3_run 31 = .ok (.aload_n 0, 1) := dk_42 (dk_at dksX3_run_1 7 rfl rfl)
theorem dX3_run_32 : decode cX3_run 32 = .ok (.getfield 175, 3) := dk_180 0 175 (dk_at dksX3_run_1 8 rfl rfl)
theorem dX3_run_35 : decode cX3_run 35 = .ok (.ifCond .le 5, 3) := dk_158 0 5 (dk_at dksX3_run_1 11 rfl rfl)
theorem dX3_run_38 : decode cX3_run 38 = .ok (.iconst 0, 1) := dk_3 (dk_at dksX3_run_1 14 rfl rfl)
theorem dX3_run_39 : decode cX3_run 39 = .ok (.ireturn, 1) := dk_172 (dk_at dksX3_run_1 15 rfl rfl)
theorem dX3_run_40 : decode cX3_run 40 = .ok (.aload_n 0, 1) := dk_42 (dk_at dksX3_run_1 16 rfl rfl)
theorem dX3_run_41 : decode cX3_run 41 = .ok (.getfield 148, 3) := dk_180 0 148 (dk_at dksX3_run_1 17 rfl rfl)
theorem dX3_run_44 : decode cX3_run 44 = .ok (.iload_n 1, 1) := dk_27 (dk_at dksX3_run_1 20 rfl rfl)
theorem dX3_run_45 : decode cX3_run 45 = .ok (.dup2, 1) := dk_92 (dk_at dksX3_run_1 21 rfl rfl)
theorem dX3_run_46 : decode cX3_run 46 = .ok (.iaload, 1) := dk_46 (dk_at dksX3_run_1 22 rfl rfl)
theorem dX3_run_47 : decode cX3_run 47 = .ok (.iconst 1, 1) := dk_4 (dk_at dksX3_run_1 23 rfl rfl)
theorem dX3_run_48 : decode cX3_run 48 = .ok (.iadd, 1) := dk_96 (dk_at dksX3_run_2 0 rfl rfl)
theorem dX3_run_49 : decode cX3_run 49 = .ok (.iastore, 1) := dk_79 (dk_at dksX3_run_2 1 rfl rfl)
theorem dX3_run_50 : decode cX3_run 50 = .ok (.iconst 0, 1) := dk_3 (dk_at dksX3_run_2 2 rfl rfl)
theorem dX3_run_51 : decode cX3_run 51 = .ok (.istore_n 2, 1) := dk_61 (dk_at dksX3_run_2 3 rfl rfl)
theorem dX3_run_52 : decode cX3_run 52 = .ok (.iload_n 2, 1) := dk_28 (dk_at dksX3_run_2 4 rfl rfl)
theorem dX3_run_53 : decode cX3_run 53 = .ok (.bipush 6, 2) := dk_16 6 (dk_at dksX3_run_2 5 rfl rfl)
theorem dX3_run_55 : decode cX3_run 55 = .ok (.if_icmp .ge 72, 3) := dk_162 0 72 (dk_at dksX3_run_2 7 rfl rfl)
theorem dX3_run_58 : decode cX3_run 58 = .ok (.aload_n 0, 1) := dk_42 (dk_at dksX3_run_2 10 rfl rfl)
theorem dX3_run_59 : decode cX3_run 59 = .ok (.getfield 19, 3) := dk_180 0 19 (dk_at dksX3_run_2 11 rfl rfl)
theorem dX3_run_62 : decode cX3_run 62 = .ok (.iload_n 2, 1) := dk_28 (dk_at dksX3_run_2 14 rfl rfl)
theorem dX3_run_63 : decode cX3_run 63 = .ok (.iaload, 1) := dk_46 (dk_at dksX3_run_2 15 rfl rfl)
theorem dX3_run_64 : decode cX3_run 64 = .ok (.ifCond .ne 57, 3) := dk_154 0 57 (dk_at dksX3_run_2 16 rfl rfl)
theorem dX3_run_67 : decode cX3_run 67 = .ok (.aload_n 0, 1) := dk_42 (dk_at dksX3_run_2 19 rfl rfl)
theorem dX3_run_68 : decode cX3_run 68 = .ok (.iload_n 1, 1) := dk_27 (dk_at dksX3_run_2 20 rfl rfl)
theorem dX3_run_69 : decode cX3_run 69 = .ok (.iload_n 2, 1) := dk_28 (dk_at dksX3_run_2 21 rfl rfl)
theorem dX3_run_70 : decode cX3_run 70 = .ok (.invokevirtual 334, 3) := dk_182 1 78 (dk_at dksX3_run_3 0 rfl rfl)
theorem dX3_run_73 : decode cX3_run 73 = .ok (.aload_n 0, 1) := dk_42 (dk_at dksX3_run_3 3 rfl rfl)
theorem dX3_run_74 : decode cX3_run 74 = .ok (.getfield 145, 3) := dk_180 0 145 (dk_at dksX3_run_3 4 rfl rfl)
theorem dX3_run_77 : decode cX3_run 77 = .ok (.bipush 6, 2) := dk_16 6 (dk_at dksX3_run_3 7 rfl rfl)
theorem dX3_run_79 : decode cX3_run 79 = .ok (.iload_n 1, 1) := dk_27 (dk_at dksX3_run_3 9 rfl rfl)
theorem dX3_run_80 : decode cX3_run 80 = .ok (.imul, 1) := dk_104 (dk_at dksX3_run_3 10 rfl rfl)
theorem dX3_run_81 : decode cX3_run 81 = .ok (.iload_n 2, 1) := dk_28 (dk_at dksX3_run_3 11 rfl rfl)
theorem dX3_run_82 : decode cX3_run 82 = .ok (.iadd, 1) := dk_96 (dk_at dksX3_run_3 12 rfl rfl)
theorem dX3_run_83 : decode cX3_run 83 = .ok (.iaload, 1) := dk_46 (dk_at dksX3_run_3 13 rfl rfl)
theorem dX3_run_84 : decode cX3_run 84 = .ok (.isub, 1) := dk_100 (dk_at dksX3_run_3 14 rfl rfl)
theorem dX3_run_85 : decode cX3_run 85 = .ok (.istore_n 3, 1) := dk_62 (dk_at dksX3_run_3 15 rfl rfl)
theorem dX3_run_86 : decode cX3_run 86 = .ok (.aload_n 0, 1) := dk_42 (dk_at dksX3_run_3 16 rfl rfl)
theorem dX3_run_87 : decode cX3_run 87 = .ok (.getfield 145, 3) := dk_180 0 145 (dk_at dksX3_run_3 17 rfl rfl)
theorem dX3_run_90 : decode cX3_run 90 = .ok (.bipush 6, 2) := dk_16 6 (dk_at dksX3_run_3 20 rfl rfl)
theorem dX3_run_92 : decode cX3_run 92 = .ok (.iload_n 1, 1) := dk_27 (dk_at dksX3_run_3 22 rfl rfl)
theorem dX3_run_93 : decode cX3_run 93 = .ok (.imul, 1) := dk_104 (dk_at dksX3_run_3 23 rfl rfl)
theorem dX3_run_94 : decode cX3_run 94 = .ok (.iload_n 2, 1) := dk_28 (dk_at dksX3_run_4 0 rfl rfl)
theorem dX3_run_95 : decode cX3_run 95 = .ok (.iadd, 1) := dk_96 (dk_at dksX3_run_4 1 rfl rfl)
theorem dX3_run_96 : decode cX3_run 96 = .ok (.dup2, 1) := dk_92 (dk_at dksX3_run_4 2 rfl rfl)
theorem dX3_run_97 : decode cX3_run 97 = .ok (.iaload, 1) := dk_46 (dk_at dksX3_run_4 3 rfl rfl)
theorem dX3_run_98 : decode cX3_run 98 = .ok (.iload_n 3, 1) := dk_29 (dk_at dksX3_run_4 4 rfl rfl)
theorem dX3_run_99 : decode cX3_run 99 = .ok (.iadd, 1) := dk_96 (dk_at dksX3_run_4 5 rfl rfl)
theorem dX3_run_100 : decode cX3_run 100 = .ok (.iastore, 1) := dk_79 (dk_at dksX3_run_4 6 rfl rfl)
theorem dX3_run_101 : decode cX3_run 101 = .ok (.aload_n 0, 1) := dk_42 (dk_at dksX3_run_4 7 rfl rfl)
theorem dX3_run_102 : decode cX3_run 102 = .ok (.getfield 13, 3) := dk_180 0 13 (dk_at dksX3_run_4 8 rfl rfl)
theorem dX3_run_105 : decode cX3_run 105 = .ok (.iload_n 2, 1) := dk_28 (dk_at dksX3_run_4 11 rfl rfl)
theorem dX3_run_106 : decode cX3_run 106 = .ok (.dup2, 1) := dk_92 (dk_at dksX3_run_4 12 rfl rfl)
theorem dX3_run_107 : decode cX3_run 107 = .ok (.iaload, 1) := dk_46 (dk_at dksX3_run_4 13 rfl rfl)
theorem dX3_run_108 : decode cX3_run 108 = .ok (.iload_n 3, 1) := dk_29 (dk_at dksX3_run_4 14 rfl rfl)
theorem dX3_run_109 : decode cX3_run 109 = .ok (.iadd, 1) := dk_96 (dk_at dksX3_run_4 15 rfl rfl)
theorem dX3_run_110 : decode cX3_run 110 = .ok (.iastore, 1) := dk_79 (dk_at dksX3_run_4 16 rfl rfl)
theorem dX3_run_111 : decode cX3_run 111 = .ok (.aload_n 0, 1) := dk_42 (dk_at dksX3_run_4 17 rfl rfl)
theorem dX3_run_112 : decode cX3_run 112 = .ok (.dup, 1) := dk_89 (dk_at dksX3_run_4 18 rfl rfl)
theorem dX3_run_113 : decode cX3_run 113 = .ok (.getfield 331, 3) := dk_180 1 75 (dk_at dksX3_run_4 19 rfl rfl)
theorem dX3_run_116 : decode cX3_run 116 = .ok (.iload_n 3, 1) := dk_29 (dk_at dksX3_run_4 22 rfl rfl)
theorem dX3_run_117 : decode cX3_run 117 = .ok (.isub, 1) := dk_100 (dk_at dksX3_run_4 23 rfl rfl)
theorem dX3_run_118 : decode cX3_run 118 = .ok (.putfield 331, 3) := dk_181 1 75 (dk_at dksX3_run_5 0 rfl rfl)
theorem dX3_run_121 : decode cX3_run 121 = .ok (.iinc 2 1, 3) := dk_132 2 1 (dk_at dksX3_run_5 3 rfl rfl)
theorem dX3_run_124 : decode cX3_run 124 = .ok (.goto (-72), 3) := dk_167 255 184 (dk_at dksX3_run_5 6 rfl rfl)
theorem dX3_run_127 : decode cX3_run 127 = .ok (.iconst 0, 1) := dk_3 (dk_at dksX3_run_5 9 rfl rfl)
theorem dX3_run_128 : decode cX3_run 128 = .ok (.istore_n 2, 1) := dk_61 (dk_at dksX3_run_5 10 rfl rfl)
theorem dX3_run_129 : decode cX3_run 129 = .ok (.aload_n 0, 1) := dk_42 (dk_at dksX3_run_5 11 rfl rfl)
theorem dX3_run_130 : decode cX3_run 130 = .ok (.invokevirtual 337, 3) := dk_182 1 81 (dk_at dksX3_run_5 12 rfl rfl)
theorem dX3_run_133 : decode cX3_run 133 = .ok (.istore_n 3, 1) := dk_62 (dk_at dksX3_run_5 15 rfl rfl)
theorem dX3_run_134 : decode cX3_run 134 = .ok (.iload_n 3, 1) := dk_29 (dk_at dksX3_run_5 16 rfl rfl)
theorem dX3_run_135 : decode cX3_run 135 = .ok (.iconst (-1), 1) := dk_2 (dk_at dksX3_run_5 17 rfl rfl)
theorem dX3_run_136 : decode cX3_run 136 = .ok (.if_icmp .eq 19, 3) := dk_159 0 19 (dk_at dksX3_run_5 18 rfl rfl)
theorem dX3_run_139 : decode cX3_run 139 = .ok (.aload_n 0, 1) := dk_42 (dk_at dksX3_run_5 21 rfl rfl)
theorem dX3_run_140 : decode cX3_run 140 = .ok (.iload_n 3, 1) := dk_29 (dk_at dksX3_run_5 22 rfl rfl)
theorem dX3_run_141 : decode cX3_run 141 = .ok (.invokevirtual 341, 3) := dk_182 1 85 (dk_at dksX3_run_6 0 rfl rfl)
theorem dX3_run_144 : decode cX3_run 144 = .ok (.iinc 2 1, 3) := dk_132 2 1 (dk_at dksX3_run_6 3 rfl rfl)
theorem dX3_run_147 : decode cX3_run 147 = .ok (.aload_n 0, 1) := dk_42 (dk_at dksX3_run_6 6 rfl rfl)
theorem dX3_run_148 : decode cX3_run 148 = .ok (.invokevirtual 337, 3) := dk_182 1 81 (dk_at dksX3_run_6 7 rfl rfl)
theorem dX3_run_151 : decode cX3_run 151 = .ok (.istore_n 3, 1) := dk_62 (dk_at dksX3_run_6 10 rfl rfl)
theorem dX3_run_152 : decode cX3_run 152 = .ok (.goto (-18), 3) := dk_167 255 238 (dk_at dksX3_run_6 11 rfl rfl)
theorem dX3_run_155 : decode cX3_run 155 = .ok (.iload_n 2, 1) := dk_28 (dk_at dksX3_run_6 14 rfl rfl)
theorem dX3_run_156 : decode cX3_run 156 = .ok (.ireturn, 1) := dk_172 (dk_at dksX3_run_6 15 rfl rfl)
abbrev cX3_billOf : ByteArray := prog_15_method_50_code
def yX3_billOf : MethodName := ⟨RX3, "billOf", "(II)I"⟩
def dkwX3_billOf_1 : List UInt8 := [28, 21, 4, 182, 1, 72, 96, 62, 132, 4, 1, 167, 255, 236, 29, 172]
abbrev dktX3_billOf_1 : List UInt8 := dkwX3_billOf_1 ++ []
def dkwX3_billOf_0 : List UInt8 := [42, 180, 0, 142, 16, 6, 27, 104, 28, 96, 46, 62, 3, 54, 4, 21, 4, 7, 162, 0, 20, 29, 42, 27]
abbrev dktX3_billOf_0 : List UInt8 := dkwX3_billOf_0 ++ dktX3_billOf_1
theorem dksX3_billOf_0 : cX3_billOf.data.toList.drop 0 = dktX3_billOf_0 := by decide +kernel
theorem dksX3_billOf_1 : cX3_billOf.data.toList.drop 24 = dktX3_billOf_1 := dk_seg dksX3_billOf_0 24 rfl rfl
theorem dX3_billOf_0 : decode cX3_billOf 0 = .ok (.aload_n 0, 1) := dk_42 (dk_at dksX3_billOf_0 0 rfl rfl)
theorem dX3_billOf_1 : decode cX3_billOf 1 = .ok (.getfield 142, 3) := dk_180 0 142 (dk_at dksX3_billOf_0 1 rfl rfl)
theorem dX3_billOf_4 : decode cX3_billOf 4 = .ok (.bipush 6, 2) := dk_16 6 (dk_at dksX3_billOf_0 4 rfl rfl)
theorem dX3_billOf_6 : decode cX3_billOf 6 = .ok (.iload_n 1, 1) := dk_27 (dk_at dksX3_billOf_0 6 rfl rfl)
theorem dX3_billOf_7 : decode cX3_billOf 7 = .ok (.imul, 1) := dk_104 (dk_at dksX3_billOf_0 7 rfl rfl)
theorem dX3_billOf_8 : decode cX3_billOf 8 = .ok (.iload_n 2, 1) := dk_28 (dk_at dksX3_billOf_0 8 rfl rfl)
theorem dX3_billOf_9 : decode cX3_billOf 9 = .ok (.iadd, 1) := dk_96 (dk_at dksX3_billOf_0 9 rfl rfl)
theorem dX3_billOf_10 : decode cX3_billOf 10 = .ok (.iaload, 1) := dk_46 (dk_at dksX3_billOf_0 10 rfl rfl)
theorem dX3_billOf_11 : decode cX3_billOf 11 = .ok (.istore_n 3, 1) := dk_62 (dk_at dksX3_billOf_0 11 rfl rfl)
theorem dX3_billOf_12 : decode cX3_billOf 12 = .ok (.iconst 0, 1) := dk_3 (dk_at dksX3_billOf_0 12 rfl rfl)
theorem dX3_billOf_13 : decode cX3_billOf 13 = .ok (.istore 4, 2) := dk_54 4 (dk_at dksX3_billOf_0 13 rfl rfl)
theorem dX3_billOf_15 : decode cX3_billOf 15 = .ok (.iload 4, 2) := dk_21 4 (dk_at dksX3_billOf_0 15 rfl rfl)
theorem dX3_billOf_17 : decode cX3_billOf 17 = .ok (.iconst 4, 1) := dk_7 (dk_at dksX3_billOf_0 17 rfl rfl)
theorem dX3_billOf_18 : decode cX3_billOf 18 = .ok (.if_icmp .ge 20, 3) := dk_162 0 20 (dk_at dksX3_billOf_0 18 rfl rfl)
theorem dX3_billOf_21 : decode cX3_billOf 21 = .ok (.iload_n 3, 1) := dk_29 (dk_at dksX3_billOf_0 21 rfl rfl)
theorem dX3_billOf_22 : decode cX3_billOf 22 = .ok (.aload_n 0, 1) := dk_42 (dk_at dksX3_billOf_0 22 rfl rfl)
theorem dX3_billOf_23 : decode cX3_billOf 23 = .ok (.iload_n 1, 1) := dk_27 (dk_at dksX3_billOf_0 23 rfl rfl)
theorem dX3_billOf_24 : decode cX3_billOf 24 = .ok (.iload_n 2, 1) := dk_28 (dk_at dksX3_billOf_1 0 rfl rfl)
theorem dX3_billOf_25 : decode cX3_billOf 25 = .ok (.iload 4, 2) := dk_21 4 (dk_at dksX3_billOf_1 1 rfl rfl)
theorem dX3_billOf_27 : decode cX3_billOf 27 = .ok (.invokevirtual 328, 3) := dk_182 1 72 (dk_at dksX3_billOf_1 3 rfl rfl)
theorem dX3_billOf_30 : decode cX3_billOf 30 = .ok (.iadd, 1) := dk_96 (dk_at dksX3_billOf_1 6 rfl rfl)
theorem dX3_billOf_31 : decode cX3_billOf 31 = .ok (.istore_n 3, 1) := dk_62 (dk_at dksX3_billOf_1 7 rfl rfl)
theorem dX3_billOf_32 : decode cX3_billOf 32 = .ok (.iinc 4 1, 3) := dk_132 4 1 (dk_at dksX3_billOf_1 8 rfl rfl)
theorem dX3_billOf_35 : decode cX3_billOf 35 = .ok (.goto (-20), 3) := dk_167 255 236 (dk_at dksX3_billOf_1 11 rfl rfl)
theorem dX3_billOf_38 : decode cX3_billOf 38 = .ok (.iload_n 3, 1) := dk_29 (dk_at dksX3_billOf_1 14 rfl rfl)
theorem dX3_billOf_39 : decode cX3_billOf 39 = .ok (.ireturn, 1) := dk_172 (dk_at dksX3_billOf_1 15 rfl rfl)
abbrev cX3_balances : ByteArray := prog_15_method_49_code
def yX3_balances : MethodName := ⟨RX3, "balances", "(III)I"⟩
def dkwX3_balances_8 : List UInt8 := [167, 255, 189, 21, 6, 172]
abbrev dktX3_balances_8 : List UInt8 := dkwX3_balances_8 ++ []
def dkwX3_balances_7 : List UInt8 := [156, 0, 11, 21, 8, 21, 4, 104, 167, 0, 9, 21, 8, 116, 21, 4, 104, 96, 54, 6, 132, 7, 1]
abbrev dktX3_balances_7 : List UInt8 := dkwX3_balances_7 ++ dktX3_balances_8
def dkwX3_balances_6 : List UInt8 := [21, 7, 46, 28, 160, 0, 13, 42, 180, 0, 127, 21, 7, 46, 167, 0, 4, 3, 54, 8, 21, 6, 21, 5]
abbrev dktX3_balances_6 : List UInt8 := dkwX3_balances_6 ++ dktX3_balances_7
def dkwX3_balances_5 : List UInt8 := [27, 104, 54, 7, 21, 7, 16, 30, 27, 104, 42, 180, 0, 109, 27, 46, 96, 162, 0, 57, 42, 180, 0, 112]
abbrev dktX3_balances_5 : List UInt8 := dkwX3_balances_5 ++ dktX3_balances_6
def dkwX3_balances_4 : List UInt8 := [16, 12, 27, 104, 7, 21, 7, 104, 96, 29, 96, 46, 104, 96, 54, 6, 132, 7, 1, 167, 255, 167, 16, 30]
abbrev dktX3_balances_4 : List UInt8 := dkwX3_balances_4 ++ dktX3_balances_5
def dkwX3_balances_3 : List UInt8 := [167, 0, 4, 3, 54, 9, 21, 6, 21, 8, 21, 9, 153, 0, 8, 21, 4, 167, 0, 19, 42, 180, 0, 130]
abbrev dktX3_balances_3 : List UInt8 := dkwX3_balances_3 ++ dktX3_balances_4
def dkwX3_balances_2 : List UInt8 := [156, 0, 7, 4, 167, 0, 22, 3, 167, 0, 18, 21, 5, 158, 0, 12, 21, 8, 158, 0, 7, 4]
abbrev dktX3_balances_2 : List UInt8 := dkwX3_balances_2 ++ dktX3_balances_3
def dkwX3_balances_1 : List UInt8 := [6, 162, 0, 89, 42, 27, 28, 21, 7, 29, 182, 1, 57, 54, 8, 21, 5, 156, 0, 16, 21, 8]
abbrev dktX3_balances_1 : List UInt8 := dkwX3_balances_1 ++ dktX3_balances_2
def dkwX3_balances_0 : List UInt8 := [42, 27, 29, 182, 1, 69, 54, 4, 42, 27, 29, 182, 1, 60, 54, 5, 3, 54, 6, 3, 54, 7, 21, 7]
abbrev dktX3_balances_0 : List UInt8 := dkwX3_balances_0 ++ dktX3_balances_1
theorem dksX3_balances_0 : cX3_balances.data.toList.drop 0 = dktX3_balances_0 := by decide +kernel
theorem dksX3_balances_1 : cX3_balances.data.toList.drop 24 = dktX3_balances_1 := dk_seg dksX3_balances_0 24 rfl rfl
theorem dksX3_balances_2 : cX3_balances.data.toList.drop 46 = dktX3_balances_2 := dk_seg dksX3_balances_1 22 rfl rfl
theorem dksX3_balances_3 : cX3_balances.data.toList.drop 68 = dktX3_balances_3 := dk_seg dksX3_balances_2 22 rfl rfl
theorem dksX3_balances_4 : cX3_balances.data.toList.drop 92 = dktX3_balances_4 := dk_seg dksX3_balances_3 24 rfl rfl
theorem dksX3_balances_5 : cX3_balances.data.toList.drop 116 = dktX3_balances_5 := dk_seg dksX3_balances_4 24 rfl rfl
theorem dksX3_balances_6 : cX3_balances.data.toList.drop 140 = dktX3_balances_6 := dk_seg dksX3_balances_5 24 rfl rfl
theorem dksX3_balances_7 : cX3_balances.data.toList.drop 164 = dktX3_balances_7 := dk_seg dksX3_balances_6 24 rfl rfl
theorem dksX3_balances_8 : cX3_balances.data.toList.drop 187 = dktX3_balances_8 := dk_seg dksX3_balances_7 23 rfl rfl
theorem dX3_balances_0 : decode cX3_balances 0 = .ok (.aload_n 0, 1) := dk_42 (dk_at dksX3_balances_0 0 rfl rfl)
theorem dX3_balances_1 : decode cX3_balances 1 = .ok (.iload_n 1, 1) := dk_27 (dk_at dksX3_balances_0 1 rfl rfl)
theorem dX3_balances_2 : decode cX3_balances 2 = .ok (.iload_n 3, 1) := dk_29 (dk_at dksX3_balances_0 2 rfl rfl)
theorem dX3_balances_3 : decode cX3_balances 3 = .ok (.invokevirtual 325, 3) := dk_182 1 69 (dk_at dksX3_balances_0 3 rfl rfl)
theorem dX3_balances_6 : decode cX3_balances 6 = .ok (.istore 4, 2) := dk_54 4 (dk_at dksX3_balances_0 6 rfl rfl)
theorem dX3_balances_8 : decode cX3_balances 8 = .ok (.aload_n 0, 1) := dk_42 (dk_at dksX3_balances_0 8 rfl rfl)
theorem dX3_balances_9 : decode cX3_balances 9 = .ok (.iload_n 1, 1) := dk_27 (dk_at dksX3_balances_0 9 rfl rfl)
theorem dX3_balances_10 : decode cX3_balances 10 = .ok (.iload_n 3, 1) := dk_29 (dk_at dksX3_balances_0 10 rfl rfl)
theorem dX3_balances_11 : decode cX3_balances 11 = .ok (.invokevirtual 316, 3) := dk_182 1 60 (dk_at dksX3_balances_0 11 rfl rfl)
theorem dX3_balances_14 : decode cX3_balances 14 = .ok (.istore 5, 2) := dk_54 5 (dk_at dksX3_balances_0 14 rfl rfl)
theorem dX3_balances_16 : decode cX3_balances 16 = .ok (.iconst 0, 1) := dk_3 (dk_at dksX3_balances_0 16 rfl rfl)
theorem dX3_balances_17 : decode cX3_balances 17 = .ok (.istore 6, 2) := dk_54 6 (dk_at dksX3_balances_0 17 rfl rfl)
theorem dX3_balances_19 : decode cX3_balances 19 = .ok (.iconst 0, 1) := dk_3 (dk_at dksX3_balances_0 19 rfl rfl)
theorem dX3_balances_20 : decode cX3_balances 20 = .ok (.istore 7, 2) := dk_54 7 (dk_at dksX3_balances_0 20 rfl rfl)
theorem dX3_balances_22 : decode cX3_balances 22 = .ok (.iload 7, 2) := dk_21 7 (dk_at dksX3_balances_0 22 rfl rfl)
theorem dX3_balances_24 : decode cX3_balances 24 = .ok (.iconst 3, 1) := dk_6 (dk_at dksX3_balances_1 0 rfl rfl)
theorem dX3_balances_25 : decode cX3_balances 25 = .ok (.if_icmp .ge 89, 3) := dk_162 0 89 (dk_at dksX3_balances_1 1 rfl rfl)
theorem dX3_balances_28 : decode cX3_balances 28 = .ok (.aload_n 0, 1) := dk_42 (dk_at dksX3_balances_1 4 rfl rfl)
theorem dX3_balances_29 : decode cX3_balances 29 = .ok (.iload_n 1, 1) := dk_27 (dk_at dksX3_balances_1 5 rfl rfl)
theorem dX3_balances_30 : decode cX3_balances 30 = .ok (.iload_n 2, 1) := dk_28 (dk_at dksX3_balances_1 6 rfl rfl)
theorem dX3_balances_31 : decode cX3_balances 31 = .ok (.iload 7, 2) := dk_21 7 (dk_at dksX3_balances_1 7 rfl rfl)
theorem dX3_balances_33 : decode cX3_balances 33 = .ok (.iload_n 3, 1) := dk_29 (dk_at dksX3_balances_1 9 rfl rfl)
theorem dX3_balances_34 : decode cX3_balances 34 = .ok (.invokevirtual 313, 3) := dk_182 1 57 (dk_at dksX3_balances_1 10 rfl rfl)
theorem dX3_balances_37 : decode cX3_balances 37 = .ok (.istore 8, 2) := dk_54 8 (dk_at dksX3_balances_1 13 rfl rfl)
theorem dX3_balances_39 : decode cX3_balances 39 = .ok (.iload 5, 2) := dk_21 5 (dk_at dksX3_balances_1 15 rfl rfl)
theorem dX3_balances_41 : decode cX3_balances 41 = .ok (.ifCond .ge 16, 3) := dk_156 0 16 (dk_at dksX3_balances_1 17 rfl rfl)
theorem dX3_balances_44 : decode cX3_balances 44 = .ok (.iload 8, 2) := dk_21 8 (dk_at dksX3_balances_1 20 rfl rfl)
theorem dX3_balances_46 : decode cX3_balances 46 = .ok (.ifCond .ge 7, 3) := dk_156 0 7 (dk_at dksX3_balances_2 0 rfl rfl)
theorem dX3_balances_49 : decode cX3_balances 49 = .ok (.iconst 1, 1) := dk_4 (dk_at dksX3_balances_2 3 rfl rfl)
theorem dX3_balances_50 : decode cX3_balances 50 = .ok (.goto 22, 3) := dk_167 0 22 (dk_at dksX3_balances_2 4 rfl rfl)
theorem dX3_balances_53 : decode cX3_balances 53 = .ok (.iconst 0, 1) := dk_3 (dk_at dksX3_balances_2 7 rfl rfl)
theorem dX3_balances_54 : decode cX3_balances 54 = .ok (.goto 18, 3) := dk_167 0 18 (dk_at dksX3_balances_2 8 rfl rfl)
theorem dX3_balances_57 : decode cX3_balances 57 = .ok (.iload 5, 2) := dk_21 5 (dk_at dksX3_balances_2 11 rfl rfl)
theorem dX3_balances_59 : decode cX3_balances 59 = .ok (.ifCond .le 12, 3) := dk_158 0 12 (dk_at dksX3_balances_2 13 rfl rfl)
theorem dX3_balances_62 : decode cX3_balances 62 = .ok (.iload 8, 2) := dk_21 8 (dk_at dksX3_balances_2 16 rfl rfl)
theorem dX3_balances_64 : decode cX3_balances 64 = .ok (.ifCond .le 7, 3) := dk_158 0 7 (dk_at dksX3_balances_2 18 rfl rfl)
theorem dX3_balances_67 : decode cX3_balances 67 = .ok (.iconst 1, 1) := dk_4 (dk_at dksX3_balances_2 21 rfl rfl)
theorem dX3_balances_68 : decode cX3_balances 68 = .ok (.goto 4, 3) := dk_167 0 4 (dk_at dksX3_balances_3 0 rfl rfl)
theorem dX3_balances_71 : decode cX3_balances 71 = .ok (.iconst 0, 1) := dk_3 (dk_at dksX3_balances_3 3 rfl rfl)
theorem dX3_balances_72 : decode cX3_balances 72 = .ok (.istore 9, 2) := dk_54 9 (dk_at dksX3_balances_3 4 rfl rfl)
theorem dX3_balances_74 : decode cX3_balances 74 = .ok (.iload 6, 2) := dk_21 6 (dk_at dksX3_balances_3 6 rfl rfl)
theorem dX3_balances_76 : decode cX3_balances 76 = .ok (.iload 8, 2) := dk_21 8 (dk_at dksX3_balances_3 8 rfl rfl)
theorem dX3_balances_78 : decode cX3_balances 78 = .ok (.iload 9, 2) := dk_21 9 (dk_at dksX3_balances_3 10 rfl rfl)
theorem dX3_balances_80 : decode cX3_balances 80 = .ok (.ifCond .eq 8, 3) := dk_153 0 8 (dk_at dksX3_balances_3 12 rfl rfl)
theorem dX3_balances_83 : decode cX3_balances 83 = .ok (.iload 4, 2) := dk_21 4 (dk_at dksX3_balances_3 15 rfl rfl)
theorem dX3_balances_85 : decode cX3_balances 85 = .ok (.goto 19, 3) := dk_167 0 19 (dk_at dksX3_balances_3 17 rfl rfl)
theorem dX3_balances_88 : decode cX3_balances 88 = .ok (.aload_n 0, 1) := dk_42 (dk_at dksX3_balances_3 20 rfl rfl)
theorem dX3_balances_89 : decode cX3_balances 89 = .ok (.getfield 130, 3) := dk_180 0 130 (dk_at dksX3_balances_3 21 rfl rfl)
theorem dX3_balances_92 : decode cX3_balances 92 = .ok (.bipush 12, 2) := dk_16 12 (dk_at dksX3_balances_4 0 rfl rfl)
theorem dX3_balances_94 : decode cX3_balances 94 = .ok (.iload_n 1, 1) := dk_27 (dk_at dksX3_balances_4 2 rfl rfl)
theorem dX3_balances_95 : decode cX3_balances 95 = .ok (.imul, 1) := dk_104 (dk_at dksX3_balances_4 3 rfl rfl)
theorem dX3_balances_96 : decode cX3_balances 96 = .ok (.iconst 4, 1) := dk_7 (dk_at dksX3_balances_4 4 rfl rfl)
theorem dX3_balances_97 : decode cX3_balances 97 = .ok (.iload 7, 2) := dk_21 7 (dk_at dksX3_balances_4 5 rfl rfl)
theorem dX3_balances_99 : decode cX3_balances 99 = .ok (.imul, 1) := dk_104 (dk_at dksX3_balances_4 7 rfl rfl)
theorem dX3_balances_100 : decode cX3_balances 100 = .ok (.iadd, 1) := dk_96 (dk_at dksX3_balances_4 8 rfl rfl)
theorem dX3_balances_101 : decode cX3_balances 101 = .ok (.iload_n 3, 1) := dk_29 (dk_at dksX3_balances_4 9 rfl rfl)
theorem dX3_balances_102 : decode cX3_balances 102 = .ok (.iadd, 1) := dk_96 (dk_at dksX3_balances_4 10 rfl rfl)
theorem dX3_balances_103 : decode cX3_balances 103 = .ok (.iaload, 1) := dk_46 (dk_at dksX3_balances_4 11 rfl rfl)
theorem dX3_balances_104 : decode cX3_balances 104 = .ok (.imul, 1) := dk_104 (dk_at dksX3_balances_4 12 rfl rfl)
theorem dX3_balances_105 : decode cX3_balances 105 = .ok (.iadd, 1) := dk_96 (dk_at dksX3_balances_4 13 rfl rfl)
theorem dX3_balances_106 : decode cX3_balances 106 = .ok (.istore 6, 2) := dk_54 6 (dk_at dksX3_balances_4 14 rfl rfl)
theorem dX3_balances_108 : decode cX3_balances 108 = .ok (.iinc 7 1, 3) := dk_132 7 1 (dk_at dksX3_balances_4 16 rfl rfl)
theorem dX3_balances_111 : decode cX3_balances 111 = .ok (.goto (-89), 3) := dk_167 255 167 (dk_at dksX3_balances_4 19 rfl rfl)
theorem dX3_balances_114 : decode cX3_balances 114 = .ok (.bipush 30, 2) := dk_16 30 (dk_at dksX3_balances_4 22 rfl rfl)
theorem dX3_balances_116 : decode cX3_balances 116 = .ok (.iload_n 1, 1) := dk_27 (dk_at dksX3_balances_5 0 rfl rfl)
theorem dX3_balances_117 : decode cX3_balances 117 = .ok (.imul, 1) := dk_104 (dk_at dksX3_balances_5 1 rfl rfl)
theorem dX3_balances_118 : decode cX3_balances 118 = .ok (.istore 7, 2) := dk_54 7 (dk_at dksX3_balances_5 2 rfl rfl)
theorem dX3_balances_120 : decode cX3_balances 120 = .ok (.iload 7, 2) := dk_21 7 (dk_at dksX3_balances_5 4 rfl rfl)
theorem dX3_balances_122 : decode cX3_balances 122 = .ok (.bipush 30, 2) := dk_16 30 (dk_at dksX3_balances_5 6 rfl rfl)
theorem dX3_balances_124 : decode cX3_balances 124 = .ok (.iload_n 1, 1) := dk_27 (dk_at dksX3_balances_5 8 rfl rfl)
theorem dX3_balances_125 : decode cX3_balances 125 = .ok (.imul, 1) := dk_104 (dk_at dksX3_balances_5 9 rfl rfl)
theorem dX3_balances_126 : decode cX3_balances 126 = .ok (.aload_n 0, 1) := dk_42 (dk_at dksX3_balances_5 10 rfl rfl)
theorem dX3_balances_127 : decode cX3_balances 127 = .ok (.getfield 109, 3) := dk_180 0 109 (dk_at dksX3_balances_5 11 rfl rfl)
theorem dX3_balances_130 : decode cX3_balances 130 = .ok (.iload_n 1, 1) := dk_27 (dk_at dksX3_balances_5 14 rfl rfl)
theorem dX3_balances_131 : decode cX3_balances 131 = .ok (.iaload, 1) := dk_46 (dk_at dksX3_balances_5 15 rfl rfl)
theorem dX3_balances_132 : decode cX3_balances 132 = .ok (.iadd, 1) := dk_96 (dk_at dksX3_balances_5 16 rfl rfl)
theorem dX3_balances_133 : decode cX3_balances 133 = .ok (.if_icmp .ge 57, 3) := dk_162 0 57 (dk_at dksX3_balances_5 17 rfl rfl)
theorem dX3_balances_136 : decode cX3_balances 136 = .ok (.aload_n 0, 1) := dk_42 (dk_at dksX3_balances_5 20 rfl rfl)
theorem dX3_balances_137 : decode cX3_balances 137 = .ok (.getfield 112, 3) := dk_180 0 112 (dk_at dksX3_balances_5 21 rfl rfl)
theorem dX3_balances_140 : decode cX3_balances 140 = .ok (.iload 7, 2) := dk_21 7 (dk_at dksX3_balances_6 0 rfl rfl)
theorem dX3_balances_142 : decode cX3_balances 142 = .ok (.iaload, 1) := dk_46 (dk_at dksX3_balances_6 2 rfl rfl)
theorem dX3_balances_143 : decode cX3_balances 143 = .ok (.iload_n 2, 1) := dk_28 (dk_at dksX3_balances_6 3 rfl rfl)
theorem dX3_balances_144 : decode cX3_balances 144 = .ok (.if_icmp .ne 13, 3) := dk_160 0 13 (dk_at dksX3_balances_6 4 rfl rfl)
theorem dX3_balances_147 : decode cX3_balances 147 = .ok (.aload_n 0, 1) := dk_42 (dk_at dksX3_balances_6 7 rfl rfl)
theorem dX3_balances_148 : decode cX3_balances 148 = .ok (.getfield 127, 3) := dk_180 0 127 (dk_at dksX3_balances_6 8 rfl rfl)
theorem dX3_balances_151 : decode cX3_balances 151 = .ok (.iload 7, 2) := dk_21 7 (dk_at dksX3_balances_6 11 rfl rfl)
theorem dX3_balances_153 : decode cX3_balances 153 = .ok (.iaload, 1) := dk_46 (dk_at dksX3_balances_6 13 rfl rfl)
theorem dX3_balances_154 : decode cX3_balances 154 = .ok (.goto 4, 3) := dk_167 0 4 (dk_at dksX3_balances_6 14 rfl rfl)
theorem dX3_balances_157 : decode cX3_balances 157 = .ok (.iconst 0, 1) := dk_3 (dk_at dksX3_balances_6 17 rfl rfl)
theorem dX3_balances_158 : decode cX3_balances 158 = .ok (.istore 8, 2) := dk_54 8 (dk_at dksX3_balances_6 18 rfl rfl)
theorem dX3_balances_160 : decode cX3_balances 160 = .ok (.iload 6, 2) := dk_21 6 (dk_at dksX3_balances_6 20 rfl rfl)
theorem dX3_balances_162 : decode cX3_balances 162 = .ok (.iload 5, 2) := dk_21 5 (dk_at dksX3_balances_6 22 rfl rfl)
theorem dX3_balances_164 : decode cX3_balances 164 = .ok (.ifCond .ge 11, 3) := dk_156 0 11 (dk_at dksX3_balances_7 0 rfl rfl)
theorem dX3_balances_167 : decode cX3_balances 167 = .ok (.iload 8, 2) := dk_21 8 (dk_at dksX3_balances_7 3 rfl rfl)
theorem dX3_balances_169 : decode cX3_balances 169 = .ok (.iload 4, 2) := dk_21 4 (dk_at dksX3_balances_7 5 rfl rfl)
theorem dX3_balances_171 : decode cX3_balances 171 = .ok (.imul, 1) := dk_104 (dk_at dksX3_balances_7 7 rfl rfl)
theorem dX3_balances_172 : decode cX3_balances 172 = .ok (.goto 9, 3) := dk_167 0 9 (dk_at dksX3_balances_7 8 rfl rfl)
theorem dX3_balances_175 : decode cX3_balances 175 = .ok (.iload 8, 2) := dk_21 8 (dk_at dksX3_balances_7 11 rfl rfl)
theorem dX3_balances_177 : decode cX3_balances 177 = .ok (.ineg, 1) := dk_116 (dk_at dksX3_balances_7 13 rfl rfl)
theorem dX3_balances_178 : decode cX3_balances 178 = .ok (.iload 4, 2) := dk_21 4 (dk_at dksX3_balances_7 14 rfl rfl)
theorem dX3_balances_180 : decode cX3_balances 180 = .ok (.imul, 1) := dk_104 (dk_at dksX3_balances_7 16 rfl rfl)
theorem dX3_balances_181 : decode cX3_balances 181 = .ok (.iadd, 1) := dk_96 (dk_at dksX3_balances_7 17 rfl rfl)
theorem dX3_balances_182 : decode cX3_balances 182 = .ok (.istore 6, 2) := dk_54 6 (dk_at dksX3_balances_7 18 rfl rfl)
theorem dX3_balances_184 : decode cX3_balances 184 = .ok (.iinc 7 1, 3) := dk_132 7 1 (dk_at dksX3_balances_7 20 rfl rfl)
theorem dX3_balances_187 : decode cX3_balances 187 = .ok (.goto (-67), 3) := dk_167 255 189 (dk_at dksX3_balances_8 0 rfl rfl)
theorem dX3_balances_190 : decode cX3_balances 190 = .ok (.iload 6, 2) := dk_21 6 (dk_at dksX3_balances_8 3 rfl rfl)
theorem dX3_balances_192 : decode cX3_balances 192 = .ok (.ireturn, 1) := dk_172 (dk_at dksX3_balances_8 5 rfl rfl)
abbrev cX3_helps : ByteArray := prog_15_method_48_code
def yX3_helps : MethodName := ⟨RX3, "helps", "(II)I"⟩
def dkwX3_helps_14 : List UInt8 := [21, 6, 21, 8, 184, 1, 63, 172]
abbrev dktX3_helps_14 : List UInt8 := dkwX3_helps_14 ++ []
def dkwX3_helps_13 : List UInt8 := [17, 1, 44, 167, 0, 5, 21, 6, 21, 9, 184, 1, 66, 172, 21, 4, 158, 0, 7, 3, 167, 0, 5]
abbrev dktX3_helps_13 : List UInt8 := dkwX3_helps_13 ++ dktX3_helps_14
def dkwX3_helps_12 : List UInt8 := [96, 28, 96, 46, 184, 1, 66, 184, 1, 66, 54, 9, 21, 5, 4, 160, 0, 22, 21, 4, 158, 0, 9]
abbrev dktX3_helps_12 : List UInt8 := dkwX3_helps_12 ++ dktX3_helps_13
def dkwX3_helps_11 : List UInt8 := [46, 42, 180, 0, 130, 16, 12, 27, 104, 7, 96, 28, 96, 46, 42, 180, 0, 130, 16, 12, 27, 104, 16, 8]
abbrev dktX3_helps_11 : List UInt8 := dkwX3_helps_11 ++ dktX3_helps_12
def dkwX3_helps_10 : List UInt8 := [16, 8, 96, 28, 96, 46, 184, 1, 63, 184, 1, 63, 54, 8, 42, 180, 0, 130, 16, 12, 27, 104, 28, 96]
abbrev dktX3_helps_10 : List UInt8 := dkwX3_helps_10 ++ dktX3_helps_11
def dkwX3_helps_9 : List UInt8 := [96, 46, 42, 180, 0, 130, 16, 12, 27, 104, 7, 96, 28, 96, 46, 42, 180, 0, 130, 16, 12, 27, 104]
abbrev dktX3_helps_9 : List UInt8 := dkwX3_helps_9 ++ dktX3_helps_10
def dkwX3_helps_8 : List UInt8 := [167, 255, 164, 132, 8, 1, 167, 255, 127, 29, 154, 0, 5, 2, 172, 42, 180, 0, 130, 16, 12, 27, 104, 28]
abbrev dktX3_helps_8 : List UInt8 := dkwX3_helps_8 ++ dktX3_helps_9
def dkwX3_helps_7 : List UInt8 := [184, 1, 63, 79, 21, 4, 42, 180, 0, 127, 21, 10, 46, 100, 54, 4, 21, 9, 54, 6, 132, 10, 1]
abbrev dktX3_helps_7 : List UInt8 := dkwX3_helps_7 ++ dktX3_helps_8
def dkwX3_helps_6 : List UInt8 := [21, 10, 46, 21, 9, 160, 0, 38, 42, 180, 0, 127, 21, 10, 42, 180, 0, 124, 21, 10, 46, 21, 4]
abbrev dktX3_helps_6 : List UInt8 := dkwX3_helps_6 ++ dktX3_helps_7
def dkwX3_helps_5 : List UInt8 := [21, 10, 46, 28, 160, 0, 62, 42, 180, 0, 118, 21, 10, 46, 21, 5, 160, 0, 50, 42, 180, 0, 121]
abbrev dktX3_helps_5 : List UInt8 := dkwX3_helps_5 ++ dktX3_helps_6
def dkwX3_helps_4 : List UInt8 := [21, 10, 21, 7, 42, 180, 0, 109, 27, 46, 96, 162, 0, 84, 21, 4, 158, 0, 73, 42, 180, 0, 115]
abbrev dktX3_helps_4 : List UInt8 := dkwX3_helps_4 ++ dktX3_helps_5
def dkwX3_helps_3 : List UInt8 := [21, 5, 4, 160, 0, 8, 21, 8, 167, 0, 9, 17, 1, 44, 21, 8, 100, 54, 9, 21, 7, 54, 10]
abbrev dktX3_helps_3 : List UInt8 := dkwX3_helps_3 ++ dktX3_helps_4
def dkwX3_helps_2 : List UInt8 := [180, 0, 127, 21, 8, 3, 79, 132, 8, 1, 167, 255, 235, 3, 54, 8, 21, 8, 17, 1, 44, 163, 0, 127]
abbrev dktX3_helps_2 : List UInt8 := dkwX3_helps_2 ++ dktX3_helps_3
def dkwX3_helps_1 : List UInt8 := [2, 54, 6, 16, 30, 27, 104, 54, 7, 21, 7, 54, 8, 21, 8, 21, 7, 16, 30, 96, 162, 0, 17, 42]
abbrev dktX3_helps_1 : List UInt8 := dkwX3_helps_1 ++ dktX3_helps_2
def dkwX3_helps_0 : List UInt8 := [42, 27, 28, 182, 1, 60, 62, 29, 184, 0, 224, 54, 4, 29, 156, 0, 7, 4, 167, 0, 4, 3, 54, 5]
abbrev dktX3_helps_0 : List UInt8 := dkwX3_helps_0 ++ dktX3_helps_1
theorem dksX3_helps_0 : cX3_helps.data.toList.drop 0 = dktX3_helps_0 := by decide +kernel
theorem dksX3_helps_1 : cX3_helps.data.toList.drop 24 = dktX3_helps_1 := dk_seg dksX3_helps_0 24 rfl rfl
theorem dksX3_helps_2 : cX3_helps.data.toList.drop 48 = dktX3_helps_2 := dk_seg dksX3_helps_1 24 rfl rfl
theorem dksX3_helps_3 : cX3_helps.data.toList.drop 72 = dktX3_helps_3 := dk_seg dksX3_helps_2 24 rfl rfl
theorem dksX3_helps_4 : cX3_helps.data.toList.drop 95 = dktX3_helps_4 := dk_seg dksX3_helps_3 23 rfl rfl
theorem dksX3_helps_5 : cX3_helps.data.toList.drop 118 = dktX3_helps_5 := dk_seg dksX3_helps_4 23 rfl rfl
theorem dksX3_helps_6 : cX3_helps.data.toList.drop 141 = dktX3_helps_6 := dk_seg dksX3_helps_5 23 rfl rfl
theorem dksX3_helps_7 : cX3_helps.data.toList.drop 164 = dktX3_helps_7 := dk_seg dksX3_helps_6 23 rfl rfl
theorem dksX3_helps_8 : cX3_helps.data.toList.drop 187 = dktX3_helps_8 := dk_seg dksX3_helps_7 23 rfl rfl
theorem dksX3_helps_9 : cX3_helps.data.toList.drop 211 = dktX3_helps_9 := dk_seg dksX3_helps_8 24 rfl rfl
theorem dksX3_helps_10 : cX3_helps.data.toList.drop 234 = dktX3_helps_10 := dk_seg dksX3_helps_9 23 rfl rfl
theorem dksX3_helps_11 : cX3_helps.data.toList.drop 258 = dktX3_helps_11 := dk_seg dksX3_helps_10 24 rfl rfl
theorem dksX3_helps_12 : cX3_helps.data.toList.drop 282 = dktX3_helps_12 := dk_seg dksX3_helps_11 24 rfl rfl
theorem dksX3_helps_13 : cX3_helps.data.toList.drop 305 = dktX3_helps_13 := dk_seg dksX3_helps_12 23 rfl rfl
theorem dksX3_helps_14 : cX3_helps.data.toList.drop 328 = dktX3_helps_14 := dk_seg dksX3_helps_13 23 rfl rfl
theorem dX3_helps_0 : decode cX3_helps 0 = .ok (.aload_n 0, 1) := dk_42 (dk_at dksX3_helps_0 0 rfl rfl)
theorem dX3_helps_1 : decode cX3_helps 1 = .ok (.iload_n 1, 1) := dk_27 (dk_at dksX3_helps_0 1 rfl rfl)
theorem dX3_helps_2 : decode cX3_helps 2 = .ok (.iload_n 2, 1) := dk_28 (dk_at dksX3_helps_0 2 rfl rfl)
theorem dX3_helps_3 : decode cX3_helps 3 = .ok (.invokevirtual 316, 3) := dk_182 1 60 (dk_at dksX3_helps_0 3 rfl rfl)
theorem dX3_helps_6 : decode cX3_helps 6 = .ok (.istore_n 3, 1) := dk_62 (dk_at dksX3_helps_0 6 rfl rfl)
theorem dX3_helps_7 : decode cX3_helps 7 = .ok (.iload_n 3, 1) := dk_29 (dk_at dksX3_helps_0 7 rfl rfl)
theorem dX3_helps_8 : decode cX3_helps 8 = .ok (.invokestatic 224, 3) := dk_184 0 224 (dk_at dksX3_helps_0 8 rfl rfl)
theorem dX3_helps_11 : decode cX3_helps 11 = .ok (.istore 4, 2) := dk_54 4 (dk_at dksX3_helps_0 11 rfl rfl)
theorem dX3_helps_13 : decode cX3_helps 13 = .ok (.iload_n 3, 1) := dk_29 (dk_at dksX3_helps_0 13 rfl rfl)
theorem dX3_helps_14 : decode cX3_helps 14 = .ok (.ifCond .ge 7, 3) := dk_156 0 7 (dk_at dksX3_helps_0 14 rfl rfl)
theorem dX3_helps_17 : decode cX3_helps 17 = .ok (.iconst 1, 1) := dk_4 (dk_at dksX3_helps_0 17 rfl rfl)
theorem dX3_helps_18 : decode cX3_helps 18 = .ok (.goto 4, 3) := dk_167 0 4 (dk_at dksX3_helps_0 18 rfl rfl)
theorem dX3_helps_21 : decode cX3_helps 21 = .ok (.iconst 0, 1) := dk_3 (dk_at dksX3_helps_0 21 rfl rfl)
theorem dX3_helps_22 : decode cX3_helps 22 = .ok (.istore 5, 2) := dk_54 5 (dk_at dksX3_helps_0 22 rfl rfl)
theorem dX3_helps_24 : decode cX3_helps 24 = .ok (.iconst (-1), 1) := dk_2 (dk_at dksX3_helps_1 0 rfl rfl)
theorem dX3_helps_25 : decode cX3_helps 25 = .ok (.istore 6, 2) := dk_54 6 (dk_at dksX3_helps_1 1 rfl rfl)
theorem dX3_helps_27 : decode cX3_helps 27 = .ok (.bipush 30, 2) := dk_16 30 (dk_at dksX3_helps_1 3 rfl rfl)
theorem dX3_helps_29 : decode cX3_helps 29 = .ok (.iload_n 1, 1) := dk_27 (dk_at dksX3_helps_1 5 rfl rfl)
theorem dX3_helps_30 : decode cX3_helps 30 = .ok (.imul, 1) := dk_104 (dk_at dksX3_helps_1 6 rfl rfl)
theorem dX3_helps_31 : decode cX3_helps 31 = .ok (.istore 7, 2) := dk_54 7 (dk_at dksX3_helps_1 7 rfl rfl)
theorem dX3_helps_33 : decode cX3_helps 33 = .ok (.iload 7, 2) := dk_21 7 (dk_at dksX3_helps_1 9 rfl rfl)
theorem dX3_helps_35 : decode cX3_helps 35 = .ok (.istore 8, 2) := dk_54 8 (dk_at dksX3_helps_1 11 rfl rfl)
theorem dX3_helps_37 : decode cX3_helps 37 = .ok (.iload 8, 2) := dk_21 8 (dk_at dksX3_helps_1 13 rfl rfl)
theorem dX3_helps_39 : decode cX3_helps 39 = .ok (.iload 7, 2) := dk_21 7 (dk_at dksX3_helps_1 15 rfl rfl)
theorem dX3_helps_41 : decode cX3_helps 41 = .ok (.bipush 30, 2) := dk_16 30 (dk_at dksX3_helps_1 17 rfl rfl)
theorem dX3_helps_43 : decode cX3_helps 43 = .ok (.iadd, 1) := dk_96 (dk_at dksX3_helps_1 19 rfl rfl)
theorem dX3_helps_44 : decode cX3_helps 44 = .ok (.if_icmp .ge 17, 3) := dk_162 0 17 (dk_at dksX3_helps_1 20 rfl rfl)
theorem dX3_helps_47 : decode cX3_helps 47 = .ok (.aload_n 0, 1) := dk_42 (dk_at dksX3_helps_1 23 rfl rfl)
theorem dX3_helps_48 : decode cX3_helps 48 = .ok (.getfield 127, 3) := dk_180 0 127 (dk_at dksX3_helps_2 0 rfl rfl)
theorem dX3_helps_51 : decode cX3_helps 51 = .ok (.iload 8, 2) := dk_21 8 (dk_at dksX3_helps_2 3 rfl rfl)
theorem dX3_helps_53 : decode cX3_helps 53 = .ok (.iconst 0, 1) := dk_3 (dk_at dksX3_helps_2 5 rfl rfl)
theorem dX3_helps_54 : decode cX3_helps 54 = .ok (.iastore, 1) := dk_79 (dk_at dksX3_helps_2 6 rfl rfl)
theorem dX3_helps_55 : decode cX3_helps 55 = .ok (.iinc 8 1, 3) := dk_132 8 1 (dk_at dksX3_helps_2 7 rfl rfl)
theorem dX3_helps_58 : decode cX3_helps 58 = .ok (.goto (-21), 3) := dk_167 255 235 (dk_at dksX3_helps_2 10 rfl rfl)
theorem dX3_helps_61 : decode cX3_helps 61 = .ok (.iconst 0, 1) := dk_3 (dk_at dksX3_helps_2 13 rfl rfl)
theorem dX3_helps_62 : decode cX3_helps 62 = .ok (.istore 8, 2) := dk_54 8 (dk_at dksX3_helps_2 14 rfl rfl)
theorem dX3_helps_64 : decode cX3_helps 64 = .ok (.iload 8, 2) := dk_21 8 (dk_at dksX3_helps_2 16 rfl rfl)
theorem dX3_helps_66 : decode cX3_helps 66 = .ok (.sipush 300, 3) := dk_17 1 44 (dk_at dksX3_helps_2 18 rfl rfl)
theorem dX3_helps_69 : decode cX3_helps 69 = .ok (.if_icmp .gt 127, 3) := dk_163 0 127 (dk_at dksX3_helps_2 21 rfl rfl)
theorem dX3_helps_72 : decode cX3_helps 72 = .ok (.iload 5, 2) := dk_21 5 (dk_at dksX3_helps_3 0 rfl rfl)
theorem dX3_helps_74 : decode cX3_helps 74 = .ok (.iconst 1, 1) := dk_4 (dk_at dksX3_helps_3 2 rfl rfl)
theorem dX3_helps_75 : decode cX3_helps 75 = .ok (.if_icmp .ne 8, 3) := dk_160 0 8 (dk_at dksX3_helps_3 3 rfl rfl)
theorem dX3_helps_78 : decode cX3_helps 78 = .ok (.iload 8, 2) := dk_21 8 (dk_at dksX3_helps_3 6 rfl rfl)
theorem dX3_helps_80 : decode cX3_helps 80 = .ok (.goto 9, 3) := dk_167 0 9 (dk_at dksX3_helps_3 8 rfl rfl)
theorem dX3_helps_83 : decode cX3_helps 83 = .ok (.sipush 300, 3) := dk_17 1 44 (dk_at dksX3_helps_3 11 rfl rfl)
theorem dX3_helps_86 : decode cX3_helps 86 = .ok (.iload 8, 2) := dk_21 8 (dk_at dksX3_helps_3 14 rfl rfl)
theorem dX3_helps_88 : decode cX3_helps 88 = .ok (.isub, 1) := dk_100 (dk_at dksX3_helps_3 16 rfl rfl)
theorem dX3_helps_89 : decode cX3_helps 89 = .ok (.istore 9, 2) := dk_54 9 (dk_at dksX3_helps_3 17 rfl rfl)
theorem dX3_helps_91 : decode cX3_helps 91 = .ok (.iload 7, 2) := dk_21 7 (dk_at dksX3_helps_3 19 rfl rfl)
theorem dX3_helps_93 : decode cX3_helps 93 = .ok (.istore 10, 2) := dk_54 10 (dk_at dksX3_helps_3 21 rfl rfl)
theorem dX3_helps_95 : decode cX3_helps 95 = .ok (.iload 10, 2) := dk_21 10 (dk_at dksX3_helps_4 0 rfl rfl)
theorem dX3_helps_97 : decode cX3_helps 97 = .ok (.iload 7, 2) := dk_21 7 (dk_at dksX3_helps_4 2 rfl rfl)
theorem dX3_helps_99 : decode cX3_helps 99 = .ok (.aload_n 0, 1) := dk_42 (dk_at dksX3_helps_4 4 rfl rfl)
theorem dX3_helps_100 : decode cX3_helps 100 = .ok (.getfield 109, 3) := dk_180 0 109 (dk_at dksX3_helps_4 5 rfl rfl)
theorem dX3_helps_103 : decode cX3_helps 103 = .ok (.iload_n 1, 1) := dk_27 (dk_at dksX3_helps_4 8 rfl rfl)
theorem dX3_helps_104 : decode cX3_helps 104 = .ok (.iaload, 1) := dk_46 (dk_at dksX3_helps_4 9 rfl rfl)
theorem dX3_helps_105 : decode cX3_helps 105 = .ok (.iadd, 1) := dk_96 (dk_at dksX3_helps_4 10 rfl rfl)
theorem dX3_helps_106 : decode cX3_helps 106 = .ok (.if_icmp .ge 84, 3) := dk_162 0 84 (dk_at dksX3_helps_4 11 rfl rfl)
theorem dX3_helps_109 : decode cX3_helps 109 = .ok (.iload 4, 2) := dk_21 4 (dk_at dksX3_helps_4 14 rfl rfl)
theorem dX3_helps_111 : decode cX3_helps 111 = .ok (.ifCond .le 73, 3) := dk_158 0 73 (dk_at dksX3_helps_4 16 rfl rfl)
theorem dX3_helps_114 : decode cX3_helps 114 = .ok (.aload_n 0, 1) := dk_42 (dk_at dksX3_helps_4 19 rfl rfl)
theorem dX3_helps_115 : decode cX3_helps 115 = .ok (.getfield 115, 3) := dk_180 0 115 (dk_at dksX3_helps_4 20 rfl rfl)
theorem dX3_helps_118 : decode cX3_helps 118 = .ok (.iload 10, 2) := dk_21 10 (dk_at dksX3_helps_5 0 rfl rfl)
theorem dX3_helps_120 : decode cX3_helps 120 = .ok (.iaload, 1) := dk_46 (dk_at dksX3_helps_5 2 rfl rfl)
theorem dX3_helps_121 : decode cX3_helps 121 = .ok (.iload_n 2, 1) := dk_28 (dk_at dksX3_helps_5 3 rfl rfl)
theorem dX3_helps_122 : decode cX3_helps 122 = .ok (.if_icmp .ne 62, 3) := dk_160 0 62 (dk_at dksX3_helps_5 4 rfl rfl)
theorem dX3_helps_125 : decode cX3_helps 125 = .ok (.aload_n 0, 1) := dk_42 (dk_at dksX3_helps_5 7 rfl rfl)
theorem dX3_helps_126 : decode cX3_helps 126 = .ok (.getfield 118, 3) := dk_180 0 118 (dk_at dksX3_helps_5 8 rfl rfl)
theorem dX3_helps_129 : decode cX3_helps 129 = .ok (.iload 10, 2) := dk_21 10 (dk_at dksX3_helps_5 11 rfl rfl)
theorem dX3_helps_131 : decode cX3_helps 131 = .ok (.iaload, 1) := dk_46 (dk_at dksX3_helps_5 13 rfl rfl)
theorem dX3_helps_132 : decode cX3_helps 132 = .ok (.iload 5, 2) := dk_21 5 (dk_at dksX3_helps_5 14 rfl rfl)
theorem dX3_helps_134 : decode cX3_helps 134 = .ok (.if_icmp .ne 50, 3) := dk_160 0 50 (dk_at dksX3_helps_5 16 rfl rfl)
theorem dX3_helps_137 : decode cX3_helps 137 = .ok (.aload_n 0, 1) := dk_42 (dk_at dksX3_helps_5 19 rfl rfl)
theorem dX3_helps_138 : decode cX3_helps 138 = .ok (.getfield 121, 3) := dk_180 0 121 (dk_at dksX3_helps_5 20 rfl rfl)
theorem dX3_helps_141 : decode cX3_helps 141 = .ok (.iload 10, 2) := dk_21 10 (dk_at dksX3_helps_6 0 rfl rfl)
theorem dX3_helps_143 : decode cX3_helps 143 = .ok (.iaload, 1) := dk_46 (dk_at dksX3_helps_6 2 rfl rfl)
theorem dX3_helps_144 : decode cX3_helps 144 = .ok (.iload 9, 2) := dk_21 9 (dk_at dksX3_helps_6 3 rfl rfl)
theorem dX3_helps_146 : decode cX3_helps 146 = .ok (.if_icmp .ne 38, 3) := dk_160 0 38 (dk_at dksX3_helps_6 5 rfl rfl)
theorem dX3_helps_149 : decode cX3_helps 149 = .ok (.aload_n 0, 1) := dk_42 (dk_at dksX3_helps_6 8 rfl rfl)
theorem dX3_helps_150 : decode cX3_helps 150 = .ok (.getfield 127, 3) := dk_180 0 127 (dk_at dksX3_helps_6 9 rfl rfl)
theorem dX3_helps_153 : decode cX3_helps 153 = .ok (.iload 10, 2) := dk_21 10 (dk_at dksX3_helps_6 12 rfl rfl)
theorem dX3_helps_155 : decode cX3_helps 155 = .ok (.aload_n 0, 1) := dk_42 (dk_at dksX3_helps_6 14 rfl rfl)
theorem dX3_helps_156 : decode cX3_helps 156 = .ok (.getfield 124, 3) := dk_180 0 124 (dk_at dksX3_helps_6 15 rfl rfl)
theorem dX3_helps_159 : decode cX3_helps 159 = .ok (.iload 10, 2) := dk_21 10 (dk_at dksX3_helps_6 18 rfl rfl)
theorem dX3_helps_161 : decode cX3_helps 161 = .ok (.iaload, 1) := dk_46 (dk_at dksX3_helps_6 20 rfl rfl)
theorem dX3_helps_162 : decode cX3_helps 162 = .ok (.iload 4, 2) := dk_21 4 (dk_at dksX3_helps_6 21 rfl rfl)
theorem dX3_helps_164 : decode cX3_helps 164 = .ok (.invokestatic 319, 3) := dk_184 1 63 (dk_at dksX3_helps_7 0 rfl rfl)
theorem dX3_helps_167 : decode cX3_helps 167 = .ok (.iastore, 1) := dk_79 (dk_at dksX3_helps_7 3 rfl rfl)
theorem dX3_helps_168 : decode cX3_helps 168 = .ok (.iload 4, 2) := dk_21 4 (dk_at dksX3_helps_7 4 rfl rfl)
theorem dX3_helps_170 : decode cX3_helps 170 = .ok (.aload_n 0, 1) := dk_42 (dk_at dksX3_helps_7 6 rfl rfl)
theorem dX3_helps_171 : decode cX3_helps 171 = .ok (.getfield 127, 3) := dk_180 0 127 (dk_at dksX3_helps_7 7 rfl rfl)
theorem dX3_helps_174 : decode cX3_helps 174 = .ok (.iload 10, 2) := dk_21 10 (dk_at dksX3_helps_7 10 rfl rfl)
theorem dX3_helps_176 : decode cX3_helps 176 = .ok (.iaload, 1) := dk_46 (dk_at dksX3_helps_7 12 rfl rfl)
theorem dX3_helps_177 : decode cX3_helps 177 = .ok (.isub, 1) := dk_100 (dk_at dksX3_helps_7 13 rfl rfl)
theorem dX3_helps_178 : decode cX3_helps 178 = .ok (.istore 4, 2) := dk_54 4 (dk_at dksX3_helps_7 14 rfl rfl)
theorem dX3_helps_180 : decode cX3_helps 180 = .ok (.iload 9, 2) := dk_21 9 (dk_at dksX3_helps_7 16 rfl rfl)
theorem dX3_helps_182 : decode cX3_helps 182 = .ok (.istore 6, 2) := dk_54 6 (dk_at dksX3_helps_7 18 rfl rfl)
theorem dX3_helps_184 : decode cX3_helps 184 = .ok (.iinc 10 1, 3) := dk_132 10 1 (dk_at dksX3_helps_7 20 rfl rfl)
theorem dX3_helps_187 : decode cX3_helps 187 = .ok (.goto (-92), 3) := dk_167 255 164 (dk_at dksX3_helps_8 0 rfl rfl)
theorem dX3_helps_190 : decode cX3_helps 190 = .ok (.iinc 8 1, 3) := dk_132 8 1 (dk_at dksX3_helps_8 3 rfl rfl)
theorem dX3_helps_193 : decode cX3_helps 193 = .ok (.goto (-129), 3) := dk_167 255 127 (dk_at dksX3_helps_8 6 rfl rfl)
theorem dX3_helps_196 : decode cX3_helps 196 = .ok (.iload_n 3, 1) := dk_29 (dk_at dksX3_helps_8 9 rfl rfl)
theorem dX3_helps_197 : decode cX3_helps 197 = .ok (.ifCond .ne 5, 3) := dk_154 0 5 (dk_at dksX3_helps_8 10 rfl rfl)
theorem dX3_helps_200 : decode cX3_helps 200 = .ok (.iconst (-1), 1) := dk_2 (dk_at dksX3_helps_8 13 rfl rfl)
theorem dX3_helps_201 : decode cX3_helps 201 = .ok (.ireturn, 1) := dk_172 (dk_at dksX3_helps_8 14 rfl rfl)
theorem dX3_helps_202 : decode cX3_helps 202 = .ok (.aload_n 0, 1) := dk_42 (dk_at dksX3_helps_8 15 rfl rfl)
theorem dX3_helps_203 : decode cX3_helps 203 = .ok (.getfield 130, 3) := dk_180 0 130 (dk_at dksX3_helps_8 16 rfl rfl)
theorem dX3_helps_206 : decode cX3_helps 206 = .ok (.bipush 12, 2) := dk_16 12 (dk_at dksX3_helps_8 19 rfl rfl)
theorem dX3_helps_208 : decode cX3_helps 208 = .ok (.iload_n 1, 1) := dk_27 (dk_at dksX3_helps_8 21 rfl rfl)
theorem dX3_helps_209 : decode cX3_helps 209 = .ok (.imul, 1) := dk_104 (dk_at dksX3_helps_8 22 rfl rfl)
theorem dX3_helps_210 : decode cX3_helps 210 = .ok (.iload_n 2, 1) := dk_28 (dk_at dksX3_helps_8 23 rfl rfl)
theorem dX3_helps_211 : decode cX3_helps 211 = .ok (.iadd, 1) := dk_96 (dk_at dksX3_helps_9 0 rfl rfl)
theorem dX3_helps_212 : decode cX3_helps 212 = .ok (.iaload, 1) := dk_46 (dk_at dksX3_helps_9 1 rfl rfl)
theorem dX3_helps_213 : decode cX3_helps 213 = .ok (.aload_n 0, 1) := dk_42 (dk_at dksX3_helps_9 2 rfl rfl)
theorem dX3_helps_214 : decode cX3_helps 214 = .ok (.getfield 130, 3) := dk_180 0 130 (dk_at dksX3_helps_9 3 rfl rfl)
theorem dX3_helps_217 : decode cX3_helps 217 = .ok (.bipush 12, 2) := dk_16 12 (dk_at dksX3_helps_9 6 rfl rfl)
theorem dX3_helps_219 : decode cX3_helps 219 = .ok (.iload_n 1, 1) := dk_27 (dk_at dksX3_helps_9 8 rfl rfl)
theorem dX3_helps_220 : decode cX3_helps 220 = .ok (.imul, 1) := dk_104 (dk_at dksX3_helps_9 9 rfl rfl)
theorem dX3_helps_221 : decode cX3_helps 221 = .ok (.iconst 4, 1) := dk_7 (dk_at dksX3_helps_9 10 rfl rfl)
theorem dX3_helps_222 : decode cX3_helps 222 = .ok (.iadd, 1) := dk_96 (dk_at dksX3_helps_9 11 rfl rfl)
theorem dX3_helps_223 : decode cX3_helps 223 = .ok (.iload_n 2, 1) := dk_28 (dk_at dksX3_helps_9 12 rfl rfl)
theorem dX3_helps_224 : decode cX3_helps 224 = .ok (.iadd, 1) := dk_96 (dk_at dksX3_helps_9 13 rfl rfl)
theorem dX3_helps_225 : decode cX3_helps 225 = .ok (.iaload, 1) := dk_46 (dk_at dksX3_helps_9 14 rfl rfl)
theorem dX3_helps_226 : decode cX3_helps 226 = .ok (.aload_n 0, 1) := dk_42 (dk_at dksX3_helps_9 15 rfl rfl)
theorem dX3_helps_227 : decode cX3_helps 227 = .ok (.getfield 130, 3) := dk_180 0 130 (dk_at dksX3_helps_9 16 rfl rfl)
theorem dX3_helps_230 : decode cX3_helps 230 = .ok (.bipush 12, 2) := dk_16 12 (dk_at dksX3_helps_9 19 rfl rfl)
theorem dX3_helps_232 : decode cX3_helps 232 = .ok (.iload_n 1, 1) := dk_27 (dk_at dksX3_helps_9 21 rfl rfl)
theorem dX3_helps_233 : decode cX3_helps 233 = .ok (.imul, 1) := dk_104 (dk_at dksX3_helps_9 22 rfl rfl)
theorem dX3_helps_234 : decode cX3_helps 234 = .ok (.bipush 8, 2) := dk_16 8 (dk_at dksX3_helps_10 0 rfl rfl)
theorem dX3_helps_236 : decode cX3_helps 236 = .ok (.iadd, 1) := dk_96 (dk_at dksX3_helps_10 2 rfl rfl)
theorem dX3_helps_237 : decode cX3_helps 237 = .ok (.iload_n 2, 1) := dk_28 (dk_at dksX3_helps_10 3 rfl rfl)
theorem dX3_helps_238 : decode cX3_helps 238 = .ok (.iadd, 1) := dk_96 (dk_at dksX3_helps_10 4 rfl rfl)
theorem dX3_helps_239 : decode cX3_helps 239 = .ok (.iaload, 1) := dk_46 (dk_at dksX3_helps_10 5 rfl rfl)
theorem dX3_helps_240 : decode cX3_helps 240 = .ok (.invokestatic 319, 3) := dk_184 1 63 (dk_at dksX3_helps_10 6 rfl rfl)
theorem dX3_helps_243 : decode cX3_helps 243 = .ok (.invokestatic 319, 3) := dk_184 1 63 (dk_at dksX3_helps_10 9 rfl rfl)
theorem dX3_helps_246 : decode cX3_helps 246 = .ok (.istore 8, 2) := dk_54 8 (dk_at dksX3_helps_10 12 rfl rfl)
theorem dX3_helps_248 : decode cX3_helps 248 = .ok (.aload_n 0, 1) := dk_42 (dk_at dksX3_helps_10 14 rfl rfl)
theorem dX3_helps_249 : decode cX3_helps 249 = .ok (.getfield 130, 3) := dk_180 0 130 (dk_at dksX3_helps_10 15 rfl rfl)
theorem dX3_helps_252 : decode cX3_helps 252 = .ok (.bipush 12, 2) := dk_16 12 (dk_at dksX3_helps_10 18 rfl rfl)
theorem dX3_helps_254 : decode cX3_helps 254 = .ok (.iload_n 1, 1) := dk_27 (dk_at dksX3_helps_10 20 rfl rfl)
theorem dX3_helps_255 : decode cX3_helps 255 = .ok (.imul, 1) := dk_104 (dk_at dksX3_helps_10 21 rfl rfl)
theorem dX3_helps_256 : decode cX3_helps 256 = .ok (.iload_n 2, 1) := dk_28 (dk_at dksX3_helps_10 22 rfl rfl)
theorem dX3_helps_257 : decode cX3_helps 257 = .ok (.iadd, 1) := dk_96 (dk_at dksX3_helps_10 23 rfl rfl)
theorem dX3_helps_258 : decode cX3_helps 258 = .ok (.iaload, 1) := dk_46 (dk_at dksX3_helps_11 0 rfl rfl)
theorem dX3_helps_259 : decode cX3_helps 259 = .ok (.aload_n 0, 1) := dk_42 (dk_at dksX3_helps_11 1 rfl rfl)
theorem dX3_helps_260 : decode cX3_helps 260 = .ok (.getfield 130, 3) := dk_180 0 130 (dk_at dksX3_helps_11 2 rfl rfl)
theorem dX3_helps_263 : decode cX3_helps 263 = .ok (.bipush 12, 2) := dk_16 12 (dk_at dksX3_helps_11 5 rfl rfl)
theorem dX3_helps_265 : decode cX3_helps 265 = .ok (.iload_n 1, 1) := dk_27 (dk_at dksX3_helps_11 7 rfl rfl)
theorem dX3_helps_266 : decode cX3_helps 266 = .ok (.imul, 1) := dk_104 (dk_at dksX3_helps_11 8 rfl rfl)
theorem dX3_helps_267 : decode cX3_helps 267 = .ok (.iconst 4, 1) := dk_7 (dk_at dksX3_helps_11 9 rfl rfl)
theorem dX3_helps_268 : decode cX3_helps 268 = .ok (.iadd, 1) := dk_96 (dk_at dksX3_helps_11 10 rfl rfl)
theorem dX3_helps_269 : decode cX3_helps 269 = .ok (.iload_n 2, 1) := dk_28 (dk_at dksX3_helps_11 11 rfl rfl)
theorem dX3_helps_270 : decode cX3_helps 270 = .ok (.iadd, 1) := dk_96 (dk_at dksX3_helps_11 12 rfl rfl)
theorem dX3_helps_271 : decode cX3_helps 271 = .ok (.iaload, 1) := dk_46 (dk_at dksX3_helps_11 13 rfl rfl)
theorem dX3_helps_272 : decode cX3_helps 272 = .ok (.aload_n 0, 1) := dk_42 (dk_at dksX3_helps_11 14 rfl rfl)
theorem dX3_helps_273 : decode cX3_helps 273 = .ok (.getfield 130, 3) := dk_180 0 130 (dk_at dksX3_helps_11 15 rfl rfl)
theorem dX3_helps_276 : decode cX3_helps 276 = .ok (.bipush 12, 2) := dk_16 12 (dk_at dksX3_helps_11 18 rfl rfl)
theorem dX3_helps_278 : decode cX3_helps 278 = .ok (.iload_n 1, 1) := dk_27 (dk_at dksX3_helps_11 20 rfl rfl)
theorem dX3_helps_279 : decode cX3_helps 279 = .ok (.imul, 1) := dk_104 (dk_at dksX3_helps_11 21 rfl rfl)
theorem dX3_helps_280 : decode cX3_helps 280 = .ok (.bipush 8, 2) := dk_16 8 (dk_at dksX3_helps_11 22 rfl rfl)
theorem dX3_helps_282 : decode cX3_helps 282 = .ok (.iadd, 1) := dk_96 (dk_at dksX3_helps_12 0 rfl rfl)
theorem dX3_helps_283 : decode cX3_helps 283 = .ok (.iload_n 2, 1) := dk_28 (dk_at dksX3_helps_12 1 rfl rfl)
theorem dX3_helps_284 : decode cX3_helps 284 = .ok (.iadd, 1) := dk_96 (dk_at dksX3_helps_12 2 rfl rfl)
theorem dX3_helps_285 : decode cX3_helps 285 = .ok (.iaload, 1) := dk_46 (dk_at dksX3_helps_12 3 rfl rfl)
theorem dX3_helps_286 : decode cX3_helps 286 = .ok (.invokestatic 322, 3) := dk_184 1 66 (dk_at dksX3_helps_12 4 rfl rfl)
theorem dX3_helps_289 : decode cX3_helps 289 = .ok (.invokestatic 322, 3) := dk_184 1 66 (dk_at dksX3_helps_12 7 rfl rfl)
theorem dX3_helps_292 : decode cX3_helps 292 = .ok (.istore 9, 2) := dk_54 9 (dk_at dksX3_helps_12 10 rfl rfl)
theorem dX3_helps_294 : decode cX3_helps 294 = .ok (.iload 5, 2) := dk_21 5 (dk_at dksX3_helps_12 12 rfl rfl)
theorem dX3_helps_296 : decode cX3_helps 296 = .ok (.iconst 1, 1) := dk_4 (dk_at dksX3_helps_12 14 rfl rfl)
theorem dX3_helps_297 : decode cX3_helps 297 = .ok (.if_icmp .ne 22, 3) := dk_160 0 22 (dk_at dksX3_helps_12 15 rfl rfl)
theorem dX3_helps_300 : decode cX3_helps 300 = .ok (.iload 4, 2) := dk_21 4 (dk_at dksX3_helps_12 18 rfl rfl)
theorem dX3_helps_302 : decode cX3_helps 302 = .ok (.ifCond .le 9, 3) := dk_158 0 9 (dk_at dksX3_helps_12 20 rfl rfl)
theorem dX3_helps_305 : decode cX3_helps 305 = .ok (.sipush 300, 3) := dk_17 1 44 (dk_at dksX3_helps_13 0 rfl rfl)
theorem dX3_helps_308 : decode cX3_helps 308 = .ok (.goto 5, 3) := dk_167 0 5 (dk_at dksX3_helps_13 3 rfl rfl)
theorem dX3_helps_311 : decode cX3_helps 311 = .ok (.iload 6, 2) := dk_21 6 (dk_at dksX3_helps_13 6 rfl rfl)
theorem dX3_helps_313 : decode cX3_helps 313 = .ok (.iload 9, 2) := dk_21 9 (dk_at dksX3_helps_13 8 rfl rfl)
theorem dX3_helps_315 : decode cX3_helps 315 = .ok (.invokestatic 322, 3) := dk_184 1 66 (dk_at dksX3_helps_13 10 rfl rfl)
theorem dX3_helps_318 : decode cX3_helps 318 = .ok (.ireturn, 1) := dk_172 (dk_at dksX3_helps_13 13 rfl rfl)
theorem dX3_helps_319 : decode cX3_helps 319 = .ok (.iload 4, 2) := dk_21 4 (dk_at dksX3_helps_13 14 rfl rfl)
theorem dX3_helps_321 : decode cX3_helps 321 = .ok (.ifCond .le 7, 3) := dk_158 0 7 (dk_at dksX3_helps_13 16 rfl rfl)
theorem dX3_helps_324 : decode cX3_helps 324 = .ok (.iconst 0, 1) := dk_3 (dk_at dksX3_helps_13 19 rfl rfl)
theorem dX3_helps_325 : decode cX3_helps 325 = .ok (.goto 5, 3) := dk_167 0 5 (dk_at dksX3_helps_13 20 rfl rfl)
theorem dX3_helps_328 : decode cX3_helps 328 = .ok (.iload 6, 2) := dk_21 6 (dk_at dksX3_helps_14 0 rfl rfl)
theorem dX3_helps_330 : decode cX3_helps 330 = .ok (.iload 8, 2) := dk_21 8 (dk_at dksX3_helps_14 2 rfl rfl)
theorem dX3_helps_332 : decode cX3_helps 332 = .ok (.invokestatic 319, 3) := dk_184 1 63 (dk_at dksX3_helps_14 4 rfl rfl)
theorem dX3_helps_335 : decode cX3_helps 335 = .ok (.ireturn, 1) := dk_172 (dk_at dksX3_helps_14 7 rfl rfl)
abbrev cX3_gapIn : ByteArray := prog_15_method_45_code
def yX3_gapIn : MethodName := ⟨RX3, "gapIn", "(II)I"⟩
def dkwX3_gapIn_1 : List UInt8 := [21, 4, 21, 5, 28, 182, 1, 57, 96, 62, 132, 5, 1, 167, 255, 234, 132, 4, 1, 167, 255, 218, 29, 172]
abbrev dktX3_gapIn_1 : List UInt8 := dkwX3_gapIn_1 ++ []
def dkwX3_gapIn_0 : List UInt8 := [3, 62, 3, 54, 4, 21, 4, 16, 6, 162, 0, 37, 3, 54, 5, 21, 5, 6, 162, 0, 22, 29, 42, 27]
abbrev dktX3_gapIn_0 : List UInt8 := dkwX3_gapIn_0 ++ dktX3_gapIn_1
theorem dksX3_gapIn_0 : cX3_gapIn.data.toList.drop 0 = dktX3_gapIn_0 := by decide +kernel
theorem dksX3_gapIn_1 : cX3_gapIn.data.toList.drop 24 = dktX3_gapIn_1 := dk_seg dksX3_gapIn_0 24 rfl rfl
theorem dX3_gapIn_0 : decode cX3_gapIn 0 = .ok (.iconst 0, 1) := dk_3 (dk_at dksX3_gapIn_0 0 rfl rfl)
theorem dX3_gapIn_1 : decode cX3_gapIn 1 = .ok (.istore_n 3, 1) := dk_62 (dk_at dksX3_gapIn_0 1 rfl rfl)
theorem dX3_gapIn_2 : decode cX3_gapIn 2 = .ok (.iconst 0, 1) := dk_3 (dk_at dksX3_gapIn_0 2 rfl rfl)
theorem dX3_gapIn_3 : decode cX3_gapIn 3 = .ok (.istore 4, 2) := dk_54 4 (dk_at dksX3_gapIn_0 3 rfl rfl)
theorem dX3_gapIn_5 : decode cX3_gapIn 5 = .ok (.iload 4, 2) := dk_21 4 (dk_at dksX3_gapIn_0 5 rfl rfl)
theorem dX3_gapIn_7 : decode cX3_gapIn 7 = .ok (.bipush 6, 2) := dk_16 6 (dk_at dksX3_gapIn_0 7 rfl rfl)
theorem dX3_gapIn_9 : decode cX3_gapIn 9 = .ok (.if_icmp .ge 37, 3) := dk_162 0 37 (dk_at dksX3_gapIn_0 9 rfl rfl)
theorem dX3_gapIn_12 : decode cX3_gapIn 12 = .ok (.iconst 0, 1) := dk_3 (dk_at dksX3_gapIn_0 12 rfl rfl)
theorem dX3_gapIn_13 : decode cX3_gapIn 13 = .ok (.istore 5, 2) := dk_54 5 (dk_at dksX3_gapIn_0 13 rfl rfl)
theorem dX3_gapIn_15 : decode cX3_gapIn 15 = .ok (.iload 5, 2) := dk_21 5 (dk_at dksX3_gapIn_0 15 rfl rfl)
theorem dX3_gapIn_17 : decode cX3_gapIn 17 = .ok (.iconst 3, 1) := dk_6 (dk_at dksX3_gapIn_0 17 rfl rfl)
theorem dX3_gapIn_18 : decode cX3_gapIn 18 = .ok (.if_icmp .ge 22, 3) := dk_162 0 22 (dk_at dksX3_gapIn_0 18 rfl rfl)
theorem dX3_gapIn_21 : decode cX3_gapIn 21 = .ok (.iload_n 3, 1) := dk_29 (dk_at dksX3_gapIn_0 21 rfl rfl)
theorem dX3_gapIn_22 : decode cX3_gapIn 22 = .ok (.aload_n 0, 1) := dk_42 (dk_at dksX3_gapIn_0 22 rfl rfl)
theorem dX3_gapIn_23 : decode cX3_gapIn 23 = .ok (.iload_n 1, 1) := dk_27 (dk_at dksX3_gapIn_0 23 rfl rfl)
theorem dX3_gapIn_24 : decode cX3_gapIn 24 = .ok (.iload 4, 2) := dk_21 4 (dk_at dksX3_gapIn_1 0 rfl rfl)
theorem dX3_gapIn_26 : decode cX3_gapIn 26 = .ok (.iload 5, 2) := dk_21 5 (dk_at dksX3_gapIn_1 2 rfl rfl)
theorem dX3_gapIn_28 : decode cX3_gapIn 28 = .ok (.iload_n 2, 1) := dk_28 (dk_at dksX3_gapIn_1 4 rfl rfl)
theorem dX3_gapIn_29 : decode cX3_gapIn 29 = .ok (.invokevirtual 313, 3) := dk_182 1 57 (dk_at dksX3_gapIn_1 5 rfl rfl)
theorem dX3_gapIn_32 : decode cX3_gapIn 32 = .ok (.iadd, 1) := dk_96 (dk_at dksX3_gapIn_1 8 rfl rfl)
theorem dX3_gapIn_33 : decode cX3_gapIn 33 = .ok (.istore_n 3, 1) := dk_62 (dk_at dksX3_gapIn_1 9 rfl rfl)
theorem dX3_gapIn_34 : decode cX3_gapIn 34 = .ok (.iinc 5 1, 3) := dk_132 5 1 (dk_at dksX3_gapIn_1 10 rfl rfl)
theorem dX3_gapIn_37 : decode cX3_gapIn 37 = .ok (.goto (-22), 3) := dk_167 255 234 (dk_at dksX3_gapIn_1 13 rfl rfl)
theorem dX3_gapIn_40 : decode cX3_gapIn 40 = .ok (.iinc 4 1, 3) := dk_132 4 1 (dk_at dksX3_gapIn_1 16 rfl rfl)
theorem dX3_gapIn_43 : decode cX3_gapIn 43 = .ok (.goto (-38), 3) := dk_167 255 218 (dk_at dksX3_gapIn_1 19 rfl rfl)
theorem dX3_gapIn_46 : decode cX3_gapIn 46 = .ok (.iload_n 3, 1) := dk_29 (dk_at dksX3_gapIn_1 22 rfl rfl)
theorem dX3_gapIn_47 : decode cX3_gapIn 47 = .ok (.ireturn, 1) := dk_172 (dk_at dksX3_gapIn_1 23 rfl rfl)
abbrev cX3_lesser : ByteArray := prog_15_method_46_code
def yX3_lesser : MethodName := ⟨RX3, "lesser", "(II)I"⟩
def dkwX3_lesser_0 : List UInt8 := [26, 27, 162, 0, 7, 26, 167, 0, 4, 27, 172]
abbrev dktX3_lesser_0 : List UInt8 := dkwX3_lesser_0 ++ []
theorem dksX3_lesser_0 : cX3_lesser.data.toList.drop 0 = dktX3_lesser_0 := by decide +kernel
theorem dX3_lesser_0 : decode cX3_lesser 0 = .ok (.iload_n 0, 1) := dk_26 (dk_at dksX3_lesser_0 0 rfl rfl)
theorem dX3_lesser_1 : decode cX3_lesser 1 = .ok (.iload_n 1, 1) := dk_27 (dk_at dksX3_lesser_0 1 rfl rfl)
theorem dX3_lesser_2 : decode cX3_lesser 2 = .ok (.if_icmp .ge 7, 3) := dk_162 0 7 (dk_at dksX3_lesser_0 2 rfl rfl)
theorem dX3_lesser_5 : decode cX3_lesser 5 = .ok (.iload_n 0, 1) := dk_26 (dk_at dksX3_lesser_0 5 rfl rfl)
theorem dX3_lesser_6 : decode cX3_lesser 6 = .ok (.goto 4, 3) := dk_167 0 4 (dk_at dksX3_lesser_0 6 rfl rfl)
theorem dX3_lesser_9 : decode cX3_lesser 9 = .ok (.iload_n 1, 1) := dk_27 (dk_at dksX3_lesser_0 9 rfl rfl)
theorem dX3_lesser_10 : decode cX3_lesser 10 = .ok (.ireturn, 1) := dk_172 (dk_at dksX3_lesser_0 10 rfl rfl)
abbrev cX3_greater : ByteArray := prog_15_method_47_code
def yX3_greater : MethodName := ⟨RX3, "greater", "(II)I"⟩
def dkwX3_greater_0 : List UInt8 := [26, 27, 164, 0, 7, 26, 167, 0, 4, 27, 172]
abbrev dktX3_greater_0 : List UInt8 := dkwX3_greater_0 ++ []
theorem dksX3_greater_0 : cX3_greater.data.toList.drop 0 = dktX3_greater_0 := by decide +kernel
theorem dX3_greater_0 : decode cX3_greater 0 = .ok (.iload_n 0, 1) := dk_26 (dk_at dksX3_greater_0 0 rfl rfl)
theorem dX3_greater_1 : decode cX3_greater 1 = .ok (.iload_n 1, 1) := dk_27 (dk_at dksX3_greater_0 1 rfl rfl)
theorem dX3_greater_2 : decode cX3_greater 2 = .ok (.if_icmp .le 7, 3) := dk_164 0 7 (dk_at dksX3_greater_0 2 rfl rfl)
theorem dX3_greater_5 : decode cX3_greater 5 = .ok (.iload_n 0, 1) := dk_26 (dk_at dksX3_greater_0 5 rfl rfl)
theorem dX3_greater_6 : decode cX3_greater 6 = .ok (.goto 4, 3) := dk_167 0 4 (dk_at dksX3_greater_0 6 rfl rfl)
theorem dX3_greater_9 : decode cX3_greater 9 = .ok (.iload_n 1, 1) := dk_27 (dk_at dksX3_greater_0 9 rfl rfl)
theorem dX3_greater_10 : decode cX3_greater 10 = .ok (.ireturn, 1) := dk_172 (dk_at dksX3_greater_0 10 rfl rfl)
abbrev cX3_lowestBelow : ByteArray := prog_15_method_51_code
def yX3_lowestBelow : MethodName := ⟨RX3, "lowestBelow", "()I"⟩
def dkwX3_lowestBelow_1 : List UInt8 := [156, 0, 5, 27, 172, 132, 1, 1, 167, 255, 227, 2, 172]
abbrev dktX3_lowestBelow_1 : List UInt8 := dkwX3_lowestBelow_1 ++ []
def dkwX3_lowestBelow_0 : List UInt8 := [3, 60, 27, 16, 6, 162, 0, 29, 42, 180, 0, 19, 27, 46, 154, 0, 14, 42, 180, 0, 13, 27, 46]
abbrev dktX3_lowestBelow_0 : List UInt8 := dkwX3_lowestBelow_0 ++ dktX3_lowestBelow_1
theorem dksX3_lowestBelow_0 : cX3_lowestBelow.data.toList.drop 0 = dktX3_lowestBelow_0 := by decide +kernel
theorem dksX3_lowestBelow_1 : cX3_lowestBelow.data.toList.drop 23 = dktX3_lowestBelow_1 := dk_seg dksX3_lowestBelow_0 23 rfl rfl
theorem dX3_lowestBelow_0 : decode cX3_lowestBelow 0 = .ok (.iconst 0, 1) := dk_3 (dk_at dksX3_lowestBelow_0 0 rfl rfl)
theorem dX3_lowestBelow_1 : decode cX3_lowestBelow 1 = .ok (.istore_n 1, 1) := dk_60 (dk_at dksX3_lowestBelow_0 1 rfl rfl)
theorem dX3_lowestBelow_2 : decode cX3_lowestBelow 2 = .ok (.iload_n 1, 1) := dk_27 (dk_at dksX3_lowestBelow_0 2 rfl rfl)
theorem dX3_lowestBelow_3 : decode cX3_lowestBelow 3 = .ok (.bipush 6, 2) := dk_16 6 (dk_at dksX3_lowestBelow_0 3 rfl rfl)
theorem dX3_lowestBelow_5 : decode cX3_lowestBelow 5 = .ok (.if_icmp .ge 29, 3) := dk_162 0 29 (dk_at dksX3_lowestBelow_0 5 rfl rfl)
theorem dX3_lowestBelow_8 : decode cX3_lowestBelow 8 = .ok (.aload_n 0, 1) := dk_42 (dk_at dksX3_lowestBelow_0 8 rfl rfl)
theorem dX3_lowestBelow_9 : decode cX3_lowestBelow 9 = .ok (.getfield 19, 3) := dk_180 0 19 (dk_at dksX3_lowestBelow_0 9 rfl rfl)
theorem dX3_lowestBelow_12 : decode cX3_lowestBelow 12 = .ok (.iload_n 1, 1) := dk_27 (dk_at dksX3_lowestBelow_0 12 rfl rfl)
theorem dX3_lowestBelow_13 : decode cX3_lowestBelow 13 = .ok (.iaload, 1) := dk_46 (dk_at dksX3_lowestBelow_0 13 rfl rfl)
theorem dX3_lowestBelow_14 : decode cX3_lowestBelow 14 = .ok (.ifCond .ne 14, 3) := dk_154 0 14 (dk_at dksX3_lowestBelow_0 14 rfl rfl)
theorem dX3_lowestBelow_17 : decode cX3_lowestBelow 17 = .ok (.aload_n 0, 1) := dk_42 (dk_at dksX3_lowestBelow_0 17 rfl rfl)
theorem dX3_lowestBelow_18 : decode cX3_lowestBelow 18 = .ok (.getfield 13, 3) := dk_180 0 13 (dk_at dksX3_lowestBelow_0 18 rfl rfl)
theorem dX3_lowestBelow_21 : decode cX3_lowestBelow 21 = .ok (.iload_n 1, 1) := dk_27 (dk_at dksX3_lowestBelow_0 21 rfl rfl)
theorem dX3_lowestBelow_22 : decode cX3_lowestBelow 22 = .ok (.iaload, 1) := dk_46 (dk_at dksX3_lowestBelow_0 22 rfl rfl)
theorem dX3_lowestBelow_23 : decode cX3_lowestBelow 23 = .ok (.ifCond .ge 5, 3) := dk_156 0 5 (dk_at dksX3_lowestBelow_1 0 rfl rfl)
theorem dX3_lowestBelow_26 : decode cX3_lowestBelow 26 = .ok (.iload_n 1, 1) := dk_27 (dk_at dksX3_lowestBelow_1 3 rfl rfl)
theorem dX3_lowestBelow_27 : decode cX3_lowestBelow 27 = .ok (.ireturn, 1) := dk_172 (dk_at dksX3_lowestBelow_1 4 rfl rfl)
theorem dX3_lowestBelow_28 : decode cX3_lowestBelow 28 = .ok (.iinc 1 1, 3) := dk_132 1 1 (dk_at dksX3_lowestBelow_1 5 rfl rfl)
theorem dX3_lowestBelow_31 : decode cX3_lowestBelow 31 = .ok (.goto (-29), 3) := dk_167 255 227 (dk_at dksX3_lowestBelow_1 8 rfl rfl)
theorem dX3_lowestBelow_34 : decode cX3_lowestBelow 34 = .ok (.iconst (-1), 1) := dk_2 (dk_at dksX3_lowestBelow_1 11 rfl rfl)
theorem dX3_lowestBelow_35 : decode cX3_lowestBelow 35 = .ok (.ireturn, 1) := dk_172 (dk_at dksX3_lowestBelow_1 12 rfl rfl)
abbrev cX3_fails : ByteArray := prog_15_method_52_code
def yX3_fails : MethodName := ⟨RX3, "fails", "(I)V"⟩
def dkwX3_fails_6 : List UInt8 := [167, 255, 189, 42, 89, 180, 1, 75, 22, 6, 136, 100, 181, 1, 75, 177]
abbrev dktX3_fails_6 : List UInt8 := dkwX3_fails_6 ++ []
def dkwX3_fails_5 : List UInt8 := [180, 0, 13, 21, 8, 92, 46, 21, 9, 100, 79, 22, 6, 21, 9, 133, 101, 55, 6, 132, 8, 1]
abbrev dktX3_fails_5 : List UInt8 := dkwX3_fails_5 ++ dktX3_fails_6
def dkwX3_fails_4 : List UInt8 := [158, 0, 20, 32, 42, 180, 0, 16, 21, 8, 46, 133, 105, 22, 4, 109, 136, 167, 0, 4, 3, 54, 9, 42]
abbrev dktX3_fails_4 : List UInt8 := dkwX3_fails_4 ++ dktX3_fails_5
def dkwX3_fails_3 : List UInt8 := [3, 54, 8, 21, 8, 16, 6, 162, 0, 66, 42, 180, 0, 19, 21, 8, 46, 154, 0, 27, 22, 4, 9, 148]
abbrev dktX3_fails_3 : List UInt8 := dkwX3_fails_3 ++ dktX3_fails_4
def dkwX3_fails_2 : List UInt8 := [42, 180, 0, 16, 21, 6, 46, 133, 167, 0, 4, 9, 97, 55, 4, 132, 6, 1, 167, 255, 219, 32, 55, 6]
abbrev dktX3_fails_2 : List UInt8 := dkwX3_fails_2 ++ dktX3_fails_3
def dkwX3_fails_1 : List UInt8 := [3, 79, 3, 54, 6, 21, 6, 16, 6, 162, 0, 36, 22, 4, 42, 180, 0, 19, 21, 6, 46, 154, 0, 14]
abbrev dktX3_fails_1 : List UInt8 := dkwX3_fails_1 ++ dktX3_fails_2
def dkwX3_fails_0 : List UInt8 := [42, 180, 0, 13, 27, 46, 116, 133, 65, 9, 55, 4, 42, 180, 0, 19, 27, 4, 79, 42, 180, 0, 13, 27]
abbrev dktX3_fails_0 : List UInt8 := dkwX3_fails_0 ++ dktX3_fails_1
theorem dksX3_fails_0 : cX3_fails.data.toList.drop 0 = dktX3_fails_0 := by decide +kernel
theorem dksX3_fails_1 : cX3_fails.data.toList.drop 24 = dktX3_fails_1 := dk_seg dksX3_fails_0 24 rfl rfl
theorem dksX3_fails_2 : cX3_fails.data.toList.drop 48 = dktX3_fails_2 := dk_seg dksX3_fails_1 24 rfl rfl
theorem dksX3_fails_3 : cX3_fails.data.toList.drop 72 = dktX3_fails_3 := dk_seg dksX3_fails_2 24 rfl rfl
theorem dksX3_fails_4 : cX3_fails.data.toList.drop 96 = dktX3_fails_4 := dk_seg dksX3_fails_3 24 rfl rfl
theorem dksX3_fails_5 : cX3_fails.data.toList.drop 120 = dktX3_fails_5 := dk_seg dksX3_fails_4 24 rfl rfl
theorem dksX3_fails_6 : cX3_fails.data.toList.drop 142 = dktX3_fails_6 := dk_seg dksX3_fails_5 22 rfl rfl
theorem dX3_fails_0 : decode cX3_fails 0 = .ok (.aload_n 0, 1) := dk_42 (dk_at dksX3_fails_0 0 rfl rfl)
theorem dX3_fails_1 : decode cX3_fails 1 = .ok (.getfield 13, 3) := dk_180 0 13 (dk_at dksX3_fails_0 1 rfl rfl)
theorem dX3_fails_4 : decode cX3_fails 4 = .ok (.iload_n 1, 1) := dk_27 (dk_at dksX3_fails_0 4 rfl rfl)
theorem dX3_fails_5 : decode cX3_fails 5 = .ok (.iaload, 1) := dk_46 (dk_at dksX3_fails_0 5 rfl rfl)
theorem dX3_fails_6 : decode cX3_fails 6 = .ok (.ineg, 1) := dk_116 (dk_at dksX3_fails_0 6 rfl rfl)
theorem dX3_fails_7 : decode cX3_fails 7 = .ok (.i2l, 1) := dk_133 (dk_at dksX3_fails_0 7 rfl rfl)
theorem dX3_fails_8 : decode cX3_fails 8 = .ok (.lstore_n 2, 1) := dk_65 (dk_at dksX3_fails_0 8 rfl rfl)
theorem dX3_fails_9 : decode cX3_fails 9 = .ok (.lconst 0, 1) := dk_9 (dk_at dksX3_fails_0 9 rfl rfl)
theorem dX3_fails_10 : decode cX3_fails 10 = .ok (.lstore 4, 2) := dk_55 4 (dk_at dksX3_fails_0 10 rfl rfl)
theorem dX3_fails_12 : decode cX3_fails 12 = .ok (.aload_n 0, 1) := dk_42 (dk_at dksX3_fails_0 12 rfl rfl)
theorem dX3_fails_13 : decode cX3_fails 13 = .ok (.getfield 19, 3) := dk_180 0 19 (dk_at dksX3_fails_0 13 rfl rfl)
theorem dX3_fails_16 : decode cX3_fails 16 = .ok (.iload_n 1, 1) := dk_27 (dk_at dksX3_fails_0 16 rfl rfl)
theorem dX3_fails_17 : decode cX3_fails 17 = .ok (.iconst 1, 1) := dk_4 (dk_at dksX3_fails_0 17 rfl rfl)
theorem dX3_fails_18 : decode cX3_fails 18 = .ok (.iastore, 1) := dk_79 (dk_at dksX3_fails_0 18 rfl rfl)
theorem dX3_fails_19 : decode cX3_fails 19 = .ok (.aload_n 0, 1) := dk_42 (dk_at dksX3_fails_0 19 rfl rfl)
theorem dX3_fails_20 : decode cX3_fails 20 = .ok (.getfield 13, 3) := dk_180 0 13 (dk_at dksX3_fails_0 20 rfl rfl)
theorem dX3_fails_23 : decode cX3_fails 23 = .ok (.iload_n 1, 1) := dk_27 (dk_at dksX3_fails_0 23 rfl rfl)
theorem dX3_fails_24 : decode cX3_fails 24 = .ok (.iconst 0, 1) := dk_3 (dk_at dksX3_fails_1 0 rfl rfl)
theorem dX3_fails_25 : decode cX3_fails 25 = .ok (.iastore, 1) := dk_79 (dk_at dksX3_fails_1 1 rfl rfl)
theorem dX3_fails_26 : decode cX3_fails 26 = .ok (.iconst 0, 1) := dk_3 (dk_at dksX3_fails_1 2 rfl rfl)
theorem dX3_fails_27 : decode cX3_fails 27 = .ok (.istore 6, 2) := dk_54 6 (dk_at dksX3_fails_1 3 rfl rfl)
theorem dX3_fails_29 : decode cX3_fails 29 = .ok (.iload 6, 2) := dk_21 6 (dk_at dksX3_fails_1 5 rfl rfl)
theorem dX3_fails_31 : decode cX3_fails 31 = .ok (.bipush 6, 2) := dk_16 6 (dk_at dksX3_fails_1 7 rfl rfl)
theorem dX3_fails_33 : decode cX3_fails 33 = .ok (.if_icmp .ge 36, 3) := dk_162 0 36 (dk_at dksX3_fails_1 9 rfl rfl)
theorem dX3_fails_36 : decode cX3_fails 36 = .ok (.lload 4, 2) := dk_22 4 (dk_at dksX3_fails_1 12 rfl rfl)
theorem dX3_fails_38 : decode cX3_fails 38 = .ok (.aload_n 0, 1) := dk_42 (dk_at dksX3_fails_1 14 rfl rfl)
theorem dX3_fails_39 : decode cX3_fails 39 = .ok (.getfield 19, 3) := dk_180 0 19 (dk_at dksX3_fails_1 15 rfl rfl)
theorem dX3_fails_42 : decode cX3_fails 42 = .ok (.iload 6, 2) := dk_21 6 (dk_at dksX3_fails_1 18 rfl rfl)
theorem dX3_fails_44 : decode cX3_fails 44 = .ok (.iaload, 1) := dk_46 (dk_at dksX3_fails_1 20 rfl rfl)
theorem dX3_fails_45 : decode cX3_fails 45 = .ok (.ifCond .ne 14, 3) := dk_154 0 14 (dk_at dksX3_fails_1 21 rfl rfl)
theorem dX3_fails_48 : decode cX3_fails 48 = .ok (.aload_n 0, 1) := dk_42 (dk_at dksX3_fails_2 0 rfl rfl)
theorem dX3_fails_49 : decode cX3_fails 49 = .ok (.getfield 16, 3) := dk_180 0 16 (dk_at dksX3_fails_2 1 rfl rfl)
theorem dX3_fails_52 : decode cX3_fails 52 = .ok (.iload 6, 2) := dk_21 6 (dk_at dksX3_fails_2 4 rfl rfl)
theorem dX3_fails_54 : decode cX3_fails 54 = .ok (.iaload, 1) := dk_46 (dk_at dksX3_fails_2 6 rfl rfl)
theorem dX3_fails_55 : decode cX3_fails 55 = .ok (.i2l, 1) := dk_133 (dk_at dksX3_fails_2 7 rfl rfl)
theorem dX3_fails_56 : decode cX3_fails 56 = .ok (.goto 4, 3) := dk_167 0 4 (dk_at dksX3_fails_2 8 rfl rfl)
theorem dX3_fails_59 : decode cX3_fails 59 = .ok (.lconst 0, 1) := dk_9 (dk_at dksX3_fails_2 11 rfl rfl)
theorem dX3_fails_60 : decode cX3_fails 60 = .ok (.ladd, 1) := dk_97 (dk_at dksX3_fails_2 12 rfl rfl)
theorem dX3_fails_61 : decode cX3_fails 61 = .ok (.lstore 4, 2) := dk_55 4 (dk_at dksX3_fails_2 13 rfl rfl)
theorem dX3_fails_63 : decode cX3_fails 63 = .ok (.iinc 6 1, 3) := dk_132 6 1 (dk_at dksX3_fails_2 15 rfl rfl)
theorem dX3_fails_66 : decode cX3_fails 66 = .ok (.goto (-37), 3) := dk_167 255 219 (dk_at dksX3_fails_2 18 rfl rfl)
theorem dX3_fails_69 : decode cX3_fails 69 = .ok (.lload_n 2, 1) := dk_32 (dk_at dksX3_fails_2 21 rfl rfl)
theorem dX3_fails_70 : decode cX3_fails 70 = .ok (.lstore 6, 2) := dk_55 6 (dk_at dksX3_fails_2 22 rfl rfl)
theorem dX3_fails_72 : decode cX3_fails 72 = .ok (.iconst 0, 1) := dk_3 (dk_at dksX3_fails_3 0 rfl rfl)
theorem dX3_fails_73 : decode cX3_fails 73 = .ok (.istore 8, 2) := dk_54 8 (dk_at dksX3_fails_3 1 rfl rfl)
theorem dX3_fails_75 : decode cX3_fails 75 = .ok (.iload 8, 2) := dk_21 8 (dk_at dksX3_fails_3 3 rfl rfl)
theorem dX3_fails_77 : decode cX3_fails 77 = .ok (.bipush 6, 2) := dk_16 6 (dk_at dksX3_fails_3 5 rfl rfl)
theorem dX3_fails_79 : decode cX3_fails 79 = .ok (.if_icmp .ge 66, 3) := dk_162 0 66 (dk_at dksX3_fails_3 7 rfl rfl)
theorem dX3_fails_82 : decode cX3_fails 82 = .ok (.aload_n 0, 1) := dk_42 (dk_at dksX3_fails_3 10 rfl rfl)
theorem dX3_fails_83 : decode cX3_fails 83 = .ok (.getfield 19, 3) := dk_180 0 19 (dk_at dksX3_fails_3 11 rfl rfl)
theorem dX3_fails_86 : decode cX3_fails 86 = .ok (.iload 8, 2) := dk_21 8 (dk_at dksX3_fails_3 14 rfl rfl)
theorem dX3_fails_88 : decode cX3_fails 88 = .ok (.iaload, 1) := dk_46 (dk_at dksX3_fails_3 16 rfl rfl)
theorem dX3_fails_89 : decode cX3_fails 89 = .ok (.ifCond .ne 27, 3) := dk_154 0 27 (dk_at dksX3_fails_3 17 rfl rfl)
theorem dX3_fails_92 : decode cX3_fails 92 = .ok (.lload 4, 2) := dk_22 4 (dk_at dksX3_fails_3 20 rfl rfl)
theorem dX3_fails_94 : decode cX3_fails 94 = .ok (.lconst 0, 1) := dk_9 (dk_at dksX3_fails_3 22 rfl rfl)
theorem dX3_fails_95 : decode cX3_fails 95 = .ok (.lcmp, 1) := dk_148 (dk_at dksX3_fails_3 23 rfl rfl)
theorem dX3_fails_96 : decode cX3_fails 96 = .ok (.ifCond .le 20, 3) := dk_158 0 20 (dk_at dksX3_fails_4 0 rfl rfl)
theorem dX3_fails_99 : decode cX3_fails 99 = .ok (.lload_n 2, 1) := dk_32 (dk_at dksX3_fails_4 3 rfl rfl)
theorem dX3_fails_100 : decode cX3_fails 100 = .ok (.aload_n 0, 1) := dk_42 (dk_at dksX3_fails_4 4 rfl rfl)
theorem dX3_fails_101 : decode cX3_fails 101 = .ok (.getfield 16, 3) := dk_180 0 16 (dk_at dksX3_fails_4 5 rfl rfl)
theorem dX3_fails_104 : decode cX3_fails 104 = .ok (.iload 8, 2) := dk_21 8 (dk_at dksX3_fails_4 8 rfl rfl)
theorem dX3_fails_106 : decode cX3_fails 106 = .ok (.iaload, 1) := dk_46 (dk_at dksX3_fails_4 10 rfl rfl)
theorem dX3_fails_107 : decode cX3_fails 107 = .ok (.i2l, 1) := dk_133 (dk_at dksX3_fails_4 11 rfl rfl)
theorem dX3_fails_108 : decode cX3_fails 108 = .ok (.lmul, 1) := dk_105 (dk_at dksX3_fails_4 12 rfl rfl)
theorem dX3_fails_109 : decode cX3_fails 109 = .ok (.lload 4, 2) := dk_22 4 (dk_at dksX3_fails_4 13 rfl rfl)
theorem dX3_fails_111 : decode cX3_fails 111 = .ok (.ldiv, 1) := dk_109 (dk_at dksX3_fails_4 15 rfl rfl)
theorem dX3_fails_112 : decode cX3_fails 112 = .ok (.l2i, 1) := dk_136 (dk_at dksX3_fails_4 16 rfl rfl)
theorem dX3_fails_113 : decode cX3_fails 113 = .ok (.goto 4, 3) := dk_167 0 4 (dk_at dksX3_fails_4 17 rfl rfl)
theorem dX3_fails_116 : decode cX3_fails 116 = .ok (.iconst 0, 1) := dk_3 (dk_at dksX3_fails_4 20 rfl rfl)
theorem dX3_fails_117 : decode cX3_fails 117 = .ok (.istore 9, 2) := dk_54 9 (dk_at dksX3_fails_4 21 rfl rfl)
theorem dX3_fails_119 : decode cX3_fails 119 = .ok (.aload_n 0, 1) := dk_42 (dk_at dksX3_fails_4 23 rfl rfl)
theorem dX3_fails_120 : decode cX3_fails 120 = .ok (.getfield 13, 3) := dk_180 0 13 (dk_at dksX3_fails_5 0 rfl rfl)
theorem dX3_fails_123 : decode cX3_fails 123 = .ok (.iload 8, 2) := dk_21 8 (dk_at dksX3_fails_5 3 rfl rfl)
theorem dX3_fails_125 : decode cX3_fails 125 = .ok (.dup2, 1) := dk_92 (dk_at dksX3_fails_5 5 rfl rfl)
theorem dX3_fails_126 : decode cX3_fails 126 = .ok (.iaload, 1) := dk_46 (dk_at dksX3_fails_5 6 rfl rfl)
theorem dX3_fails_127 : decode cX3_fails 127 = .ok (.iload 9, 2) := dk_21 9 (dk_at dksX3_fails_5 7 rfl rfl)
theorem dX3_fails_129 : decode cX3_fails 129 = .ok (.isub, 1) := dk_100 (dk_at dksX3_fails_5 9 rfl rfl)
theorem dX3_fails_130 : decode cX3_fails 130 = .ok (.iastore, 1) := dk_79 (dk_at dksX3_fails_5 10 rfl rfl)
theorem dX3_fails_131 : decode cX3_fails 131 = .ok (.lload 6, 2) := dk_22 6 (dk_at dksX3_fails_5 11 rfl rfl)
theorem dX3_fails_133 : decode cX3_fails 133 = .ok (.iload 9, 2) := dk_21 9 (dk_at dksX3_fails_5 13 rfl rfl)
theorem dX3_fails_135 : decode cX3_fails 135 = .ok (.i2l, 1) := dk_133 (dk_at dksX3_fails_5 15 rfl rfl)
theorem dX3_fails_136 : decode cX3_fails 136 = .ok (.lsub, 1) := dk_101 (dk_at dksX3_fails_5 16 rfl rfl)
theorem dX3_fails_137 : decode cX3_fails 137 = .ok (.lstore 6, 2) := dk_55 6 (dk_at dksX3_fails_5 17 rfl rfl)
theorem dX3_fails_139 : decode cX3_fails 139 = .ok (.iinc 8 1, 3) := dk_132 8 1 (dk_at dksX3_fails_5 19 rfl rfl)
theorem dX3_fails_142 : decode cX3_fails 142 = .ok (.goto (-67), 3) := dk_167 255 189 (dk_at dksX3_fails_6 0 rfl rfl)
theorem dX3_fails_145 : decode cX3_fails 145 = .ok (.aload_n 0, 1) := dk_42 (dk_at dksX3_fails_6 3 rfl rfl)
theorem dX3_fails_146 : decode cX3_fails 146 = .ok (.dup, 1) := dk_89 (dk_at dksX3_fails_6 4 rfl rfl)
theorem dX3_fails_147 : decode cX3_fails 147 = .ok (.getfield 331, 3) := dk_180 1 75 (dk_at dksX3_fails_6 5 rfl rfl)
theorem dX3_fails_150 : decode cX3_fails 150 = .ok (.lload 6, 2) := dk_22 6 (dk_at dksX3_fails_6 8 rfl rfl)
theorem dX3_fails_152 : decode cX3_fails 152 = .ok (.l2i, 1) := dk_136 (dk_at dksX3_fails_6 10 rfl rfl)
theorem dX3_fails_153 : decode cX3_fails 153 = .ok (.isub, 1) := dk_100 (dk_at dksX3_fails_6 11 rfl rfl)
theorem dX3_fails_154 : decode cX3_fails 154 = .ok (.putfield 331, 3) := dk_181 1 75 (dk_at dksX3_fails_6 12 rfl rfl)
theorem dX3_fails_157 : decode cX3_fails 157 = .ok (.return_, 1) := dk_177 (dk_at dksX3_fails_6 15 rfl rfl)
abbrev cX3_day : ByteArray := prog_15_method_54_code
def yX3_day : MethodName := ⟨RX3, "day", "()I"⟩
def dkwX3_day_0 : List UInt8 := [42, 3, 181, 0, 175, 42, 180, 0, 183, 172]
abbrev dktX3_day_0 : List UInt8 := dkwX3_day_0 ++ []
theorem dksX3_day_0 : cX3_day.data.toList.drop 0 = dktX3_day_0 := by decide +kernel
theorem dX3_day_0 : decode cX3_day 0 = .ok (.aload_n 0, 1) := dk_42 (dk_at dksX3_day_0 0 rfl rfl)
theorem dX3_day_1 : decode cX3_day 1 = .ok (.iconst 0, 1) := dk_3 (dk_at dksX3_day_0 1 rfl rfl)
theorem dX3_day_2 : decode cX3_day 2 = .ok (.putfield 175, 3) := dk_181 0 175 (dk_at dksX3_day_0 2 rfl rfl)
theorem dX3_day_5 : decode cX3_day 5 = .ok (.aload_n 0, 1) := dk_42 (dk_at dksX3_day_0 5 rfl rfl)
theorem dX3_day_6 : decode cX3_day 6 = .ok (.getfield 183, 3) := dk_180 0 183 (dk_at dksX3_day_0 6 rfl rfl)
theorem dX3_day_9 : decode cX3_day 9 = .ok (.ireturn, 1) := dk_172 (dk_at dksX3_day_0 9 rfl rfl)
abbrev cX3_phase : ByteArray := prog_15_method_55_code
def yX3_phase : MethodName := ⟨RX3, "phase", "()I"⟩
def dkwX3_phase_0 : List UInt8 := [42, 3, 181, 0, 175, 42, 180, 0, 192, 172]
abbrev dktX3_phase_0 : List UInt8 := dkwX3_phase_0 ++ []
theorem dksX3_phase_0 : cX3_phase.data.toList.drop 0 = dktX3_phase_0 := by decide +kernel
theorem dX3_phase_0 : decode cX3_phase 0 = .ok (.aload_n 0, 1) := dk_42 (dk_at dksX3_phase_0 0 rfl rfl)
theorem dX3_phase_1 : decode cX3_phase 1 = .ok (.iconst 0, 1) := dk_3 (dk_at dksX3_phase_0 1 rfl rfl)
theorem dX3_phase_2 : decode cX3_phase 2 = .ok (.putfield 175, 3) := dk_181 0 175 (dk_at dksX3_phase_0 2 rfl rfl)
theorem dX3_phase_5 : decode cX3_phase 5 = .ok (.aload_n 0, 1) := dk_42 (dk_at dksX3_phase_0 5 rfl rfl)
theorem dX3_phase_6 : decode cX3_phase 6 = .ok (.getfield 192, 3) := dk_180 0 192 (dk_at dksX3_phase_0 6 rfl rfl)
theorem dX3_phase_9 : decode cX3_phase 9 = .ok (.ireturn, 1) := dk_172 (dk_at dksX3_phase_0 9 rfl rfl)
abbrev cX3_price : ByteArray := prog_15_method_57_code
def yX3_price : MethodName := ⟨RX3, "price", "(II)I"⟩
def dkwX3_price_2 : List UInt8 := [3, 172]
abbrev dktX3_price_2 : List UInt8 := dkwX3_price_2 ++ []
def dkwX3_price_1 : List UInt8 := [153, 0, 24, 42, 180, 0, 130, 16, 12, 42, 180, 0, 183, 104, 7, 27, 104, 96, 28, 96, 46, 167, 0, 4]
abbrev dktX3_price_1 : List UInt8 := dkwX3_price_1 ++ dktX3_price_2
def dkwX3_price_0 : List UInt8 := [42, 27, 184, 0, 195, 153, 0, 14, 28, 184, 0, 198, 153, 0, 7, 4, 167, 0, 4, 3, 182, 1, 88]
abbrev dktX3_price_0 : List UInt8 := dkwX3_price_0 ++ dktX3_price_1
theorem dksX3_price_0 : cX3_price.data.toList.drop 0 = dktX3_price_0 := by decide +kernel
theorem dksX3_price_1 : cX3_price.data.toList.drop 23 = dktX3_price_1 := dk_seg dksX3_price_0 23 rfl rfl
theorem dksX3_price_2 : cX3_price.data.toList.drop 47 = dktX3_price_2 := dk_seg dksX3_price_1 24 rfl rfl
theorem dX3_price_0 : decode cX3_price 0 = .ok (.aload_n 0, 1) := dk_42 (dk_at dksX3_price_0 0 rfl rfl)
theorem dX3_price_1 : decode cX3_price 1 = .ok (.iload_n 1, 1) := dk_27 (dk_at dksX3_price_0 1 rfl rfl)
theorem dX3_price_2 : decode cX3_price 2 = .ok (.invokestatic 195, 3) := dk_184 0 195 (dk_at dksX3_price_0 2 rfl rfl)
theorem dX3_price_5 : decode cX3_price 5 = .ok (.ifCond .eq 14, 3) := dk_153 0 14 (dk_at dksX3_price_0 5 rfl rfl)
theorem dX3_price_8 : decode cX3_price 8 = .ok (.iload_n 2, 1) := dk_28 (dk_at dksX3_price_0 8 rfl rfl)
theorem dX3_price_9 : decode cX3_price 9 = .ok (.invokestatic 198, 3) := dk_184 0 198 (dk_at dksX3_price_0 9 rfl rfl)
theorem dX3_price_12 : decode cX3_price 12 = .ok (.ifCond .eq 7, 3) := dk_153 0 7 (dk_at dksX3_price_0 12 rfl rfl)
theorem dX3_price_15 : decode cX3_price 15 = .ok (.iconst 1, 1) := dk_4 (dk_at dksX3_price_0 15 rfl rfl)
theorem dX3_price_16 : decode cX3_price 16 = .ok (.goto 4, 3) := dk_167 0 4 (dk_at dksX3_price_0 16 rfl rfl)
theorem dX3_price_19 : decode cX3_price 19 = .ok (.iconst 0, 1) := dk_3 (dk_at dksX3_price_0 19 rfl rfl)
theorem dX3_price_20 : decode cX3_price 20 = .ok (.invokevirtual 344, 3) := dk_182 1 88 (dk_at dksX3_price_0 20 rfl rfl)
theorem dX3_price_23 : decode cX3_price 23 = .ok (.ifCond .eq 24, 3) := dk_153 0 24 (dk_at dksX3_price_1 0 rfl rfl)
theorem dX3_price_26 : decode cX3_price 26 = .ok (.aload_n 0, 1) := dk_42 (dk_at dksX3_price_1 3 rfl rfl)
theorem dX3_price_27 : decode cX3_price 27 = .ok (.getfield 130, 3) := dk_180 0 130 (dk_at dksX3_price_1 4 rfl rfl)
theorem dX3_price_30 : decode cX3_price 30 = .ok (.bipush 12, 2) := dk_16 12 (dk_at dksX3_price_1 7 rfl rfl)
theorem dX3_price_32 : decode cX3_price 32 = .ok (.aload_n 0, 1) := dk_42 (dk_at dksX3_price_1 9 rfl rfl)
theorem dX3_price_33 : decode cX3_price 33 = .ok (.getfield 183, 3) := dk_180 0 183 (dk_at dksX3_price_1 10 rfl rfl)
theorem dX3_price_36 : decode cX3_price 36 = .ok (.imul, 1) := dk_104 (dk_at dksX3_price_1 13 rfl rfl)
theorem dX3_price_37 : decode cX3_price 37 = .ok (.iconst 4, 1) := dk_7 (dk_at dksX3_price_1 14 rfl rfl)
theorem dX3_price_38 : decode cX3_price 38 = .ok (.iload_n 1, 1) := dk_27 (dk_at dksX3_price_1 15 rfl rfl)
theorem dX3_price_39 : decode cX3_price 39 = .ok (.imul, 1) := dk_104 (dk_at dksX3_price_1 16 rfl rfl)
theorem dX3_price_40 : decode cX3_price 40 = .ok (.iadd, 1) := dk_96 (dk_at dksX3_price_1 17 rfl rfl)
theorem dX3_price_41 : decode cX3_price 41 = .ok (.iload_n 2, 1) := dk_28 (dk_at dksX3_price_1 18 rfl rfl)
theorem dX3_price_42 : decode cX3_price 42 = .ok (.iadd, 1) := dk_96 (dk_at dksX3_price_1 19 rfl rfl)
theorem dX3_price_43 : decode cX3_price 43 = .ok (.iaload, 1) := dk_46 (dk_at dksX3_price_1 20 rfl rfl)
theorem dX3_price_44 : decode cX3_price 44 = .ok (.goto 4, 3) := dk_167 0 4 (dk_at dksX3_price_1 21 rfl rfl)
theorem dX3_price_47 : decode cX3_price 47 = .ok (.iconst 0, 1) := dk_3 (dk_at dksX3_price_2 0 rfl rfl)
theorem dX3_price_48 : decode cX3_price 48 = .ok (.ireturn, 1) := dk_172 (dk_at dksX3_price_2 1 rfl rfl)
abbrev cX3_isThere : ByteArray := prog_15_method_56_code
def yX3_isThere : MethodName := ⟨RX3, "isThere", "(Z)Z"⟩
def dkwX3_isThere_1 : List UInt8 := [42, 180, 0, 175, 154, 0, 7, 4, 167, 0, 4, 3, 172]
abbrev dktX3_isThere_1 : List UInt8 := dkwX3_isThere_1 ++ []
def dkwX3_isThere_0 : List UInt8 := [42, 27, 154, 0, 7, 4, 167, 0, 15, 42, 180, 0, 192, 154, 0, 7, 5, 167, 0, 4, 3, 181, 0, 175]
abbrev dktX3_isThere_0 : List UInt8 := dkwX3_isThere_0 ++ dktX3_isThere_1
theorem dksX3_isThere_0 : cX3_isThere.data.toList.drop 0 = dktX3_isThere_0 := by decide +kernel
theorem dksX3_isThere_1 : cX3_isThere.data.toList.drop 24 = dktX3_isThere_1 := dk_seg dksX3_isThere_0 24 rfl rfl
theorem dX3_isThere_0 : decode cX3_isThere 0 = .ok (.aload_n 0, 1) := dk_42 (dk_at dksX3_isThere_0 0 rfl rfl)
theorem dX3_isThere_1 : decode cX3_isThere 1 = .ok (.iload_n 1, 1) := dk_27 (dk_at dksX3_isThere_0 1 rfl rfl)
theorem dX3_isThere_2 : decode cX3_isThere 2 = .ok (.ifCond .ne 7, 3) := dk_154 0 7 (dk_at dksX3_isThere_0 2 rfl rfl)
theorem dX3_isThere_5 : decode cX3_isThere 5 = .ok (.iconst 1, 1) := dk_4 (dk_at dksX3_isThere_0 5 rfl rfl)
theorem dX3_isThere_6 : decode cX3_isThere 6 = .ok (.goto 15, 3) := dk_167 0 15 (dk_at dksX3_isThere_0 6 rfl rfl)
theorem dX3_isThere_9 : decode cX3_isThere 9 = .ok (.aload_n 0, 1) := dk_42 (dk_at dksX3_isThere_0 9 rfl rfl)
theorem dX3_isThere_10 : decode cX3_isThere 10 = .ok (.getfield 192, 3) := dk_180 0 192 (dk_at dksX3_isThere_0 10 rfl rfl)
theorem dX3_isThere_13 : decode cX3_isThere 13 = .ok (.ifCond .ne 7, 3) := dk_154 0 7 (dk_at dksX3_isThere_0 13 rfl rfl)
theorem dX3_isThere_16 : decode cX3_isThere 16 = .ok (.iconst 2, 1) := dk_5 (dk_at dksX3_isThere_0 16 rfl rfl)
theorem dX3_isThere_17 : decode cX3_isThere 17 = .ok (.goto 4, 3) := dk_167 0 4 (dk_at dksX3_isThere_0 17 rfl rfl)
theorem dX3_isThere_20 : decode cX3_isThere 20 = .ok (.iconst 0, 1) := dk_3 (dk_at dksX3_isThere_0 20 rfl rfl)
theorem dX3_isThere_21 : decode cX3_isThere 21 = .ok (.putfield 175, 3) := dk_181 0 175 (dk_at dksX3_isThere_0 21 rfl rfl)
theorem dX3_isThere_24 : decode cX3_isThere 24 = .ok (.aload_n 0, 1) := dk_42 (dk_at dksX3_isThere_1 0 rfl rfl)
theorem dX3_isThere_25 : decode cX3_isThere 25 = .ok (.getfield 175, 3) := dk_180 0 175 (dk_at dksX3_isThere_1 1 rfl rfl)
theorem dX3_isThere_28 : decode cX3_isThere 28 = .ok (.ifCond .ne 7, 3) := dk_154 0 7 (dk_at dksX3_isThere_1 4 rfl rfl)
theorem dX3_isThere_31 : decode cX3_isThere 31 = .ok (.iconst 1, 1) := dk_4 (dk_at dksX3_isThere_1 7 rfl rfl)
theorem dX3_isThere_32 : decode cX3_isThere 32 = .ok (.goto 4, 3) := dk_167 0 4 (dk_at dksX3_isThere_1 8 rfl rfl)
theorem dX3_isThere_35 : decode cX3_isThere 35 = .ok (.iconst 0, 1) := dk_3 (dk_at dksX3_isThere_1 11 rfl rfl)
theorem dX3_isThere_36 : decode cX3_isThere 36 = .ok (.ireturn, 1) := dk_172 (dk_at dksX3_isThere_1 12 rfl rfl)
abbrev cX3_net : ByteArray := prog_15_method_58_code
def yX3_net : MethodName := ⟨RX3, "net", "(II)I"⟩
def dkwX3_net_1 : List UInt8 := [153, 0, 16, 42, 180, 0, 151, 7, 27, 104, 28, 96, 46, 167, 0, 4, 3, 172]
abbrev dktX3_net_1 : List UInt8 := dkwX3_net_1 ++ []
def dkwX3_net_0 : List UInt8 := [42, 27, 184, 0, 195, 153, 0, 14, 28, 184, 0, 198, 153, 0, 7, 4, 167, 0, 4, 3, 182, 1, 88]
abbrev dktX3_net_0 : List UInt8 := dkwX3_net_0 ++ dktX3_net_1
theorem dksX3_net_0 : cX3_net.data.toList.drop 0 = dktX3_net_0 := by decide +kernel
theorem dksX3_net_1 : cX3_net.data.toList.drop 23 = dktX3_net_1 := dk_seg dksX3_net_0 23 rfl rfl
theorem dX3_net_0 : decode cX3_net 0 = .ok (.aload_n 0, 1) := dk_42 (dk_at dksX3_net_0 0 rfl rfl)
theorem dX3_net_1 : decode cX3_net 1 = .ok (.iload_n 1, 1) := dk_27 (dk_at dksX3_net_0 1 rfl rfl)
theorem dX3_net_2 : decode cX3_net 2 = .ok (.invokestatic 195, 3) := dk_184 0 195 (dk_at dksX3_net_0 2 rfl rfl)
theorem dX3_net_5 : decode cX3_net 5 = .ok (.ifCond .eq 14, 3) := dk_153 0 14 (dk_at dksX3_net_0 5 rfl rfl)
theorem dX3_net_8 : decode cX3_net 8 = .ok (.iload_n 2, 1) := dk_28 (dk_at dksX3_net_0 8 rfl rfl)
theorem dX3_net_9 : decode cX3_net 9 = .ok (.invokestatic 198, 3) := dk_184 0 198 (dk_at dksX3_net_0 9 rfl rfl)
theorem dX3_net_12 : decode cX3_net 12 = .ok (.ifCond .eq 7, 3) := dk_153 0 7 (dk_at dksX3_net_0 12 rfl rfl)
theorem dX3_net_15 : decode cX3_net 15 = .ok (.iconst 1, 1) := dk_4 (dk_at dksX3_net_0 15 rfl rfl)
theorem dX3_net_16 : decode cX3_net 16 = .ok (.goto 4, 3) := dk_167 0 4 (dk_at dksX3_net_0 16 rfl rfl)
theorem dX3_net_19 : decode cX3_net 19 = .ok (.iconst 0, 1) := dk_3 (dk_at dksX3_net_0 19 rfl rfl)
theorem dX3_net_20 : decode cX3_net 20 = .ok (.invokevirtual 344, 3) := dk_182 1 88 (dk_at dksX3_net_0 20 rfl rfl)
theorem dX3_net_23 : decode cX3_net 23 = .ok (.ifCond .eq 16, 3) := dk_153 0 16 (dk_at dksX3_net_1 0 rfl rfl)
theorem dX3_net_26 : decode cX3_net 26 = .ok (.aload_n 0, 1) := dk_42 (dk_at dksX3_net_1 3 rfl rfl)
theorem dX3_net_27 : decode cX3_net 27 = .ok (.getfield 151, 3) := dk_180 0 151 (dk_at dksX3_net_1 4 rfl rfl)
theorem dX3_net_30 : decode cX3_net 30 = .ok (.iconst 4, 1) := dk_7 (dk_at dksX3_net_1 7 rfl rfl)
theorem dX3_net_31 : decode cX3_net 31 = .ok (.iload_n 1, 1) := dk_27 (dk_at dksX3_net_1 8 rfl rfl)
theorem dX3_net_32 : decode cX3_net 32 = .ok (.imul, 1) := dk_104 (dk_at dksX3_net_1 9 rfl rfl)
theorem dX3_net_33 : decode cX3_net 33 = .ok (.iload_n 2, 1) := dk_28 (dk_at dksX3_net_1 10 rfl rfl)
theorem dX3_net_34 : decode cX3_net 34 = .ok (.iadd, 1) := dk_96 (dk_at dksX3_net_1 11 rfl rfl)
theorem dX3_net_35 : decode cX3_net 35 = .ok (.iaload, 1) := dk_46 (dk_at dksX3_net_1 12 rfl rfl)
theorem dX3_net_36 : decode cX3_net 36 = .ok (.goto 4, 3) := dk_167 0 4 (dk_at dksX3_net_1 13 rfl rfl)
theorem dX3_net_39 : decode cX3_net 39 = .ok (.iconst 0, 1) := dk_3 (dk_at dksX3_net_1 16 rfl rfl)
theorem dX3_net_40 : decode cX3_net 40 = .ok (.ireturn, 1) := dk_172 (dk_at dksX3_net_1 17 rfl rfl)
abbrev cX3_flow : ByteArray := prog_15_method_59_code
def yX3_flow : MethodName := ⟨RX3, "flow", "(II)I"⟩
def dkwX3_flow_2 : List UInt8 := [46, 42, 180, 0, 151, 27, 154, 0, 7, 7, 167, 0, 5, 16, 8, 28, 96, 46, 100, 172]
abbrev dktX3_flow_2 : List UInt8 := dkwX3_flow_2 ++ []
def dkwX3_flow_1 : List UInt8 := [182, 1, 88, 154, 0, 5, 3, 172, 42, 180, 0, 151, 27, 4, 160, 0, 7, 7, 167, 0, 4, 3, 28, 96]
abbrev dktX3_flow_1 : List UInt8 := dkwX3_flow_1 ++ dktX3_flow_2
def dkwX3_flow_0 : List UInt8 := [42, 27, 3, 5, 184, 0, 179, 153, 0, 14, 28, 184, 0, 198, 153, 0, 7, 4, 167, 0, 4, 3]
abbrev dktX3_flow_0 : List UInt8 := dkwX3_flow_0 ++ dktX3_flow_1
theorem dksX3_flow_0 : cX3_flow.data.toList.drop 0 = dktX3_flow_0 := by decide +kernel
theorem dksX3_flow_1 : cX3_flow.data.toList.drop 22 = dktX3_flow_1 := dk_seg dksX3_flow_0 22 rfl rfl
theorem dksX3_flow_2 : cX3_flow.data.toList.drop 46 = dktX3_flow_2 := dk_seg dksX3_flow_1 24 rfl rfl
theorem dX3_flow_0 : decode cX3_flow 0 = .ok (.aload_n 0, 1) := dk_42 (dk_at dksX3_flow_0 0 rfl rfl)
theorem dX3_flow_1 : decode cX3_flow 1 = .ok (.iload_n 1, 1) := dk_27 (dk_at dksX3_flow_0 1 rfl rfl)
theorem dX3_flow_2 : decode cX3_flow 2 = .ok (.iconst 0, 1) := dk_3 (dk_at dksX3_flow_0 2 rfl rfl)
theorem dX3_flow_3 : decode cX3_flow 3 = .ok (.iconst 2, 1) := dk_5 (dk_at dksX3_flow_0 3 rfl rfl)
theorem dX3_flow_4 : decode cX3_flow 4 = .ok (.invokestatic 179, 3) := dk_184 0 179 (dk_at dksX3_flow_0 4 rfl rfl)
theorem dX3_flow_7 : decode cX3_flow 7 = .ok (.ifCond .eq 14, 3) := dk_153 0 14 (dk_at dksX3_flow_0 7 rfl rfl)
theorem dX3_flow_10 : decode cX3_flow 10 = .ok (.iload_n 2, 1) := dk_28 (dk_at dksX3_flow_0 10 rfl rfl)
theorem dX3_flow_11 : decode cX3_flow 11 = .ok (.invokestatic 198, 3) := dk_184 0 198 (dk_at dksX3_flow_0 11 rfl rfl)
theorem dX3_flow_14 : decode cX3_flow 14 = .ok (.ifCond .eq 7, 3) := dk_153 0 7 (dk_at dksX3_flow_0 14 rfl rfl)
theorem dX3_flow_17 : decode cX3_flow 17 = .ok (.iconst 1, 1) := dk_4 (dk_at dksX3_flow_0 17 rfl rfl)
theorem dX3_flow_18 : decode cX3_flow 18 = .ok (.goto 4, 3) := dk_167 0 4 (dk_at dksX3_flow_0 18 rfl rfl)
theorem dX3_flow_21 : decode cX3_flow 21 = .ok (.iconst 0, 1) := dk_3 (dk_at dksX3_flow_0 21 rfl rfl)
theorem dX3_flow_22 : decode cX3_flow 22 = .ok (.invokevirtual 344, 3) := dk_182 1 88 (dk_at dksX3_flow_1 0 rfl rfl)
theorem dX3_flow_25 : decode cX3_flow 25 = .ok (.ifCond .ne 5, 3) := dk_154 0 5 (dk_at dksX3_flow_1 3 rfl rfl)
theorem dX3_flow_28 : decode cX3_flow 28 = .ok (.iconst 0, 1) := dk_3 (dk_at dksX3_flow_1 6 rfl rfl)
theorem dX3_flow_29 : decode cX3_flow 29 = .ok (.ireturn, 1) := dk_172 (dk_at dksX3_flow_1 7 rfl rfl)
theorem dX3_flow_30 : decode cX3_flow 30 = .ok (.aload_n 0, 1) := dk_42 (dk_at dksX3_flow_1 8 rfl rfl)
theorem dX3_flow_31 : decode cX3_flow 31 = .ok (.getfield 151, 3) := dk_180 0 151 (dk_at dksX3_flow_1 9 rfl rfl)
theorem dX3_flow_34 : decode cX3_flow 34 = .ok (.iload_n 1, 1) := dk_27 (dk_at dksX3_flow_1 12 rfl rfl)
theorem dX3_flow_35 : decode cX3_flow 35 = .ok (.iconst 1, 1) := dk_4 (dk_at dksX3_flow_1 13 rfl rfl)
theorem dX3_flow_36 : decode cX3_flow 36 = .ok (.if_icmp .ne 7, 3) := dk_160 0 7 (dk_at dksX3_flow_1 14 rfl rfl)
theorem dX3_flow_39 : decode cX3_flow 39 = .ok (.iconst 4, 1) := dk_7 (dk_at dksX3_flow_1 17 rfl rfl)
theorem dX3_flow_40 : decode cX3_flow 40 = .ok (.goto 4, 3) := dk_167 0 4 (dk_at dksX3_flow_1 18 rfl rfl)
theorem dX3_flow_43 : decode cX3_flow 43 = .ok (.iconst 0, 1) := dk_3 (dk_at dksX3_flow_1 21 rfl rfl)
theorem dX3_flow_44 : decode cX3_flow 44 = .ok (.iload_n 2, 1) := dk_28 (dk_at dksX3_flow_1 22 rfl rfl)
theorem dX3_flow_45 : decode cX3_flow 45 = .ok (.iadd, 1) := dk_96 (dk_at dksX3_flow_1 23 rfl rfl)
theorem dX3_flow_46 : decode cX3_flow 46 = .ok (.iaload, 1) := dk_46 (dk_at dksX3_flow_2 0 rfl rfl)
theorem dX3_flow_47 : decode cX3_flow 47 = .ok (.aload_n 0, 1) := dk_42 (dk_at dksX3_flow_2 1 rfl rfl)
theorem dX3_flow_48 : decode cX3_flow 48 = .ok (.getfield 151, 3) := dk_180 0 151 (dk_at dksX3_flow_2 2 rfl rfl)
theorem dX3_flow_51 : decode cX3_flow 51 = .ok (.iload_n 1, 1) := dk_27 (dk_at dksX3_flow_2 5 rfl rfl)
theorem dX3_flow_52 : decode cX3_flow 52 = .ok (.ifCond .ne 7, 3) := dk_154 0 7 (dk_at dksX3_flow_2 6 rfl rfl)
theorem dX3_flow_55 : decode cX3_flow 55 = .ok (.iconst 4, 1) := dk_7 (dk_at dksX3_flow_2 9 rfl rfl)
theorem dX3_flow_56 : decode cX3_flow 56 = .ok (.goto 5, 3) := dk_167 0 5 (dk_at dksX3_flow_2 10 rfl rfl)
theorem dX3_flow_59 : decode cX3_flow 59 = .ok (.bipush 8, 2) := dk_16 8 (dk_at dksX3_flow_2 13 rfl rfl)
theorem dX3_flow_61 : decode cX3_flow 61 = .ok (.iload_n 2, 1) := dk_28 (dk_at dksX3_flow_2 15 rfl rfl)
theorem dX3_flow_62 : decode cX3_flow 62 = .ok (.iadd, 1) := dk_96 (dk_at dksX3_flow_2 16 rfl rfl)
theorem dX3_flow_63 : decode cX3_flow 63 = .ok (.iaload, 1) := dk_46 (dk_at dksX3_flow_2 17 rfl rfl)
theorem dX3_flow_64 : decode cX3_flow 64 = .ok (.isub, 1) := dk_100 (dk_at dksX3_flow_2 18 rfl rfl)
theorem dX3_flow_65 : decode cX3_flow 65 = .ok (.ireturn, 1) := dk_172 (dk_at dksX3_flow_2 19 rfl rfl)
abbrev cX3_taken : ByteArray := prog_15_method_60_code
def yX3_taken : MethodName := ⟨RX3, "taken", "(I)I"⟩
def dkwX3_taken_1 : List UInt8 := [167, 0, 4, 3, 172]
abbrev dktX3_taken_1 : List UInt8 := dkwX3_taken_1 ++ []
def dkwX3_taken_0 : List UInt8 := [42, 27, 3, 42, 180, 0, 201, 4, 100, 184, 0, 179, 182, 1, 88, 153, 0, 12, 42, 180, 0, 40, 27, 46]
abbrev dktX3_taken_0 : List UInt8 := dkwX3_taken_0 ++ dktX3_taken_1
theorem dksX3_taken_0 : cX3_taken.data.toList.drop 0 = dktX3_taken_0 := by decide +kernel
theorem dksX3_taken_1 : cX3_taken.data.toList.drop 24 = dktX3_taken_1 := dk_seg dksX3_taken_0 24 rfl rfl
theorem dX3_taken_0 : decode cX3_taken 0 = .ok (.aload_n 0, 1) := dk_42 (dk_at dksX3_taken_0 0 rfl rfl)
theorem dX3_taken_1 : decode cX3_taken 1 = .ok (.iload_n 1, 1) := dk_27 (dk_at dksX3_taken_0 1 rfl rfl)
theorem dX3_taken_2 : decode cX3_taken 2 = .ok (.iconst 0, 1) := dk_3 (dk_at dksX3_taken_0 2 rfl rfl)
theorem dX3_taken_3 : decode cX3_taken 3 = .ok (.aload_n 0, 1) := dk_42 (dk_at dksX3_taken_0 3 rfl rfl)
theorem dX3_taken_4 : decode cX3_taken 4 = .ok (.getfield 201, 3) := dk_180 0 201 (dk_at dksX3_taken_0 4 rfl rfl)
theorem dX3_taken_7 : decode cX3_taken 7 = .ok (.iconst 1, 1) := dk_4 (dk_at dksX3_taken_0 7 rfl rfl)
theorem dX3_taken_8 : decode cX3_taken 8 = .ok (.isub, 1) := dk_100 (dk_at dksX3_taken_0 8 rfl rfl)
theorem dX3_taken_9 : decode cX3_taken 9 = .ok (.invokestatic 179, 3) := dk_184 0 179 (dk_at dksX3_taken_0 9 rfl rfl)
theorem dX3_taken_12 : decode cX3_taken 12 = .ok (.invokevirtual 344, 3) := dk_182 1 88 (dk_at dksX3_taken_0 12 rfl rfl)
theorem dX3_taken_15 : decode cX3_taken 15 = .ok (.ifCond .eq 12, 3) := dk_153 0 12 (dk_at dksX3_taken_0 15 rfl rfl)
theorem dX3_taken_18 : decode cX3_taken 18 = .ok (.aload_n 0, 1) := dk_42 (dk_at dksX3_taken_0 18 rfl rfl)
theorem dX3_taken_19 : decode cX3_taken 19 = .ok (.getfield 40, 3) := dk_180 0 40 (dk_at dksX3_taken_0 19 rfl rfl)
theorem dX3_taken_22 : decode cX3_taken 22 = .ok (.iload_n 1, 1) := dk_27 (dk_at dksX3_taken_0 22 rfl rfl)
theorem dX3_taken_23 : decode cX3_taken 23 = .ok (.iaload, 1) := dk_46 (dk_at dksX3_taken_0 23 rfl rfl)
theorem dX3_taken_24 : decode cX3_taken 24 = .ok (.goto 4, 3) := dk_167 0 4 (dk_at dksX3_taken_1 0 rfl rfl)
theorem dX3_taken_27 : decode cX3_taken 27 = .ok (.iconst 0, 1) := dk_3 (dk_at dksX3_taken_1 3 rfl rfl)
theorem dX3_taken_28 : decode cX3_taken 28 = .ok (.ireturn, 1) := dk_172 (dk_at dksX3_taken_1 4 rfl rfl)
abbrev cX3_isTaken : ByteArray := prog_15_method_61_code
def yX3_isTaken : MethodName := ⟨RX3, "isTaken", "(I)Z"⟩
def dkwX3_isTaken_1 : List UInt8 := [4, 126, 4, 160, 0, 7, 4, 167, 0, 4, 3, 172]
abbrev dktX3_isTaken_1 : List UInt8 := dkwX3_isTaken_1 ++ []
def dkwX3_isTaken_0 : List UInt8 := [42, 27, 3, 42, 180, 0, 204, 4, 100, 184, 0, 179, 182, 1, 88, 153, 0, 19, 42, 180, 1, 19, 27, 122]
abbrev dktX3_isTaken_0 : List UInt8 := dkwX3_isTaken_0 ++ dktX3_isTaken_1
theorem dksX3_isTaken_0 : cX3_isTaken.data.toList.drop 0 = dktX3_isTaken_0 := by decide +kernel
theorem dksX3_isTaken_1 : cX3_isTaken.data.toList.drop 24 = dktX3_isTaken_1 := dk_seg dksX3_isTaken_0 24 rfl rfl
theorem dX3_isTaken_0 : decode cX3_isTaken 0 = .ok (.aload_n 0, 1) := dk_42 (dk_at dksX3_isTaken_0 0 rfl rfl)
theorem dX3_isTaken_1 : decode cX3_isTaken 1 = .ok (.iload_n 1, 1) := dk_27 (dk_at dksX3_isTaken_0 1 rfl rfl)
theorem dX3_isTaken_2 : decode cX3_isTaken 2 = .ok (.iconst 0, 1) := dk_3 (dk_at dksX3_isTaken_0 2 rfl rfl)
theorem dX3_isTaken_3 : decode cX3_isTaken 3 = .ok (.aload_n 0, 1) := dk_42 (dk_at dksX3_isTaken_0 3 rfl rfl)
theorem dX3_isTaken_4 : decode cX3_isTaken 4 = .ok (.getfield 204, 3) := dk_180 0 204 (dk_at dksX3_isTaken_0 4 rfl rfl)
theorem dX3_isTaken_7 : decode cX3_isTaken 7 = .ok (.iconst 1, 1) := dk_4 (dk_at dksX3_isTaken_0 7 rfl rfl)
theorem dX3_isTaken_8 : decode cX3_isTaken 8 = .ok (.isub, 1) := dk_100 (dk_at dksX3_isTaken_0 8 rfl rfl)
theorem dX3_isTaken_9 : decode cX3_isTaken 9 = .ok (.invokestatic 179, 3) := dk_184 0 179 (dk_at dksX3_isTaken_0 9 rfl rfl)
theorem dX3_isTaken_12 : decode cX3_isTaken 12 = .ok (.invokevirtual 344, 3) := dk_182 1 88 (dk_at dksX3_isTaken_0 12 rfl rfl)
theorem dX3_isTaken_15 : decode cX3_isTaken 15 = .ok (.ifCond .eq 19, 3) := dk_153 0 19 (dk_at dksX3_isTaken_0 15 rfl rfl)
theorem dX3_isTaken_18 : decode cX3_isTaken 18 = .ok (.aload_n 0, 1) := dk_42 (dk_at dksX3_isTaken_0 18 rfl rfl)
theorem dX3_isTaken_19 : decode cX3_isTaken 19 = .ok (.getfield 275, 3) := dk_180 1 19 (dk_at dksX3_isTaken_0 19 rfl rfl)
theorem dX3_isTaken_22 : decode cX3_isTaken 22 = .ok (.iload_n 1, 1) := dk_27 (dk_at dksX3_isTaken_0 22 rfl rfl)
theorem dX3_isTaken_23 : decode cX3_isTaken 23 = .ok (.ishr, 1) := dk_122 (dk_at dksX3_isTaken_0 23 rfl rfl)
theorem dX3_isTaken_24 : decode cX3_isTaken 24 = .ok (.iconst 1, 1) := dk_4 (dk_at dksX3_isTaken_1 0 rfl rfl)
theorem dX3_isTaken_25 : decode cX3_isTaken 25 = .ok (.iand, 1) := dk_126 (dk_at dksX3_isTaken_1 1 rfl rfl)
theorem dX3_isTaken_26 : decode cX3_isTaken 26 = .ok (.iconst 1, 1) := dk_4 (dk_at dksX3_isTaken_1 2 rfl rfl)
theorem dX3_isTaken_27 : decode cX3_isTaken 27 = .ok (.if_icmp .ne 7, 3) := dk_160 0 7 (dk_at dksX3_isTaken_1 3 rfl rfl)
theorem dX3_isTaken_30 : decode cX3_isTaken 30 = .ok (.iconst 1, 1) := dk_4 (dk_at dksX3_isTaken_1 6 rfl rfl)
theorem dX3_isTaken_31 : decode cX3_isTaken 31 = .ok (.goto 4, 3) := dk_167 0 4 (dk_at dksX3_isTaken_1 7 rfl rfl)
theorem dX3_isTaken_34 : decode cX3_isTaken 34 = .ok (.iconst 0, 1) := dk_3 (dk_at dksX3_isTaken_1 10 rfl rfl)
theorem dX3_isTaken_35 : decode cX3_isTaken 35 = .ok (.ireturn, 1) := dk_172 (dk_at dksX3_isTaken_1 11 rfl rfl)
abbrev cX3_gain : ByteArray := prog_15_method_62_code
def yX3_gain : MethodName := ⟨RX3, "gain", "(I)I"⟩
def dkwX3_gain_1 : List UInt8 := [16, 12, 42, 180, 0, 183, 104, 182, 1, 5, 167, 0, 4, 3, 172]
abbrev dktX3_gain_1 : List UInt8 := dkwX3_gain_1 ++ []
def dkwX3_gain_0 : List UInt8 := [42, 27, 3, 42, 180, 0, 204, 4, 100, 184, 0, 179, 182, 1, 88, 153, 0, 22, 42, 27, 42, 180, 0, 130]
abbrev dktX3_gain_0 : List UInt8 := dkwX3_gain_0 ++ dktX3_gain_1
theorem dksX3_gain_0 : cX3_gain.data.toList.drop 0 = dktX3_gain_0 := by decide +kernel
theorem dksX3_gain_1 : cX3_gain.data.toList.drop 24 = dktX3_gain_1 := dk_seg dksX3_gain_0 24 rfl rfl
theorem dX3_gain_0 : decode cX3_gain 0 = .ok (.aload_n 0, 1) := dk_42 (dk_at dksX3_gain_0 0 rfl rfl)
theorem dX3_gain_1 : decode cX3_gain 1 = .ok (.iload_n 1, 1) := dk_27 (dk_at dksX3_gain_0 1 rfl rfl)
theorem dX3_gain_2 : decode cX3_gain 2 = .ok (.iconst 0, 1) := dk_3 (dk_at dksX3_gain_0 2 rfl rfl)
theorem dX3_gain_3 : decode cX3_gain 3 = .ok (.aload_n 0, 1) := dk_42 (dk_at dksX3_gain_0 3 rfl rfl)
theorem dX3_gain_4 : decode cX3_gain 4 = .ok (.getfield 204, 3) := dk_180 0 204 (dk_at dksX3_gain_0 4 rfl rfl)
theorem dX3_gain_7 : decode cX3_gain 7 = .ok (.iconst 1, 1) := dk_4 (dk_at dksX3_gain_0 7 rfl rfl)
theorem dX3_gain_8 : decode cX3_gain 8 = .ok (.isub, 1) := dk_100 (dk_at dksX3_gain_0 8 rfl rfl)
theorem dX3_gain_9 : decode cX3_gain 9 = .ok (.invokestatic 179, 3) := dk_184 0 179 (dk_at dksX3_gain_0 9 rfl rfl)
theorem dX3_gain_12 : decode cX3_gain 12 = .ok (.invokevirtual 344, 3) := dk_182 1 88 (dk_at dksX3_gain_0 12 rfl rfl)
theorem dX3_gain_15 : decode cX3_gain 15 = .ok (.ifCond .eq 22, 3) := dk_153 0 22 (dk_at dksX3_gain_0 15 rfl rfl)
theorem dX3_gain_18 : decode cX3_gain 18 = .ok (.aload_n 0, 1) := dk_42 (dk_at dksX3_gain_0 18 rfl rfl)
theorem dX3_gain_19 : decode cX3_gain 19 = .ok (.iload_n 1, 1) := dk_27 (dk_at dksX3_gain_0 19 rfl rfl)
theorem dX3_gain_20 : decode cX3_gain 20 = .ok (.aload_n 0, 1) := dk_42 (dk_at dksX3_gain_0 20 rfl rfl)
theorem dX3_gain_21 : decode cX3_gain 21 = .ok (.getfield 130, 3) := dk_180 0 130 (dk_at dksX3_gain_0 21 rfl rfl)
theorem dX3_gain_24 : decode cX3_gain 24 = .ok (.bipush 12, 2) := dk_16 12 (dk_at dksX3_gain_1 0 rfl rfl)
theorem dX3_gain_26 : decode cX3_gain 26 = .ok (.aload_n 0, 1) := dk_42 (dk_at dksX3_gain_1 2 rfl rfl)
theorem dX3_gain_27 : decode cX3_gain 27 = .ok (.getfield 183, 3) := dk_180 0 183 (dk_at dksX3_gain_1 3 rfl rfl)
theorem dX3_gain_30 : decode cX3_gain 30 = .ok (.imul, 1) := dk_104 (dk_at dksX3_gain_1 6 rfl rfl)
theorem dX3_gain_31 : decode cX3_gain 31 = .ok (.invokevirtual 261, 3) := dk_182 1 5 (dk_at dksX3_gain_1 7 rfl rfl)
theorem dX3_gain_34 : decode cX3_gain 34 = .ok (.goto 4, 3) := dk_167 0 4 (dk_at dksX3_gain_1 10 rfl rfl)
theorem dX3_gain_37 : decode cX3_gain 37 = .ok (.iconst 0, 1) := dk_3 (dk_at dksX3_gain_1 13 rfl rfl)
theorem dX3_gain_38 : decode cX3_gain 38 = .ok (.ireturn, 1) := dk_172 (dk_at dksX3_gain_1 14 rfl rfl)
abbrev cX3_worthAnew : ByteArray := prog_15_method_63_code
def yX3_worthAnew : MethodName := ⟨RX3, "worthAnew", "()I"⟩
def dkwX3_worthAnew_4 : List UInt8 := [167, 255, 202, 27, 172]
abbrev dktX3_worthAnew_4 : List UInt8 := dkwX3_worthAnew_4 ++ []
def dkwX3_worthAnew_3 : List UInt8 := [167, 0, 10, 42, 180, 0, 40, 28, 46, 116, 42, 180, 0, 34, 28, 46, 104, 96, 60, 132, 2, 1]
abbrev dktX3_worthAnew_3 : List UInt8 := dkwX3_worthAnew_3 ++ dktX3_worthAnew_4
def dkwX3_worthAnew_2 : List UInt8 := [180, 0, 175, 154, 0, 45, 27, 42, 180, 0, 31, 28, 46, 4, 160, 0, 12, 42, 180, 0, 40, 28, 46]
abbrev dktX3_worthAnew_2 : List UInt8 := dkwX3_worthAnew_2 ++ dktX3_worthAnew_3
def dkwX3_worthAnew_1 : List UInt8 := [42, 180, 1, 19, 182, 0, 255, 167, 0, 4, 3, 60, 3, 61, 28, 42, 180, 0, 201, 162, 0, 52, 42]
abbrev dktX3_worthAnew_1 : List UInt8 := dkwX3_worthAnew_1 ++ dktX3_worthAnew_2
def dkwX3_worthAnew_0 : List UInt8 := [42, 42, 180, 0, 192, 154, 0, 7, 4, 167, 0, 4, 3, 181, 0, 175, 42, 180, 0, 175, 154, 0, 14, 42]
abbrev dktX3_worthAnew_0 : List UInt8 := dkwX3_worthAnew_0 ++ dktX3_worthAnew_1
theorem dksX3_worthAnew_0 : cX3_worthAnew.data.toList.drop 0 = dktX3_worthAnew_0 := by decide +kernel
theorem dksX3_worthAnew_1 : cX3_worthAnew.data.toList.drop 24 = dktX3_worthAnew_1 := dk_seg dksX3_worthAnew_0 24 rfl rfl
theorem dksX3_worthAnew_2 : cX3_worthAnew.data.toList.drop 47 = dktX3_worthAnew_2 := dk_seg dksX3_worthAnew_1 23 rfl rfl
theorem dksX3_worthAnew_3 : cX3_worthAnew.data.toList.drop 70 = dktX3_worthAnew_3 := dk_seg dksX3_worthAnew_2 23 rfl rfl
theorem dksX3_worthAnew_4 : cX3_worthAnew.data.toList.drop 92 = dktX3_worthAnew_4 := dk_seg dksX3_worthAnew_3 22 rfl rfl
theorem dX3_worthAnew_0 : decode cX3_worthAnew 0 = .ok (.aload_n 0, 1) := dk_42 (dk_at dksX3_worthAnew_0 0 rfl rfl)
theorem dX3_worthAnew_1 : decode cX3_worthAnew 1 = .ok (.aload_n 0, 1) := dk_42 (dk_at dksX3_worthAnew_0 1 rfl rfl)
theorem dX3_worthAnew_2 : decode cX3_worthAnew 2 = .ok (.getfield 192, 3) := dk_180 0 192 (dk_at dksX3_worthAnew_0 2 rfl rfl)
theorem dX3_worthAnew_5 : decode cX3_worthAnew 5 = .ok (.ifCond .ne 7, 3) := dk_154 0 7 (dk_at dksX3_worthAnew_0 5 rfl rfl)
theorem dX3_worthAnew_8 : decode cX3_worthAnew 8 = .ok (.iconst 1, 1) := dk_4 (dk_at dksX3_worthAnew_0 8 rfl rfl)
theorem dX3_worthAnew_9 : decode cX3_worthAnew 9 = .ok (.goto 4, 3) := dk_167 0 4 (dk_at dksX3_worthAnew_0 9 rfl rfl)
theorem dX3_worthAnew_12 : decode cX3_worthAnew 12 = .ok (.iconst 0, 1) := dk_3 (dk_at dksX3_worthAnew_0 12 rfl rfl)
theorem dX3_worthAnew_13 : decode cX3_worthAnew 13 = .ok (.putfield 175, 3) := dk_181 0 175 (dk_at dksX3_worthAnew_0 13 rfl rfl)
theorem dX3_worthAnew_16 : decode cX3_worthAnew 16 = .ok (.aload_n 0, 1) := dk_42 (dk_at dksX3_worthAnew_0 16 rfl rfl)
theorem dX3_worthAnew_17 : decode cX3_worthAnew 17 = .ok (.getfield 175, 3) := dk_180 0 175 (dk_at dksX3_worthAnew_0 17 rfl rfl)
theorem dX3_worthAnew_20 : decode cX3_worthAnew 20 = .ok (.ifCond .ne 14, 3) := dk_154 0 14 (dk_at dksX3_worthAnew_0 20 rfl rfl)
theorem dX3_worthAnew_23 : decode cX3_worthAnew 23 = .ok (.aload_n 0, 1) := dk_42 (dk_at dksX3_worthAnew_0 23 rfl rfl)
theorem dX3_worthAnew_24 : decode cX3_worthAnew 24 = .ok (.aload_n 0, 1) := dk_42 (dk_at dksX3_worthAnew_1 0 rfl rfl)
theorem dX3_worthAnew_25 : decode cX3_worthAnew 25 = .ok (.getfield 275, 3) := dk_180 1 19 (dk_at dksX3_worthAnew_1 1 rfl rfl)
theorem dX3_worthAnew_28 : decode cX3_worthAnew 28 = .ok (.invokevirtual 255, 3) := dk_182 0 255 (dk_at dksX3_worthAnew_1 4 rfl rfl)
theorem dX3_worthAnew_31 : decode cX3_worthAnew 31 = .ok (.goto 4, 3) := dk_167 0 4 (dk_at dksX3_worthAnew_1 7 rfl rfl)
theorem dX3_worthAnew_34 : decode cX3_worthAnew 34 = .ok (.iconst 0, 1) := dk_3 (dk_at dksX3_worthAnew_1 10 rfl rfl)
theorem dX3_worthAnew_35 : decode cX3_worthAnew 35 = .ok (.istore_n 1, 1) := dk_60 (dk_at dksX3_worthAnew_1 11 rfl rfl)
theorem dX3_worthAnew_36 : decode cX3_worthAnew 36 = .ok (.iconst 0, 1) := dk_3 (dk_at dksX3_worthAnew_1 12 rfl rfl)
theorem dX3_worthAnew_37 : decode cX3_worthAnew 37 = .ok (.istore_n 2, 1) := dk_61 (dk_at dksX3_worthAnew_1 13 rfl rfl)
theorem dX3_worthAnew_38 : decode cX3_worthAnew 38 = .ok (.iload_n 2, 1) := dk_28 (dk_at dksX3_worthAnew_1 14 rfl rfl)
theorem dX3_worthAnew_39 : decode cX3_worthAnew 39 = .ok (.aload_n 0, 1) := dk_42 (dk_at dksX3_worthAnew_1 15 rfl rfl)
theorem dX3_worthAnew_40 : decode cX3_worthAnew 40 = .ok (.getfield 201, 3) := dk_180 0 201 (dk_at dksX3_worthAnew_1 16 rfl rfl)
theorem dX3_worthAnew_43 : decode cX3_worthAnew 43 = .ok (.if_icmp .ge 52, 3) := dk_162 0 52 (dk_at dksX3_worthAnew_1 19 rfl rfl)
theorem dX3_worthAnew_46 : decode cX3_worthAnew 46 = .ok (.aload_n 0, 1) := dk_42 (dk_at dksX3_worthAnew_1 22 rfl rfl)
theorem dX3_worthAnew_47 : decode cX3_worthAnew 47 = .ok (.getfield 175, 3) := dk_180 0 175 (dk_at dksX3_worthAnew_2 0 rfl rfl)
theorem dX3_worthAnew_50 : decode cX3_worthAnew 50 = .ok (.ifCond .ne 45, 3) := dk_154 0 45 (dk_at dksX3_worthAnew_2 3 rfl rfl)
theorem dX3_worthAnew_53 : decode cX3_worthAnew 53 = .ok (.iload_n 1, 1) := dk_27 (dk_at dksX3_worthAnew_2 6 rfl rfl)
theorem dX3_worthAnew_54 : decode cX3_worthAnew 54 = .ok (.aload_n 0, 1) := dk_42 (dk_at dksX3_worthAnew_2 7 rfl rfl)
theorem dX3_worthAnew_55 : decode cX3_worthAnew 55 = .ok (.getfield 31, 3) := dk_180 0 31 (dk_at dksX3_worthAnew_2 8 rfl rfl)
theorem dX3_worthAnew_58 : decode cX3_worthAnew 58 = .ok (.iload_n 2, 1) := dk_28 (dk_at dksX3_worthAnew_2 11 rfl rfl)
theorem dX3_worthAnew_59 : decode cX3_worthAnew 59 = .ok (.iaload, 1) := dk_46 (dk_at dksX3_worthAnew_2 12 rfl rfl)
theorem dX3_worthAnew_60 : decode cX3_worthAnew 60 = .ok (.iconst 1, 1) := dk_4 (dk_at dksX3_worthAnew_2 13 rfl rfl)
theorem dX3_worthAnew_61 : decode cX3_worthAnew 61 = .ok (.if_icmp .ne 12, 3) := dk_160 0 12 (dk_at dksX3_worthAnew_2 14 rfl rfl)
theorem dX3_worthAnew_64 : decode cX3_worthAnew 64 = .ok (.aload_n 0, 1) := dk_42 (dk_at dksX3_worthAnew_2 17 rfl rfl)
theorem dX3_worthAnew_65 : decode cX3_worthAnew 65 = .ok (.getfield 40, 3) := dk_180 0 40 (dk_at dksX3_worthAnew_2 18 rfl rfl)
theorem dX3_worthAnew_68 : decode cX3_worthAnew 68 = .ok (.iload_n 2, 1) := dk_28 (dk_at dksX3_worthAnew_2 21 rfl rfl)
theorem dX3_worthAnew_69 : decode cX3_worthAnew 69 = .ok (.iaload, 1) := dk_46 (dk_at dksX3_worthAnew_2 22 rfl rfl)
theorem dX3_worthAnew_70 : decode cX3_worthAnew 70 = .ok (.goto 10, 3) := dk_167 0 10 (dk_at dksX3_worthAnew_3 0 rfl rfl)
theorem dX3_worthAnew_73 : decode cX3_worthAnew 73 = .ok (.aload_n 0, 1) := dk_42 (dk_at dksX3_worthAnew_3 3 rfl rfl)
theorem dX3_worthAnew_74 : decode cX3_worthAnew 74 = .ok (.getfield 40, 3) := dk_180 0 40 (dk_at dksX3_worthAnew_3 4 rfl rfl)
theorem dX3_worthAnew_77 : decode cX3_worthAnew 77 = .ok (.iload_n 2, 1) := dk_28 (dk_at dksX3_worthAnew_3 7 rfl rfl)
theorem dX3_worthAnew_78 : decode cX3_worthAnew 78 = .ok (.iaload, 1) := dk_46 (dk_at dksX3_worthAnew_3 8 rfl rfl)
theorem dX3_worthAnew_79 : decode cX3_worthAnew 79 = .ok (.ineg, 1) := dk_116 (dk_at dksX3_worthAnew_3 9 rfl rfl)
theorem dX3_worthAnew_80 : decode cX3_worthAnew 80 = .ok (.aload_n 0, 1) := dk_42 (dk_at dksX3_worthAnew_3 10 rfl rfl)
theorem dX3_worthAnew_81 : decode cX3_worthAnew 81 = .ok (.getfield 34, 3) := dk_180 0 34 (dk_at dksX3_worthAnew_3 11 rfl rfl)
theorem dX3_worthAnew_84 : decode cX3_worthAnew 84 = .ok (.iload_n 2, 1) := dk_28 (dk_at dksX3_worthAnew_3 14 rfl rfl)
theorem dX3_worthAnew_85 : decode cX3_worthAnew 85 = .ok (.iaload, 1) := dk_46 (dk_at dksX3_worthAnew_3 15 rfl rfl)
theorem dX3_worthAnew_86 : decode cX3_worthAnew 86 = .ok (.imul, 1) := dk_104 (dk_at dksX3_worthAnew_3 16 rfl rfl)
theorem dX3_worthAnew_87 : decode cX3_worthAnew 87 = .ok (.iadd, 1) := dk_96 (dk_at dksX3_worthAnew_3 17 rfl rfl)
theorem dX3_worthAnew_88 : decode cX3_worthAnew 88 = .ok (.istore_n 1, 1) := dk_60 (dk_at dksX3_worthAnew_3 18 rfl rfl)
theorem dX3_worthAnew_89 : decode cX3_worthAnew 89 = .ok (.iinc 2 1, 3) := dk_132 2 1 (dk_at dksX3_worthAnew_3 19 rfl rfl)
theorem dX3_worthAnew_92 : decode cX3_worthAnew 92 = .ok (.goto (-54), 3) := dk_167 255 202 (dk_at dksX3_worthAnew_4 0 rfl rfl)
theorem dX3_worthAnew_95 : decode cX3_worthAnew 95 = .ok (.iload_n 1, 1) := dk_27 (dk_at dksX3_worthAnew_4 3 rfl rfl)
theorem dX3_worthAnew_96 : decode cX3_worthAnew 96 = .ok (.ireturn, 1) := dk_172 (dk_at dksX3_worthAnew_4 4 rfl rfl)
abbrev cX3_given : ByteArray := prog_15_method_64_code
def yX3_given : MethodName := ⟨RX3, "given", "(I)I"⟩
def dkwX3_given_1 : List UInt8 := [167, 0, 4, 3, 172]
abbrev dktX3_given_1 : List UInt8 := dkwX3_given_1 ++ []
def dkwX3_given_0 : List UInt8 := [42, 27, 3, 42, 180, 0, 207, 4, 100, 184, 0, 179, 182, 1, 88, 153, 0, 12, 42, 180, 0, 85, 27, 46]
abbrev dktX3_given_0 : List UInt8 := dkwX3_given_0 ++ dktX3_given_1
theorem dksX3_given_0 : cX3_given.data.toList.drop 0 = dktX3_given_0 := by decide +kernel
theorem dksX3_given_1 : cX3_given.data.toList.drop 24 = dktX3_given_1 := dk_seg dksX3_given_0 24 rfl rfl
theorem dX3_given_0 : decode cX3_given 0 = .ok (.aload_n 0, 1) := dk_42 (dk_at dksX3_given_0 0 rfl rfl)
theorem dX3_given_1 : decode cX3_given 1 = .ok (.iload_n 1, 1) := dk_27 (dk_at dksX3_given_0 1 rfl rfl)
theorem dX3_given_2 : decode cX3_given 2 = .ok (.iconst 0, 1) := dk_3 (dk_at dksX3_given_0 2 rfl rfl)
theorem dX3_given_3 : decode cX3_given 3 = .ok (.aload_n 0, 1) := dk_42 (dk_at dksX3_given_0 3 rfl rfl)
theorem dX3_given_4 : decode cX3_given 4 = .ok (.getfield 207, 3) := dk_180 0 207 (dk_at dksX3_given_0 4 rfl rfl)
theorem dX3_given_7 : decode cX3_given 7 = .ok (.iconst 1, 1) := dk_4 (dk_at dksX3_given_0 7 rfl rfl)
theorem dX3_given_8 : decode cX3_given 8 = .ok (.isub, 1) := dk_100 (dk_at dksX3_given_0 8 rfl rfl)
theorem dX3_given_9 : decode cX3_given 9 = .ok (.invokestatic 179, 3) := dk_184 0 179 (dk_at dksX3_given_0 9 rfl rfl)
theorem dX3_given_12 : decode cX3_given 12 = .ok (.invokevirtual 344, 3) := dk_182 1 88 (dk_at dksX3_given_0 12 rfl rfl)
theorem dX3_given_15 : decode cX3_given 15 = .ok (.ifCond .eq 12, 3) := dk_153 0 12 (dk_at dksX3_given_0 15 rfl rfl)
theorem dX3_given_18 : decode cX3_given 18 = .ok (.aload_n 0, 1) := dk_42 (dk_at dksX3_given_0 18 rfl rfl)
theorem dX3_given_19 : decode cX3_given 19 = .ok (.getfield 85, 3) := dk_180 0 85 (dk_at dksX3_given_0 19 rfl rfl)
theorem dX3_given_22 : decode cX3_given 22 = .ok (.iload_n 1, 1) := dk_27 (dk_at dksX3_given_0 22 rfl rfl)
theorem dX3_given_23 : decode cX3_given 23 = .ok (.iaload, 1) := dk_46 (dk_at dksX3_given_0 23 rfl rfl)
theorem dX3_given_24 : decode cX3_given 24 = .ok (.goto 4, 3) := dk_167 0 4 (dk_at dksX3_given_1 0 rfl rfl)
theorem dX3_given_27 : decode cX3_given 27 = .ok (.iconst 0, 1) := dk_3 (dk_at dksX3_given_1 3 rfl rfl)
theorem dX3_given_28 : decode cX3_given 28 = .ok (.ireturn, 1) := dk_172 (dk_at dksX3_given_1 4 rfl rfl)
abbrev cX3_left : ByteArray := prog_15_method_65_code
def yX3_left : MethodName := ⟨RX3, "left", "(I)I"⟩
def dkwX3_left_1 : List UInt8 := [180, 0, 175, 154, 0, 12, 42, 180, 0, 103, 27, 46, 167, 0, 4, 3, 172]
abbrev dktX3_left_1 : List UInt8 := dkwX3_left_1 ++ []
def dkwX3_left_0 : List UInt8 := [42, 27, 3, 42, 180, 1, 42, 4, 100, 184, 0, 179, 153, 0, 7, 3, 167, 0, 4, 4, 181, 0, 175, 42]
abbrev dktX3_left_0 : List UInt8 := dkwX3_left_0 ++ dktX3_left_1
theorem dksX3_left_0 : cX3_left.data.toList.drop 0 = dktX3_left_0 := by decide +kernel
theorem dksX3_left_1 : cX3_left.data.toList.drop 24 = dktX3_left_1 := dk_seg dksX3_left_0 24 rfl rfl
theorem dX3_left_0 : decode cX3_left 0 = .ok (.aload_n 0, 1) := dk_42 (dk_at dksX3_left_0 0 rfl rfl)
theorem dX3_left_1 : decode cX3_left 1 = .ok (.iload_n 1, 1) := dk_27 (dk_at dksX3_left_0 1 rfl rfl)
theorem dX3_left_2 : decode cX3_left 2 = .ok (.iconst 0, 1) := dk_3 (dk_at dksX3_left_0 2 rfl rfl)
theorem dX3_left_3 : decode cX3_left 3 = .ok (.aload_n 0, 1) := dk_42 (dk_at dksX3_left_0 3 rfl rfl)
theorem dX3_left_4 : decode cX3_left 4 = .ok (.getfield 298, 3) := dk_180 1 42 (dk_at dksX3_left_0 4 rfl rfl)
theorem dX3_left_7 : decode cX3_left 7 = .ok (.iconst 1, 1) := dk_4 (dk_at dksX3_left_0 7 rfl rfl)
theorem dX3_left_8 : decode cX3_left 8 = .ok (.isub, 1) := dk_100 (dk_at dksX3_left_0 8 rfl rfl)
theorem dX3_left_9 : decode cX3_left 9 = .ok (.invokestatic 179, 3) := dk_184 0 179 (dk_at dksX3_left_0 9 rfl rfl)
theorem dX3_left_12 : decode cX3_left 12 = .ok (.ifCond .eq 7, 3) := dk_153 0 7 (dk_at dksX3_left_0 12 rfl rfl)
theorem dX3_left_15 : decode cX3_left 15 = .ok (.iconst 0, 1) := dk_3 (dk_at dksX3_left_0 15 rfl rfl)
theorem dX3_left_16 : decode cX3_left 16 = .ok (.goto 4, 3) := dk_167 0 4 (dk_at dksX3_left_0 16 rfl rfl)
theorem dX3_left_19 : decode cX3_left 19 = .ok (.iconst 1, 1) := dk_4 (dk_at dksX3_left_0 19 rfl rfl)
theorem dX3_left_20 : decode cX3_left 20 = .ok (.putfield 175, 3) := dk_181 0 175 (dk_at dksX3_left_0 20 rfl rfl)
theorem dX3_left_23 : decode cX3_left 23 = .ok (.aload_n 0, 1) := dk_42 (dk_at dksX3_left_0 23 rfl rfl)
theorem dX3_left_24 : decode cX3_left 24 = .ok (.getfield 175, 3) := dk_180 0 175 (dk_at dksX3_left_1 0 rfl rfl)
theorem dX3_left_27 : decode cX3_left 27 = .ok (.ifCond .ne 12, 3) := dk_154 0 12 (dk_at dksX3_left_1 3 rfl rfl)
theorem dX3_left_30 : decode cX3_left 30 = .ok (.aload_n 0, 1) := dk_42 (dk_at dksX3_left_1 6 rfl rfl)
theorem dX3_left_31 : decode cX3_left 31 = .ok (.getfield 103, 3) := dk_180 0 103 (dk_at dksX3_left_1 7 rfl rfl)
theorem dX3_left_34 : decode cX3_left 34 = .ok (.iload_n 1, 1) := dk_27 (dk_at dksX3_left_1 10 rfl rfl)
theorem dX3_left_35 : decode cX3_left 35 = .ok (.iaload, 1) := dk_46 (dk_at dksX3_left_1 11 rfl rfl)
theorem dX3_left_36 : decode cX3_left 36 = .ok (.goto 4, 3) := dk_167 0 4 (dk_at dksX3_left_1 12 rfl rfl)
theorem dX3_left_39 : decode cX3_left 39 = .ok (.iconst 0, 1) := dk_3 (dk_at dksX3_left_1 15 rfl rfl)
theorem dX3_left_40 : decode cX3_left 40 = .ok (.ireturn, 1) := dk_172 (dk_at dksX3_left_1 16 rfl rfl)
abbrev cX3_plan : ByteArray := prog_15_method_66_code
def yX3_plan : MethodName := ⟨RX3, "plan", "(IIII)I"⟩
def dkwX3_plan_2 : List UInt8 := [154, 0, 19, 42, 180, 0, 133, 27, 28, 29, 21, 4, 184, 1, 51, 46, 167, 0, 4, 3, 172]
abbrev dktX3_plan_2 : List UInt8 := dkwX3_plan_2 ++ []
def dkwX3_plan_1 : List UInt8 := [153, 0, 11, 21, 4, 184, 0, 198, 154, 0, 7, 4, 167, 0, 4, 3, 181, 0, 175, 42, 180, 0, 175]
abbrev dktX3_plan_1 : List UInt8 := dkwX3_plan_1 ++ dktX3_plan_2
def dkwX3_plan_0 : List UInt8 := [42, 27, 3, 42, 180, 0, 183, 184, 0, 179, 153, 0, 25, 28, 184, 0, 186, 153, 0, 18, 29, 184, 0, 195]
abbrev dktX3_plan_0 : List UInt8 := dkwX3_plan_0 ++ dktX3_plan_1
theorem dksX3_plan_0 : cX3_plan.data.toList.drop 0 = dktX3_plan_0 := by decide +kernel
theorem dksX3_plan_1 : cX3_plan.data.toList.drop 24 = dktX3_plan_1 := dk_seg dksX3_plan_0 24 rfl rfl
theorem dksX3_plan_2 : cX3_plan.data.toList.drop 47 = dktX3_plan_2 := dk_seg dksX3_plan_1 23 rfl rfl
theorem dX3_plan_0 : decode cX3_plan 0 = .ok (.aload_n 0, 1) := dk_42 (dk_at dksX3_plan_0 0 rfl rfl)
theorem dX3_plan_1 : decode cX3_plan 1 = .ok (.iload_n 1, 1) := dk_27 (dk_at dksX3_plan_0 1 rfl rfl)
theorem dX3_plan_2 : decode cX3_plan 2 = .ok (.iconst 0, 1) := dk_3 (dk_at dksX3_plan_0 2 rfl rfl)
theorem dX3_plan_3 : decode cX3_plan 3 = .ok (.aload_n 0, 1) := dk_42 (dk_at dksX3_plan_0 3 rfl rfl)
theorem dX3_plan_4 : decode cX3_plan 4 = .ok (.getfield 183, 3) := dk_180 0 183 (dk_at dksX3_plan_0 4 rfl rfl)
theorem dX3_plan_7 : decode cX3_plan 7 = .ok (.invokestatic 179, 3) := dk_184 0 179 (dk_at dksX3_plan_0 7 rfl rfl)
theorem dX3_plan_10 : decode cX3_plan 10 = .ok (.ifCond .eq 25, 3) := dk_153 0 25 (dk_at dksX3_plan_0 10 rfl rfl)
theorem dX3_plan_13 : decode cX3_plan 13 = .ok (.iload_n 2, 1) := dk_28 (dk_at dksX3_plan_0 13 rfl rfl)
theorem dX3_plan_14 : decode cX3_plan 14 = .ok (.invokestatic 186, 3) := dk_184 0 186 (dk_at dksX3_plan_0 14 rfl rfl)
theorem dX3_plan_17 : decode cX3_plan 17 = .ok (.ifCond .eq 18, 3) := dk_153 0 18 (dk_at dksX3_plan_0 17 rfl rfl)
theorem dX3_plan_20 : decode cX3_plan 20 = .ok (.iload_n 3, 1) := dk_29 (dk_at dksX3_plan_0 20 rfl rfl)
theorem dX3_plan_21 : decode cX3_plan 21 = .ok (.invokestatic 195, 3) := dk_184 0 195 (dk_at dksX3_plan_0 21 rfl rfl)
theorem dX3_plan_24 : decode cX3_plan 24 = .ok (.ifCond .eq 11, 3) := dk_153 0 11 (dk_at dksX3_plan_1 0 rfl rfl)
theorem dX3_plan_27 : decode cX3_plan 27 = .ok (.iload 4, 2) := dk_21 4 (dk_at dksX3_plan_1 3 rfl rfl)
theorem dX3_plan_29 : decode cX3_plan 29 = .ok (.invokestatic 198, 3) := dk_184 0 198 (dk_at dksX3_plan_1 5 rfl rfl)
theorem dX3_plan_32 : decode cX3_plan 32 = .ok (.ifCond .ne 7, 3) := dk_154 0 7 (dk_at dksX3_plan_1 8 rfl rfl)
theorem dX3_plan_35 : decode cX3_plan 35 = .ok (.iconst 1, 1) := dk_4 (dk_at dksX3_plan_1 11 rfl rfl)
theorem dX3_plan_36 : decode cX3_plan 36 = .ok (.goto 4, 3) := dk_167 0 4 (dk_at dksX3_plan_1 12 rfl rfl)
theorem dX3_plan_39 : decode cX3_plan 39 = .ok (.iconst 0, 1) := dk_3 (dk_at dksX3_plan_1 15 rfl rfl)
theorem dX3_plan_40 : decode cX3_plan 40 = .ok (.putfield 175, 3) := dk_181 0 175 (dk_at dksX3_plan_1 16 rfl rfl)
theorem dX3_plan_43 : decode cX3_plan 43 = .ok (.aload_n 0, 1) := dk_42 (dk_at dksX3_plan_1 19 rfl rfl)
theorem dX3_plan_44 : decode cX3_plan 44 = .ok (.getfield 175, 3) := dk_180 0 175 (dk_at dksX3_plan_1 20 rfl rfl)
theorem dX3_plan_47 : decode cX3_plan 47 = .ok (.ifCond .ne 19, 3) := dk_154 0 19 (dk_at dksX3_plan_2 0 rfl rfl)
theorem dX3_plan_50 : decode cX3_plan 50 = .ok (.aload_n 0, 1) := dk_42 (dk_at dksX3_plan_2 3 rfl rfl)
theorem dX3_plan_51 : decode cX3_plan 51 = .ok (.getfield 133, 3) := dk_180 0 133 (dk_at dksX3_plan_2 4 rfl rfl)
theorem dX3_plan_54 : decode cX3_plan 54 = .ok (.iload_n 1, 1) := dk_27 (dk_at dksX3_plan_2 7 rfl rfl)
theorem dX3_plan_55 : decode cX3_plan 55 = .ok (.iload_n 2, 1) := dk_28 (dk_at dksX3_plan_2 8 rfl rfl)
theorem dX3_plan_56 : decode cX3_plan 56 = .ok (.iload_n 3, 1) := dk_29 (dk_at dksX3_plan_2 9 rfl rfl)
theorem dX3_plan_57 : decode cX3_plan 57 = .ok (.iload 4, 2) := dk_21 4 (dk_at dksX3_plan_2 10 rfl rfl)
theorem dX3_plan_59 : decode cX3_plan 59 = .ok (.invokestatic 307, 3) := dk_184 1 51 (dk_at dksX3_plan_2 12 rfl rfl)
theorem dX3_plan_62 : decode cX3_plan 62 = .ok (.iaload, 1) := dk_46 (dk_at dksX3_plan_2 15 rfl rfl)
theorem dX3_plan_63 : decode cX3_plan 63 = .ok (.goto 4, 3) := dk_167 0 4 (dk_at dksX3_plan_2 16 rfl rfl)
theorem dX3_plan_66 : decode cX3_plan 66 = .ok (.iconst 0, 1) := dk_3 (dk_at dksX3_plan_2 19 rfl rfl)
theorem dX3_plan_67 : decode cX3_plan 67 = .ok (.ireturn, 1) := dk_172 (dk_at dksX3_plan_2 20 rfl rfl)
abbrev cX3_gap : ByteArray := prog_15_method_67_code
def yX3_gap : MethodName := ⟨RX3, "gap", "(II)I"⟩
def dkwX3_gap_1 : List UInt8 := [42, 180, 0, 175, 154, 0, 12, 42, 27, 28, 182, 1, 60, 167, 0, 4, 3, 172]
abbrev dktX3_gap_1 : List UInt8 := dkwX3_gap_1 ++ []
def dkwX3_gap_0 : List UInt8 := [42, 42, 27, 182, 1, 54, 153, 0, 14, 28, 184, 0, 198, 153, 0, 7, 3, 167, 0, 4, 4, 181, 0, 175]
abbrev dktX3_gap_0 : List UInt8 := dkwX3_gap_0 ++ dktX3_gap_1
theorem dksX3_gap_0 : cX3_gap.data.toList.drop 0 = dktX3_gap_0 := by decide +kernel
theorem dksX3_gap_1 : cX3_gap.data.toList.drop 24 = dktX3_gap_1 := dk_seg dksX3_gap_0 24 rfl rfl
theorem dX3_gap_0 : decode cX3_gap 0 = .ok (.aload_n 0, 1) := dk_42 (dk_at dksX3_gap_0 0 rfl rfl)
theorem dX3_gap_1 : decode cX3_gap 1 = .ok (.aload_n 0, 1) := dk_42 (dk_at dksX3_gap_0 1 rfl rfl)
theorem dX3_gap_2 : decode cX3_gap 2 = .ok (.iload_n 1, 1) := dk_27 (dk_at dksX3_gap_0 2 rfl rfl)
theorem dX3_gap_3 : decode cX3_gap 3 = .ok (.invokevirtual 310, 3) := dk_182 1 54 (dk_at dksX3_gap_0 3 rfl rfl)
theorem dX3_gap_6 : decode cX3_gap 6 = .ok (.ifCond .eq 14, 3) := dk_153 0 14 (dk_at dksX3_gap_0 6 rfl rfl)
theorem dX3_gap_9 : decode cX3_gap 9 = .ok (.iload_n 2, 1) := dk_28 (dk_at dksX3_gap_0 9 rfl rfl)
theorem dX3_gap_10 : decode cX3_gap 10 = .ok (.invokestatic 198, 3) := dk_184 0 198 (dk_at dksX3_gap_0 10 rfl rfl)
theorem dX3_gap_13 : decode cX3_gap 13 = .ok (.ifCond .eq 7, 3) := dk_153 0 7 (dk_at dksX3_gap_0 13 rfl rfl)
theorem dX3_gap_16 : decode cX3_gap 16 = .ok (.iconst 0, 1) := dk_3 (dk_at dksX3_gap_0 16 rfl rfl)
theorem dX3_gap_17 : decode cX3_gap 17 = .ok (.goto 4, 3) := dk_167 0 4 (dk_at dksX3_gap_0 17 rfl rfl)
theorem dX3_gap_20 : decode cX3_gap 20 = .ok (.iconst 1, 1) := dk_4 (dk_at dksX3_gap_0 20 rfl rfl)
theorem dX3_gap_21 : decode cX3_gap 21 = .ok (.putfield 175, 3) := dk_181 0 175 (dk_at dksX3_gap_0 21 rfl rfl)
theorem dX3_gap_24 : decode cX3_gap 24 = .ok (.aload_n 0, 1) := dk_42 (dk_at dksX3_gap_1 0 rfl rfl)
theorem dX3_gap_25 : decode cX3_gap 25 = .ok (.getfield 175, 3) := dk_180 0 175 (dk_at dksX3_gap_1 1 rfl rfl)
theorem dX3_gap_28 : decode cX3_gap 28 = .ok (.ifCond .ne 12, 3) := dk_154 0 12 (dk_at dksX3_gap_1 4 rfl rfl)
theorem dX3_gap_31 : decode cX3_gap 31 = .ok (.aload_n 0, 1) := dk_42 (dk_at dksX3_gap_1 7 rfl rfl)
theorem dX3_gap_32 : decode cX3_gap 32 = .ok (.iload_n 1, 1) := dk_27 (dk_at dksX3_gap_1 8 rfl rfl)
theorem dX3_gap_33 : decode cX3_gap 33 = .ok (.iload_n 2, 1) := dk_28 (dk_at dksX3_gap_1 9 rfl rfl)
theorem dX3_gap_34 : decode cX3_gap 34 = .ok (.invokevirtual 316, 3) := dk_182 1 60 (dk_at dksX3_gap_1 10 rfl rfl)
theorem dX3_gap_37 : decode cX3_gap 37 = .ok (.goto 4, 3) := dk_167 0 4 (dk_at dksX3_gap_1 13 rfl rfl)
theorem dX3_gap_40 : decode cX3_gap 40 = .ok (.iconst 0, 1) := dk_3 (dk_at dksX3_gap_1 16 rfl rfl)
theorem dX3_gap_41 : decode cX3_gap 41 = .ok (.ireturn, 1) := dk_172 (dk_at dksX3_gap_1 17 rfl rfl)
abbrev cX3_gapPrice : ByteArray := prog_15_method_68_code
def yX3_gapPrice : MethodName := ⟨RX3, "gapPrice", "(II)I"⟩
def dkwX3_gapPrice_1 : List UInt8 := [42, 180, 0, 175, 154, 0, 12, 42, 27, 28, 182, 1, 69, 167, 0, 4, 3, 172]
abbrev dktX3_gapPrice_1 : List UInt8 := dkwX3_gapPrice_1 ++ []
def dkwX3_gapPrice_0 : List UInt8 := [42, 42, 27, 182, 1, 54, 153, 0, 14, 28, 184, 0, 198, 153, 0, 7, 3, 167, 0, 4, 4, 181, 0, 175]
abbrev dktX3_gapPrice_0 : List UInt8 := dkwX3_gapPrice_0 ++ dktX3_gapPrice_1
theorem dksX3_gapPrice_0 : cX3_gapPrice.data.toList.drop 0 = dktX3_gapPrice_0 := by decide +kernel
theorem dksX3_gapPrice_1 : cX3_gapPrice.data.toList.drop 24 = dktX3_gapPrice_1 := dk_seg dksX3_gapPrice_0 24 rfl rfl
theorem dX3_gapPrice_0 : decode cX3_gapPrice 0 = .ok (.aload_n 0, 1) := dk_42 (dk_at dksX3_gapPrice_0 0 rfl rfl)
theorem dX3_gapPrice_1 : decode cX3_gapPrice 1 = .ok (.aload_n 0, 1) := dk_42 (dk_at dksX3_gapPrice_0 1 rfl rfl)
theorem dX3_gapPrice_2 : decode cX3_gapPrice 2 = .ok (.iload_n 1, 1) := dk_27 (dk_at dksX3_gapPrice_0 2 rfl rfl)
theorem dX3_gapPrice_3 : decode cX3_gapPrice 3 = .ok (.invokevirtual 310, 3) := dk_182 1 54 (dk_at dksX3_gapPrice_0 3 rfl rfl)
theorem dX3_gapPrice_6 : decode cX3_gapPrice 6 = .ok (.ifCond .eq 14, 3) := dk_153 0 14 (dk_at dksX3_gapPrice_0 6 rfl rfl)
theorem dX3_gapPrice_9 : decode cX3_gapPrice 9 = .ok (.iload_n 2, 1) := dk_28 (dk_at dksX3_gapPrice_0 9 rfl rfl)
theorem dX3_gapPrice_10 : decode cX3_gapPrice 10 = .ok (.invokestatic 198, 3) := dk_184 0 198 (dk_at dksX3_gapPrice_0 10 rfl rfl)
theorem dX3_gapPrice_13 : decode cX3_gapPrice 13 = .ok (.ifCond .eq 7, 3) := dk_153 0 7 (dk_at dksX3_gapPrice_0 13 rfl rfl)
theorem dX3_gapPrice_16 : decode cX3_gapPrice 16 = .ok (.iconst 0, 1) := dk_3 (dk_at dksX3_gapPrice_0 16 rfl rfl)
theorem dX3_gapPrice_17 : decode cX3_gapPrice 17 = .ok (.goto 4, 3) := dk_167 0 4 (dk_at dksX3_gapPrice_0 17 rfl rfl)
theorem dX3_gapPrice_20 : decode cX3_gapPrice 20 = .ok (.iconst 1, 1) := dk_4 (dk_at dksX3_gapPrice_0 20 rfl rfl)
theorem dX3_gapPrice_21 : decode cX3_gapPrice 21 = .ok (.putfield 175, 3) := dk_181 0 175 (dk_at dksX3_gapPrice_0 21 rfl rfl)
theorem dX3_gapPrice_24 : decode cX3_gapPrice 24 = .ok (.aload_n 0, 1) := dk_42 (dk_at dksX3_gapPrice_1 0 rfl rfl)
theorem dX3_gapPrice_25 : decode cX3_gapPrice 25 = .ok (.getfield 175, 3) := dk_180 0 175 (dk_at dksX3_gapPrice_1 1 rfl rfl)
theorem dX3_gapPrice_28 : decode cX3_gapPrice 28 = .ok (.ifCond .ne 12, 3) := dk_154 0 12 (dk_at dksX3_gapPrice_1 4 rfl rfl)
theorem dX3_gapPrice_31 : decode cX3_gapPrice 31 = .ok (.aload_n 0, 1) := dk_42 (dk_at dksX3_gapPrice_1 7 rfl rfl)
theorem dX3_gapPrice_32 : decode cX3_gapPrice 32 = .ok (.iload_n 1, 1) := dk_27 (dk_at dksX3_gapPrice_1 8 rfl rfl)
theorem dX3_gapPrice_33 : decode cX3_gapPrice 33 = .ok (.iload_n 2, 1) := dk_28 (dk_at dksX3_gapPrice_1 9 rfl rfl)
theorem dX3_gapPrice_34 : decode cX3_gapPrice 34 = .ok (.invokevirtual 325, 3) := dk_182 1 69 (dk_at dksX3_gapPrice_1 10 rfl rfl)
theorem dX3_gapPrice_37 : decode cX3_gapPrice 37 = .ok (.goto 4, 3) := dk_167 0 4 (dk_at dksX3_gapPrice_1 13 rfl rfl)
theorem dX3_gapPrice_40 : decode cX3_gapPrice 40 = .ok (.iconst 0, 1) := dk_3 (dk_at dksX3_gapPrice_1 16 rfl rfl)
theorem dX3_gapPrice_41 : decode cX3_gapPrice 41 = .ok (.ireturn, 1) := dk_172 (dk_at dksX3_gapPrice_1 17 rfl rfl)
abbrev cX3_bill : ByteArray := prog_15_method_70_code
def yX3_bill : MethodName := ⟨RX3, "bill", "(II)I"⟩
def dkwX3_bill_0 : List UInt8 := [42, 27, 28, 182, 1, 92, 153, 0, 12, 42, 27, 28, 182, 1, 78, 167, 0, 4, 3, 172]
abbrev dktX3_bill_0 : List UInt8 := dkwX3_bill_0 ++ []
theorem dksX3_bill_0 : cX3_bill.data.toList.drop 0 = dktX3_bill_0 := by decide +kernel
theorem dX3_bill_0 : decode cX3_bill 0 = .ok (.aload_n 0, 1) := dk_42 (dk_at dksX3_bill_0 0 rfl rfl)
theorem dX3_bill_1 : decode cX3_bill 1 = .ok (.iload_n 1, 1) := dk_27 (dk_at dksX3_bill_0 1 rfl rfl)
theorem dX3_bill_2 : decode cX3_bill 2 = .ok (.iload_n 2, 1) := dk_28 (dk_at dksX3_bill_0 2 rfl rfl)
theorem dX3_bill_3 : decode cX3_bill 3 = .ok (.invokevirtual 348, 3) := dk_182 1 92 (dk_at dksX3_bill_0 3 rfl rfl)
theorem dX3_bill_6 : decode cX3_bill 6 = .ok (.ifCond .eq 12, 3) := dk_153 0 12 (dk_at dksX3_bill_0 6 rfl rfl)
theorem dX3_bill_9 : decode cX3_bill 9 = .ok (.aload_n 0, 1) := dk_42 (dk_at dksX3_bill_0 9 rfl rfl)
theorem dX3_bill_10 : decode cX3_bill 10 = .ok (.iload_n 1, 1) := dk_27 (dk_at dksX3_bill_0 10 rfl rfl)
theorem dX3_bill_11 : decode cX3_bill 11 = .ok (.iload_n 2, 1) := dk_28 (dk_at dksX3_bill_0 11 rfl rfl)
theorem dX3_bill_12 : decode cX3_bill 12 = .ok (.invokevirtual 334, 3) := dk_182 1 78 (dk_at dksX3_bill_0 12 rfl rfl)
theorem dX3_bill_15 : decode cX3_bill 15 = .ok (.goto 4, 3) := dk_167 0 4 (dk_at dksX3_bill_0 15 rfl rfl)
theorem dX3_bill_18 : decode cX3_bill 18 = .ok (.iconst 0, 1) := dk_3 (dk_at dksX3_bill_0 18 rfl rfl)
theorem dX3_bill_19 : decode cX3_bill 19 = .ok (.ireturn, 1) := dk_172 (dk_at dksX3_bill_0 19 rfl rfl)
abbrev cX3_isBill : ByteArray := prog_15_method_69_code
def yX3_isBill : MethodName := ⟨RX3, "isBill", "(II)Z"⟩
def dkwX3_isBill_1 : List UInt8 := [42, 180, 0, 175, 154, 0, 7, 4, 167, 0, 4, 3, 172]
abbrev dktX3_isBill_1 : List UInt8 := dkwX3_isBill_1 ++ []
def dkwX3_isBill_0 : List UInt8 := [42, 42, 27, 182, 1, 54, 153, 0, 14, 28, 184, 0, 186, 153, 0, 7, 3, 167, 0, 4, 4, 181, 0, 175]
abbrev dktX3_isBill_0 : List UInt8 := dkwX3_isBill_0 ++ dktX3_isBill_1
theorem dksX3_isBill_0 : cX3_isBill.data.toList.drop 0 = dktX3_isBill_0 := by decide +kernel
theorem dksX3_isBill_1 : cX3_isBill.data.toList.drop 24 = dktX3_isBill_1 := dk_seg dksX3_isBill_0 24 rfl rfl
theorem dX3_isBill_0 : decode cX3_isBill 0 = .ok (.aload_n 0, 1) := dk_42 (dk_at dksX3_isBill_0 0 rfl rfl)
theorem dX3_isBill_1 : decode cX3_isBill 1 = .ok (.aload_n 0, 1) := dk_42 (dk_at dksX3_isBill_0 1 rfl rfl)
theorem dX3_isBill_2 : decode cX3_isBill 2 = .ok (.iload_n 1, 1) := dk_27 (dk_at dksX3_isBill_0 2 rfl rfl)
theorem dX3_isBill_3 : decode cX3_isBill 3 = .ok (.invokevirtual 310, 3) := dk_182 1 54 (dk_at dksX3_isBill_0 3 rfl rfl)
theorem dX3_isBill_6 : decode cX3_isBill 6 = .ok (.ifCond .eq 14, 3) := dk_153 0 14 (dk_at dksX3_isBill_0 6 rfl rfl)
theorem dX3_isBill_9 : decode cX3_isBill 9 = .ok (.iload_n 2, 1) := dk_28 (dk_at dksX3_isBill_0 9 rfl rfl)
theorem dX3_isBill_10 : decode cX3_isBill 10 = .ok (.invokestatic 186, 3) := dk_184 0 186 (dk_at dksX3_isBill_0 10 rfl rfl)
theorem dX3_isBill_13 : decode cX3_isBill 13 = .ok (.ifCond .eq 7, 3) := dk_153 0 7 (dk_at dksX3_isBill_0 13 rfl rfl)
theorem dX3_isBill_16 : decode cX3_isBill 16 = .ok (.iconst 0, 1) := dk_3 (dk_at dksX3_isBill_0 16 rfl rfl)
theorem dX3_isBill_17 : decode cX3_isBill 17 = .ok (.goto 4, 3) := dk_167 0 4 (dk_at dksX3_isBill_0 17 rfl rfl)
theorem dX3_isBill_20 : decode cX3_isBill 20 = .ok (.iconst 1, 1) := dk_4 (dk_at dksX3_isBill_0 20 rfl rfl)
theorem dX3_isBill_21 : decode cX3_isBill 21 = .ok (.putfield 175, 3) := dk_181 0 175 (dk_at dksX3_isBill_0 21 rfl rfl)
theorem dX3_isBill_24 : decode cX3_isBill 24 = .ok (.aload_n 0, 1) := dk_42 (dk_at dksX3_isBill_1 0 rfl rfl)
theorem dX3_isBill_25 : decode cX3_isBill 25 = .ok (.getfield 175, 3) := dk_180 0 175 (dk_at dksX3_isBill_1 1 rfl rfl)
theorem dX3_isBill_28 : decode cX3_isBill 28 = .ok (.ifCond .ne 7, 3) := dk_154 0 7 (dk_at dksX3_isBill_1 4 rfl rfl)
theorem dX3_isBill_31 : decode cX3_isBill 31 = .ok (.iconst 1, 1) := dk_4 (dk_at dksX3_isBill_1 7 rfl rfl)
theorem dX3_isBill_32 : decode cX3_isBill 32 = .ok (.goto 4, 3) := dk_167 0 4 (dk_at dksX3_isBill_1 8 rfl rfl)
theorem dX3_isBill_35 : decode cX3_isBill 35 = .ok (.iconst 0, 1) := dk_3 (dk_at dksX3_isBill_1 11 rfl rfl)
theorem dX3_isBill_36 : decode cX3_isBill 36 = .ok (.ireturn, 1) := dk_172 (dk_at dksX3_isBill_1 12 rfl rfl)
abbrev cX3_settled : ByteArray := prog_15_method_71_code
def yX3_settled : MethodName := ⟨RX3, "settled", "(II)I"⟩
def dkwX3_settled_1 : List UInt8 := [172]
abbrev dktX3_settled_1 : List UInt8 := dkwX3_settled_1 ++ []
def dkwX3_settled_0 : List UInt8 := [42, 27, 28, 182, 1, 92, 153, 0, 17, 42, 180, 0, 145, 16, 6, 27, 104, 28, 96, 46, 167, 0, 4, 3]
abbrev dktX3_settled_0 : List UInt8 := dkwX3_settled_0 ++ dktX3_settled_1
theorem dksX3_settled_0 : cX3_settled.data.toList.drop 0 = dktX3_settled_0 := by decide +kernel
theorem dksX3_settled_1 : cX3_settled.data.toList.drop 24 = dktX3_settled_1 := dk_seg dksX3_settled_0 24 rfl rfl
theorem dX3_settled_0 : decode cX3_settled 0 = .ok (.aload_n 0, 1) := dk_42 (dk_at dksX3_settled_0 0 rfl rfl)
theorem dX3_settled_1 : decode cX3_settled 1 = .ok (.iload_n 1, 1) := dk_27 (dk_at dksX3_settled_0 1 rfl rfl)
theorem dX3_settled_2 : decode cX3_settled 2 = .ok (.iload_n 2, 1) := dk_28 (dk_at dksX3_settled_0 2 rfl rfl)
theorem dX3_settled_3 : decode cX3_settled 3 = .ok (.invokevirtual 348, 3) := dk_182 1 92 (dk_at dksX3_settled_0 3 rfl rfl)
theorem dX3_settled_6 : decode cX3_settled 6 = .ok (.ifCond .eq 17, 3) := dk_153 0 17 (dk_at dksX3_settled_0 6 rfl rfl)
theorem dX3_settled_9 : decode cX3_settled 9 = .ok (.aload_n 0, 1) := dk_42 (dk_at dksX3_settled_0 9 rfl rfl)
theorem dX3_settled_10 : decode cX3_settled 10 = .ok (.getfield 145, 3) := dk_180 0 145 (dk_at dksX3_settled_0 10 rfl rfl)
theorem dX3_settled_13 : decode cX3_settled 13 = .ok (.bipush 6, 2) := dk_16 6 (dk_at dksX3_settled_0 13 rfl rfl)
theorem dX3_settled_15 : decode cX3_settled 15 = .ok (.iload_n 1, 1) := dk_27 (dk_at dksX3_settled_0 15 rfl rfl)
theorem dX3_settled_16 : decode cX3_settled 16 = .ok (.imul, 1) := dk_104 (dk_at dksX3_settled_0 16 rfl rfl)
theorem dX3_settled_17 : decode cX3_settled 17 = .ok (.iload_n 2, 1) := dk_28 (dk_at dksX3_settled_0 17 rfl rfl)
theorem dX3_settled_18 : decode cX3_settled 18 = .ok (.iadd, 1) := dk_96 (dk_at dksX3_settled_0 18 rfl rfl)
theorem dX3_settled_19 : decode cX3_settled 19 = .ok (.iaload, 1) := dk_46 (dk_at dksX3_settled_0 19 rfl rfl)
theorem dX3_settled_20 : decode cX3_settled 20 = .ok (.goto 4, 3) := dk_167 0 4 (dk_at dksX3_settled_0 20 rfl rfl)
theorem dX3_settled_23 : decode cX3_settled 23 = .ok (.iconst 0, 1) := dk_3 (dk_at dksX3_settled_0 23 rfl rfl)
theorem dX3_settled_24 : decode cX3_settled 24 = .ok (.ireturn, 1) := dk_172 (dk_at dksX3_settled_1 0 rfl rfl)
abbrev cX3_account : ByteArray := prog_15_method_72_code
def yX3_account : MethodName := ⟨RX3, "account", "(I)I"⟩
def dkwX3_account_1 : List UInt8 := [180, 0, 13, 27, 46, 167, 0, 4, 3, 172]
abbrev dktX3_account_1 : List UInt8 := dkwX3_account_1 ++ []
def dkwX3_account_0 : List UInt8 := [42, 27, 184, 0, 186, 153, 0, 7, 3, 167, 0, 4, 4, 181, 0, 175, 42, 180, 0, 175, 154, 0, 12, 42]
abbrev dktX3_account_0 : List UInt8 := dkwX3_account_0 ++ dktX3_account_1
theorem dksX3_account_0 : cX3_account.data.toList.drop 0 = dktX3_account_0 := by decide +kernel
theorem dksX3_account_1 : cX3_account.data.toList.drop 24 = dktX3_account_1 := dk_seg dksX3_account_0 24 rfl rfl
theorem dX3_account_0 : decode cX3_account 0 = .ok (.aload_n 0, 1) := dk_42 (dk_at dksX3_account_0 0 rfl rfl)
theorem dX3_account_1 : decode cX3_account 1 = .ok (.iload_n 1, 1) := dk_27 (dk_at dksX3_account_0 1 rfl rfl)
theorem dX3_account_2 : decode cX3_account 2 = .ok (.invokestatic 186, 3) := dk_184 0 186 (dk_at dksX3_account_0 2 rfl rfl)
theorem dX3_account_5 : decode cX3_account 5 = .ok (.ifCond .eq 7, 3) := dk_153 0 7 (dk_at dksX3_account_0 5 rfl rfl)
theorem dX3_account_8 : decode cX3_account 8 = .ok (.iconst 0, 1) := dk_3 (dk_at dksX3_account_0 8 rfl rfl)
theorem dX3_account_9 : decode cX3_account 9 = .ok (.goto 4, 3) := dk_167 0 4 (dk_at dksX3_account_0 9 rfl rfl)
theorem dX3_account_12 : decode cX3_account 12 = .ok (.iconst 1, 1) := dk_4 (dk_at dksX3_account_0 12 rfl rfl)
theorem dX3_account_13 : decode cX3_account 13 = .ok (.putfield 175, 3) := dk_181 0 175 (dk_at dksX3_account_0 13 rfl rfl)
theorem dX3_account_16 : decode cX3_account 16 = .ok (.aload_n 0, 1) := dk_42 (dk_at dksX3_account_0 16 rfl rfl)
theorem dX3_account_17 : decode cX3_account 17 = .ok (.getfield 175, 3) := dk_180 0 175 (dk_at dksX3_account_0 17 rfl rfl)
theorem dX3_account_20 : decode cX3_account 20 = .ok (.ifCond .ne 12, 3) := dk_154 0 12 (dk_at dksX3_account_0 20 rfl rfl)
theorem dX3_account_23 : decode cX3_account 23 = .ok (.aload_n 0, 1) := dk_42 (dk_at dksX3_account_0 23 rfl rfl)
theorem dX3_account_24 : decode cX3_account 24 = .ok (.getfield 13, 3) := dk_180 0 13 (dk_at dksX3_account_1 0 rfl rfl)
theorem dX3_account_27 : decode cX3_account 27 = .ok (.iload_n 1, 1) := dk_27 (dk_at dksX3_account_1 3 rfl rfl)
theorem dX3_account_28 : decode cX3_account 28 = .ok (.iaload, 1) := dk_46 (dk_at dksX3_account_1 4 rfl rfl)
theorem dX3_account_29 : decode cX3_account 29 = .ok (.goto 4, 3) := dk_167 0 4 (dk_at dksX3_account_1 5 rfl rfl)
theorem dX3_account_32 : decode cX3_account 32 = .ok (.iconst 0, 1) := dk_3 (dk_at dksX3_account_1 8 rfl rfl)
theorem dX3_account_33 : decode cX3_account 33 = .ok (.ireturn, 1) := dk_172 (dk_at dksX3_account_1 9 rfl rfl)
abbrev cX3_hasFailed : ByteArray := prog_15_method_73_code
def yX3_hasFailed : MethodName := ⟨RX3, "hasFailed", "(I)Z"⟩
def dkwX3_hasFailed_1 : List UInt8 := [180, 0, 19, 27, 46, 4, 160, 0, 7, 4, 167, 0, 4, 3, 172]
abbrev dktX3_hasFailed_1 : List UInt8 := dkwX3_hasFailed_1 ++ []
def dkwX3_hasFailed_0 : List UInt8 := [42, 27, 184, 0, 186, 153, 0, 7, 3, 167, 0, 4, 4, 181, 0, 175, 42, 180, 0, 175, 154, 0, 17, 42]
abbrev dktX3_hasFailed_0 : List UInt8 := dkwX3_hasFailed_0 ++ dktX3_hasFailed_1
theorem dksX3_hasFailed_0 : cX3_hasFailed.data.toList.drop 0 = dktX3_hasFailed_0 := by decide +kernel
theorem dksX3_hasFailed_1 : cX3_hasFailed.data.toList.drop 24 = dktX3_hasFailed_1 := dk_seg dksX3_hasFailed_0 24 rfl rfl
theorem dX3_hasFailed_0 : decode cX3_hasFailed 0 = .ok (.aload_n 0, 1) := dk_42 (dk_at dksX3_hasFailed_0 0 rfl rfl)
theorem dX3_hasFailed_1 : decode cX3_hasFailed 1 = .ok (.iload_n 1, 1) := dk_27 (dk_at dksX3_hasFailed_0 1 rfl rfl)
theorem dX3_hasFailed_2 : decode cX3_hasFailed 2 = .ok (.invokestatic 186, 3) := dk_184 0 186 (dk_at dksX3_hasFailed_0 2 rfl rfl)
theorem dX3_hasFailed_5 : decode cX3_hasFailed 5 = .ok (.ifCond .eq 7, 3) := dk_153 0 7 (dk_at dksX3_hasFailed_0 5 rfl rfl)
theorem dX3_hasFailed_8 : decode cX3_hasFailed 8 = .ok (.iconst 0, 1) := dk_3 (dk_at dksX3_hasFailed_0 8 rfl rfl)
theorem dX3_hasFailed_9 : decode cX3_hasFailed 9 = .ok (.goto 4, 3) := dk_167 0 4 (dk_at dksX3_hasFailed_0 9 rfl rfl)
theorem dX3_hasFailed_12 : decode cX3_hasFailed 12 = .ok (.iconst 1, 1) := dk_4 (dk_at dksX3_hasFailed_0 12 rfl rfl)
theorem dX3_hasFailed_13 : decode cX3_hasFailed 13 = .ok (.putfield 175, 3) := dk_181 0 175 (dk_at dksX3_hasFailed_0 13 rfl rfl)
theorem dX3_hasFailed_16 : decode cX3_hasFailed 16 = .ok (.aload_n 0, 1) := dk_42 (dk_at dksX3_hasFailed_0 16 rfl rfl)
theorem dX3_hasFailed_17 : decode cX3_hasFailed 17 = .ok (.getfield 175, 3) := dk_180 0 175 (dk_at dksX3_hasFailed_0 17 rfl rfl)
theorem dX3_hasFailed_20 : decode cX3_hasFailed 20 = .ok (.ifCond .ne 17, 3) := dk_154 0 17 (dk_at dksX3_hasFailed_0 20 rfl rfl)
theorem dX3_hasFailed_23 : decode cX3_hasFailed 23 = .ok (.aload_n 0, 1) := dk_42 (dk_at dksX3_hasFailed_0 23 rfl rfl)
theorem dX3_hasFailed_24 : decode cX3_hasFailed 24 = .ok (.getfield 19, 3) := dk_180 0 19 (dk_at dksX3_hasFailed_1 0 rfl rfl)
theorem dX3_hasFailed_27 : decode cX3_hasFailed 27 = .ok (.iload_n 1, 1) := dk_27 (dk_at dksX3_hasFailed_1 3 rfl rfl)
theorem dX3_hasFailed_28 : decode cX3_hasFailed 28 = .ok (.iaload, 1) := dk_46 (dk_at dksX3_hasFailed_1 4 rfl rfl)
theorem dX3_hasFailed_29 : decode cX3_hasFailed 29 = .ok (.iconst 1, 1) := dk_4 (dk_at dksX3_hasFailed_1 5 rfl rfl)
theorem dX3_hasFailed_30 : decode cX3_hasFailed 30 = .ok (.if_icmp .ne 7, 3) := dk_160 0 7 (dk_at dksX3_hasFailed_1 6 rfl rfl)
theorem dX3_hasFailed_33 : decode cX3_hasFailed 33 = .ok (.iconst 1, 1) := dk_4 (dk_at dksX3_hasFailed_1 9 rfl rfl)
theorem dX3_hasFailed_34 : decode cX3_hasFailed 34 = .ok (.goto 4, 3) := dk_167 0 4 (dk_at dksX3_hasFailed_1 10 rfl rfl)
theorem dX3_hasFailed_37 : decode cX3_hasFailed 37 = .ok (.iconst 0, 1) := dk_3 (dk_at dksX3_hasFailed_1 13 rfl rfl)
theorem dX3_hasFailed_38 : decode cX3_hasFailed 38 = .ok (.ireturn, 1) := dk_172 (dk_at dksX3_hasFailed_1 14 rfl rfl)
abbrev cX3_house : ByteArray := prog_15_method_74_code
def yX3_house : MethodName := ⟨RX3, "house", "()I"⟩
def dkwX3_house_0 : List UInt8 := [42, 3, 181, 0, 175, 42, 180, 1, 75, 172]
abbrev dktX3_house_0 : List UInt8 := dkwX3_house_0 ++ []
theorem dksX3_house_0 : cX3_house.data.toList.drop 0 = dktX3_house_0 := by decide +kernel
theorem dX3_house_0 : decode cX3_house 0 = .ok (.aload_n 0, 1) := dk_42 (dk_at dksX3_house_0 0 rfl rfl)
theorem dX3_house_1 : decode cX3_house 1 = .ok (.iconst 0, 1) := dk_3 (dk_at dksX3_house_0 1 rfl rfl)
theorem dX3_house_2 : decode cX3_house 2 = .ok (.putfield 175, 3) := dk_181 0 175 (dk_at dksX3_house_0 2 rfl rfl)
theorem dX3_house_5 : decode cX3_house 5 = .ok (.aload_n 0, 1) := dk_42 (dk_at dksX3_house_0 5 rfl rfl)
theorem dX3_house_6 : decode cX3_house 6 = .ok (.getfield 331, 3) := dk_180 1 75 (dk_at dksX3_house_0 6 rfl rfl)
theorem dX3_house_9 : decode cX3_house 9 = .ok (.ireturn, 1) := dk_172 (dk_at dksX3_house_0 9 rfl rfl)
theorem q60 : (Jvm.Cond.initialized "GridMarketModel") ∈ lw_all := lw_g (lw_at lw_m1 6 rfl) rfl
theorem q493 : (Jvm.Cond.selects "GridMarketModel" ({ cls := "java/lang/Object", name := "getClass", desc := "()Ljava/lang/Class;" } : Jvm.MethodName) ({ cls := "java/lang/Object", name := "getClass", desc := "()Ljava/lang/Class;" } : Jvm.MethodName)) ∈ lw_all := lw_g (lw_at lw_m2 199 rfl) rfl
theorem q1454 : (Jvm.Cond.instantiable "GridMarketModel" (68 : Nat)) ∈ lw_all := lw_g (lw_at lw_m6 200 rfl) rfl
theorem q1456 : (Jvm.Cond.instanceMethod ({ cls := "GridMarketModel", name := "<init>", desc := "()V" } : Jvm.MethodName)) ∈ lw_all := lw_g (lw_at lw_m6 202 rfl) rfl
theorem q1457 : (Jvm.Cond.code ({ cls := "GridMarketModel", name := "<init>", desc := "()V" } : Jvm.MethodName) prog_15_method_1_code (2 : Nat) (Option.none : Option Jvm.ClassFile.FieldType)) ∈ lw_all := lw_g (lw_at lw_m6 203 rfl) rfl
theorem q1458 : (Jvm.Cond.methodLink "GridMarketModel" (1 : Nat) ({ cls := "java/lang/Object", name := "<init>", desc := "()V" } : Jvm.MethodName)) ∈ lw_all := lw_g (lw_at lw_m6 204 rfl) rfl
theorem q1459 : (Jvm.Cond.fieldLink "GridMarketModel" (183 : Nat) "GridMarketModel" "day" "I") ∈ lw_all := lw_g (lw_at lw_m6 205 rfl) rfl
theorem q1460 : (Jvm.Cond.fieldLink "GridMarketModel" (192 : Nat) "GridMarketModel" "cleared" "I") ∈ lw_all := lw_g (lw_at lw_m6 206 rfl) rfl
theorem q1461 : (Jvm.Cond.fieldLink "GridMarketModel" (7 : Nat) "GridMarketModel" "limits" "[I") ∈ lw_all := lw_g (lw_at lw_m6 207 rfl) rfl
theorem q1462 : (Jvm.Cond.fieldLink "GridMarketModel" (13 : Nat) "GridMarketModel" "accounts" "[I") ∈ lw_all := lw_g (lw_at lw_m6 208 rfl) rfl
theorem q1463 : (Jvm.Cond.fieldLink "GridMarketModel" (16 : Nat) "GridMarketModel" "deposits" "[I") ∈ lw_all := lw_g (lw_at lw_m6 209 rfl) rfl
theorem q1464 : (Jvm.Cond.fieldLink "GridMarketModel" (19 : Nat) "GridMarketModel" "failed" "[I") ∈ lw_all := lw_g (lw_at lw_m6 210 rfl) rfl
theorem q1465 : (Jvm.Cond.fieldLink "GridMarketModel" (331 : Nat) "GridMarketModel" "house" "I") ∈ lw_all := lw_g (lw_at lw_m6 211 rfl) rfl
theorem q1466 : (Jvm.Cond.fieldLink "GridMarketModel" (201 : Nat) "GridMarketModel" "bids" "I") ∈ lw_all := lw_g (lw_at lw_m6 212 rfl) rfl
theorem q1467 : (Jvm.Cond.fieldLink "GridMarketModel" (22 : Nat) "GridMarketModel" "bidFirms" "[I") ∈ lw_all := lw_g (lw_at lw_m6 213 rfl) rfl
theorem q1468 : (Jvm.Cond.fieldLink "GridMarketModel" (25 : Nat) "GridMarketModel" "bidZones" "[I") ∈ lw_all := lw_g (lw_at lw_m6 214 rfl) rfl
theorem q1469 : (Jvm.Cond.fieldLink "GridMarketModel" (28 : Nat) "GridMarketModel" "bidHours" "[I") ∈ lw_all := lw_g (lw_at lw_m6 215 rfl) rfl
theorem q1470 : (Jvm.Cond.fieldLink "GridMarketModel" (31 : Nat) "GridMarketModel" "bidBuys" "[I") ∈ lw_all := lw_g (lw_at lw_m6 216 rfl) rfl
theorem q1471 : (Jvm.Cond.fieldLink "GridMarketModel" (34 : Nat) "GridMarketModel" "bidPrices" "[I") ∈ lw_all := lw_g (lw_at lw_m6 217 rfl) rfl
theorem q1472 : (Jvm.Cond.fieldLink "GridMarketModel" (37 : Nat) "GridMarketModel" "bidUnits" "[I") ∈ lw_all := lw_g (lw_at lw_m6 218 rfl) rfl
theorem q1473 : (Jvm.Cond.fieldLink "GridMarketModel" (40 : Nat) "GridMarketModel" "bidTaken" "[I") ∈ lw_all := lw_g (lw_at lw_m6 219 rfl) rfl
theorem q1474 : (Jvm.Cond.fieldLink "GridMarketModel" (43 : Nat) "GridMarketModel" "used" "[I") ∈ lw_all := lw_g (lw_at lw_m6 220 rfl) rfl
theorem q1475 : (Jvm.Cond.fieldLink "GridMarketModel" (204 : Nat) "GridMarketModel" "blocks" "I") ∈ lw_all := lw_g (lw_at lw_m6 221 rfl) rfl
theorem q1476 : (Jvm.Cond.fieldLink "GridMarketModel" (46 : Nat) "GridMarketModel" "blockFirms" "[I") ∈ lw_all := lw_g (lw_at lw_m6 222 rfl) rfl
theorem q1477 : (Jvm.Cond.fieldLink "GridMarketModel" (49 : Nat) "GridMarketModel" "blockZones" "[I") ∈ lw_all := lw_g (lw_at lw_m6 223 rfl) rfl
theorem q1478 : (Jvm.Cond.fieldLink "GridMarketModel" (52 : Nat) "GridMarketModel" "blockHours" "[I") ∈ lw_all := lw_g (lw_at lw_m6 224 rfl) rfl
theorem q1479 : (Jvm.Cond.fieldLink "GridMarketModel" (55 : Nat) "GridMarketModel" "blockBuys" "[I") ∈ lw_all := lw_g (lw_at lw_m6 225 rfl) rfl
theorem q1480 : (Jvm.Cond.fieldLink "GridMarketModel" (58 : Nat) "GridMarketModel" "blockPrices" "[I") ∈ lw_all := lw_g (lw_at lw_m6 226 rfl) rfl
theorem q1481 : (Jvm.Cond.fieldLink "GridMarketModel" (61 : Nat) "GridMarketModel" "blockUnits" "[I") ∈ lw_all := lw_g (lw_at lw_m6 227 rfl) rfl
theorem q1482 : (Jvm.Cond.fieldLink "GridMarketModel" (64 : Nat) "GridMarketModel" "links" "[I") ∈ lw_all := lw_g (lw_at lw_m6 228 rfl) rfl
theorem q1483 : (Jvm.Cond.fieldLink "GridMarketModel" (67 : Nat) "GridMarketModel" "groups" "[I") ∈ lw_all := lw_g (lw_at lw_m6 229 rfl) rfl
theorem q1484 : (Jvm.Cond.fieldLink "GridMarketModel" (275 : Nat) "GridMarketModel" "taken" "I") ∈ lw_all := lw_g (lw_at lw_m6 230 rfl) rfl
theorem q1485 : (Jvm.Cond.fieldLink "GridMarketModel" (207 : Nat) "GridMarketModel" "asks" "I") ∈ lw_all := lw_g (lw_at lw_m6 231 rfl) rfl
theorem q1486 : (Jvm.Cond.fieldLink "GridMarketModel" (70 : Nat) "GridMarketModel" "askFirms" "[I") ∈ lw_all := lw_g (lw_at lw_m6 232 rfl) rfl
theorem q1487 : (Jvm.Cond.fieldLink "GridMarketModel" (73 : Nat) "GridMarketModel" "askFroms" "[I") ∈ lw_all := lw_g (lw_at lw_m6 233 rfl) rfl
theorem q1488 : (Jvm.Cond.fieldLink "GridMarketModel" (76 : Nat) "GridMarketModel" "askTos" "[I") ∈ lw_all := lw_g (lw_at lw_m6 234 rfl) rfl
theorem q1489 : (Jvm.Cond.fieldLink "GridMarketModel" (79 : Nat) "GridMarketModel" "askUnits" "[I") ∈ lw_all := lw_g (lw_at lw_m6 235 rfl) rfl
theorem q1490 : (Jvm.Cond.fieldLink "GridMarketModel" (82 : Nat) "GridMarketModel" "askPrices" "[I") ∈ lw_all := lw_g (lw_at lw_m6 236 rfl) rfl
theorem q1491 : (Jvm.Cond.fieldLink "GridMarketModel" (85 : Nat) "GridMarketModel" "askGiven" "[I") ∈ lw_all := lw_g (lw_at lw_m6 237 rfl) rfl
theorem q1492 : (Jvm.Cond.fieldLink "GridMarketModel" (298 : Nat) "GridMarketModel" "offers" "I") ∈ lw_all := lw_g (lw_at lw_m6 238 rfl) rfl
theorem q1493 : (Jvm.Cond.fieldLink "GridMarketModel" (88 : Nat) "GridMarketModel" "offerFirms" "[I") ∈ lw_all := lw_g (lw_at lw_m6 239 rfl) rfl
theorem q1494 : (Jvm.Cond.fieldLink "GridMarketModel" (91 : Nat) "GridMarketModel" "offerZones" "[I") ∈ lw_all := lw_g (lw_at lw_m7 0 rfl) rfl
theorem q1495 : (Jvm.Cond.fieldLink "GridMarketModel" (94 : Nat) "GridMarketModel" "offerHours" "[I") ∈ lw_all := lw_g (lw_at lw_m7 1 rfl) rfl
theorem q1496 : (Jvm.Cond.fieldLink "GridMarketModel" (97 : Nat) "GridMarketModel" "offerBuys" "[I") ∈ lw_all := lw_g (lw_at lw_m7 2 rfl) rfl
theorem q1497 : (Jvm.Cond.fieldLink "GridMarketModel" (100 : Nat) "GridMarketModel" "offerPrices" "[I") ∈ lw_all := lw_g (lw_at lw_m7 3 rfl) rfl
theorem q1498 : (Jvm.Cond.fieldLink "GridMarketModel" (103 : Nat) "GridMarketModel" "offerLeft" "[I") ∈ lw_all := lw_g (lw_at lw_m7 4 rfl) rfl
theorem q1499 : (Jvm.Cond.fieldLink "GridMarketModel" (106 : Nat) "GridMarketModel" "looked" "[I") ∈ lw_all := lw_g (lw_at lw_m7 5 rfl) rfl
theorem q1500 : (Jvm.Cond.fieldLink "GridMarketModel" (109 : Nat) "GridMarketModel" "aids" "[I") ∈ lw_all := lw_g (lw_at lw_m7 6 rfl) rfl
theorem q1501 : (Jvm.Cond.fieldLink "GridMarketModel" (112 : Nat) "GridMarketModel" "aidFirms" "[I") ∈ lw_all := lw_g (lw_at lw_m7 7 rfl) rfl
theorem q1502 : (Jvm.Cond.fieldLink "GridMarketModel" (115 : Nat) "GridMarketModel" "aidHours" "[I") ∈ lw_all := lw_g (lw_at lw_m7 8 rfl) rfl
theorem q1503 : (Jvm.Cond.fieldLink "GridMarketModel" (118 : Nat) "GridMarketModel" "aidMore" "[I") ∈ lw_all := lw_g (lw_at lw_m7 9 rfl) rfl
theorem q1504 : (Jvm.Cond.fieldLink "GridMarketModel" (121 : Nat) "GridMarketModel" "aidPrices" "[I") ∈ lw_all := lw_g (lw_at lw_m7 10 rfl) rfl
theorem q1505 : (Jvm.Cond.fieldLink "GridMarketModel" (124 : Nat) "GridMarketModel" "aidUnits" "[I") ∈ lw_all := lw_g (lw_at lw_m7 11 rfl) rfl
theorem q1506 : (Jvm.Cond.fieldLink "GridMarketModel" (127 : Nat) "GridMarketModel" "aidUsed" "[I") ∈ lw_all := lw_g (lw_at lw_m7 12 rfl) rfl
theorem q1507 : (Jvm.Cond.fieldLink "GridMarketModel" (130 : Nat) "GridMarketModel" "prices" "[I") ∈ lw_all := lw_g (lw_at lw_m7 13 rfl) rfl
theorem q1508 : (Jvm.Cond.fieldLink "GridMarketModel" (133 : Nat) "GridMarketModel" "plans" "[I") ∈ lw_all := lw_g (lw_at lw_m7 14 rfl) rfl
theorem q1509 : (Jvm.Cond.fieldLink "GridMarketModel" (136 : Nat) "GridMarketModel" "readings" "[I") ∈ lw_all := lw_g (lw_at lw_m7 15 rfl) rfl
theorem q1510 : (Jvm.Cond.fieldLink "GridMarketModel" (139 : Nat) "GridMarketModel" "areRead" "[I") ∈ lw_all := lw_g (lw_at lw_m7 16 rfl) rfl
theorem q1511 : (Jvm.Cond.fieldLink "GridMarketModel" (142 : Nat) "GridMarketModel" "brings" "[I") ∈ lw_all := lw_g (lw_at lw_m7 17 rfl) rfl
theorem q1512 : (Jvm.Cond.fieldLink "GridMarketModel" (145 : Nat) "GridMarketModel" "gave" "[I") ∈ lw_all := lw_g (lw_at lw_m7 18 rfl) rfl
theorem q1513 : (Jvm.Cond.fieldLink "GridMarketModel" (148 : Nat) "GridMarketModel" "runs" "[I") ∈ lw_all := lw_g (lw_at lw_m7 19 rfl) rfl
theorem q1514 : (Jvm.Cond.fieldLink "GridMarketModel" (151 : Nat) "GridMarketModel" "nets" "[I") ∈ lw_all := lw_g (lw_at lw_m7 20 rfl) rfl
theorem q1515 : (Jvm.Cond.fieldLink "GridMarketModel" (154 : Nat) "GridMarketModel" "costs" "[I") ∈ lw_all := lw_g (lw_at lw_m7 21 rfl) rfl
theorem q1516 : (Jvm.Cond.fieldLink "GridMarketModel" (157 : Nat) "GridMarketModel" "values" "[I") ∈ lw_all := lw_g (lw_at lw_m7 22 rfl) rfl
theorem q1517 : (Jvm.Cond.fieldLink "GridMarketModel" (217 : Nat) "GridMarketModel" "sells" "I") ∈ lw_all := lw_g (lw_at lw_m7 23 rfl) rfl
theorem q1518 : (Jvm.Cond.fieldLink "GridMarketModel" (220 : Nat) "GridMarketModel" "buys" "I") ∈ lw_all := lw_g (lw_at lw_m7 24 rfl) rfl
theorem q1519 : (Jvm.Cond.fieldLink "GridMarketModel" (160 : Nat) "GridMarketModel" "worths" "[I") ∈ lw_all := lw_g (lw_at lw_m7 25 rfl) rfl
theorem q1520 : (Jvm.Cond.fieldLink "GridMarketModel" (163 : Nat) "GridMarketModel" "bought" "[I") ∈ lw_all := lw_g (lw_at lw_m7 26 rfl) rfl
theorem q1521 : (Jvm.Cond.fieldLink "GridMarketModel" (166 : Nat) "GridMarketModel" "bases" "[I") ∈ lw_all := lw_g (lw_at lw_m7 27 rfl) rfl
theorem q1522 : (Jvm.Cond.fieldLink "GridMarketModel" (169 : Nat) "GridMarketModel" "setNets" "[I") ∈ lw_all := lw_g (lw_at lw_m7 28 rfl) rfl
theorem q1523 : (Jvm.Cond.fieldLink "GridMarketModel" (172 : Nat) "GridMarketModel" "setPrices" "[I") ∈ lw_all := lw_g (lw_at lw_m7 29 rfl) rfl
theorem q1524 : (Jvm.Cond.fieldLink "GridMarketModel" (238 : Nat) "GridMarketModel" "bestFirst" "I") ∈ lw_all := lw_g (lw_at lw_m7 30 rfl) rfl
theorem q1525 : (Jvm.Cond.fieldLink "GridMarketModel" (241 : Nat) "GridMarketModel" "bestSecond" "I") ∈ lw_all := lw_g (lw_at lw_m7 31 rfl) rfl
theorem q1526 : (Jvm.Cond.fieldLink "GridMarketModel" (175 : Nat) "GridMarketModel" "thrown" "I") ∈ lw_all := lw_g (lw_at lw_m7 32 rfl) rfl
theorem q1527 : (Jvm.Cond.lays "GridMarketModel" "GridMarketModel" "day" "I") ∈ lw_all := lw_g (lw_at lw_m7 33 rfl) rfl
theorem q1528 : (Jvm.Cond.soleField "GridMarketModel" "day") ∈ lw_all := lw_g (lw_at lw_m7 34 rfl) rfl
theorem q1529 : (Jvm.Cond.lays "GridMarketModel" "GridMarketModel" "cleared" "I") ∈ lw_all := lw_g (lw_at lw_m7 35 rfl) rfl
theorem q1530 : (Jvm.Cond.soleField "GridMarketModel" "cleared") ∈ lw_all := lw_g (lw_at lw_m7 36 rfl) rfl
theorem q1531 : (Jvm.Cond.laysFinal "GridMarketModel" "GridMarketModel" "limits" "[I") ∈ lw_all := lw_g (lw_at lw_m7 37 rfl) rfl
theorem q1532 : (Jvm.Cond.soleField "GridMarketModel" "limits") ∈ lw_all := lw_g (lw_at lw_m7 38 rfl) rfl
theorem q1533 : (Jvm.Cond.laysFinal "GridMarketModel" "GridMarketModel" "accounts" "[I") ∈ lw_all := lw_g (lw_at lw_m7 39 rfl) rfl
theorem q1534 : (Jvm.Cond.soleField "GridMarketModel" "accounts") ∈ lw_all := lw_g (lw_at lw_m7 40 rfl) rfl
theorem q1535 : (Jvm.Cond.laysFinal "GridMarketModel" "GridMarketModel" "deposits" "[I") ∈ lw_all := lw_g (lw_at lw_m7 41 rfl) rfl
theorem q1536 : (Jvm.Cond.soleField "GridMarketModel" "deposits") ∈ lw_all := lw_g (lw_at lw_m7 42 rfl) rfl
theorem q1537 : (Jvm.Cond.laysFinal "GridMarketModel" "GridMarketModel" "failed" "[I") ∈ lw_all := lw_g (lw_at lw_m7 43 rfl) rfl
theorem q1538 : (Jvm.Cond.soleField "GridMarketModel" "failed") ∈ lw_all := lw_g (lw_at lw_m7 44 rfl) rfl
theorem q1539 : (Jvm.Cond.lays "GridMarketModel" "GridMarketModel" "house" "I") ∈ lw_all := lw_g (lw_at lw_m7 45 rfl) rfl
theorem q1540 : (Jvm.Cond.soleField "GridMarketModel" "house") ∈ lw_all := lw_g (lw_at lw_m7 46 rfl) rfl
theorem q1541 : (Jvm.Cond.lays "GridMarketModel" "GridMarketModel" "bids" "I") ∈ lw_all := lw_g (lw_at lw_m7 47 rfl) rfl
theorem q1542 : (Jvm.Cond.soleField "GridMarketModel" "bids") ∈ lw_all := lw_g (lw_at lw_m7 48 rfl) rfl
theorem q1543 : (Jvm.Cond.laysFinal "GridMarketModel" "GridMarketModel" "bidFirms" "[I") ∈ lw_all := lw_g (lw_at lw_m7 49 rfl) rfl
theorem q1544 : (Jvm.Cond.soleField "GridMarketModel" "bidFirms") ∈ lw_all := lw_g (lw_at lw_m7 50 rfl) rfl
theorem q1545 : (Jvm.Cond.laysFinal "GridMarketModel" "GridMarketModel" "bidZones" "[I") ∈ lw_all := lw_g (lw_at lw_m7 51 rfl) rfl
theorem q1546 : (Jvm.Cond.soleField "GridMarketModel" "bidZones") ∈ lw_all := lw_g (lw_at lw_m7 52 rfl) rfl
theorem q1547 : (Jvm.Cond.laysFinal "GridMarketModel" "GridMarketModel" "bidHours" "[I") ∈ lw_all := lw_g (lw_at lw_m7 53 rfl) rfl
theorem q1548 : (Jvm.Cond.soleField "GridMarketModel" "bidHours") ∈ lw_all := lw_g (lw_at lw_m7 54 rfl) rfl
theorem q1549 : (Jvm.Cond.laysFinal "GridMarketModel" "GridMarketModel" "bidBuys" "[I") ∈ lw_all := lw_g (lw_at lw_m7 55 rfl) rfl
theorem q1550 : (Jvm.Cond.soleField "GridMarketModel" "bidBuys") ∈ lw_all := lw_g (lw_at lw_m7 56 rfl) rfl
theorem q1551 : (Jvm.Cond.laysFinal "GridMarketModel" "GridMarketModel" "bidPrices" "[I") ∈ lw_all := lw_g (lw_at lw_m7 57 rfl) rfl
theorem q1552 : (Jvm.Cond.soleField "GridMarketModel" "bidPrices") ∈ lw_all := lw_g (lw_at lw_m7 58 rfl) rfl
theorem q1553 : (Jvm.Cond.laysFinal "GridMarketModel" "GridMarketModel" "bidUnits" "[I") ∈ lw_all := lw_g (lw_at lw_m7 59 rfl) rfl
theorem q1554 : (Jvm.Cond.soleField "GridMarketModel" "bidUnits") ∈ lw_all := lw_g (lw_at lw_m7 60 rfl) rfl
theorem q1555 : (Jvm.Cond.laysFinal "GridMarketModel" "GridMarketModel" "bidTaken" "[I") ∈ lw_all := lw_g (lw_at lw_m7 61 rfl) rfl
theorem q1556 : (Jvm.Cond.soleField "GridMarketModel" "bidTaken") ∈ lw_all := lw_g (lw_at lw_m7 62 rfl) rfl
theorem q1557 : (Jvm.Cond.laysFinal "GridMarketModel" "GridMarketModel" "used" "[I") ∈ lw_all := lw_g (lw_at lw_m7 63 rfl) rfl
theorem q1558 : (Jvm.Cond.soleField "GridMarketModel" "used") ∈ lw_all := lw_g (lw_at lw_m7 64 rfl) rfl
theorem q1559 : (Jvm.Cond.lays "GridMarketModel" "GridMarketModel" "blocks" "I") ∈ lw_all := lw_g (lw_at lw_m7 65 rfl) rfl
theorem q1560 : (Jvm.Cond.soleField "GridMarketModel" "blocks") ∈ lw_all := lw_g (lw_at lw_m7 66 rfl) rfl
theorem q1561 : (Jvm.Cond.laysFinal "GridMarketModel" "GridMarketModel" "blockFirms" "[I") ∈ lw_all := lw_g (lw_at lw_m7 67 rfl) rfl
theorem q1562 : (Jvm.Cond.soleField "GridMarketModel" "blockFirms") ∈ lw_all := lw_g (lw_at lw_m7 68 rfl) rfl
theorem q1563 : (Jvm.Cond.laysFinal "GridMarketModel" "GridMarketModel" "blockZones" "[I") ∈ lw_all := lw_g (lw_at lw_m7 69 rfl) rfl
theorem q1564 : (Jvm.Cond.soleField "GridMarketModel" "blockZones") ∈ lw_all := lw_g (lw_at lw_m7 70 rfl) rfl
theorem q1565 : (Jvm.Cond.laysFinal "GridMarketModel" "GridMarketModel" "blockHours" "[I") ∈ lw_all := lw_g (lw_at lw_m7 71 rfl) rfl
theorem q1566 : (Jvm.Cond.soleField "GridMarketModel" "blockHours") ∈ lw_all := lw_g (lw_at lw_m7 72 rfl) rfl
theorem q1567 : (Jvm.Cond.laysFinal "GridMarketModel" "GridMarketModel" "blockBuys" "[I") ∈ lw_all := lw_g (lw_at lw_m7 73 rfl) rfl
theorem q1568 : (Jvm.Cond.soleField "GridMarketModel" "blockBuys") ∈ lw_all := lw_g (lw_at lw_m7 74 rfl) rfl
theorem q1569 : (Jvm.Cond.laysFinal "GridMarketModel" "GridMarketModel" "blockPrices" "[I") ∈ lw_all := lw_g (lw_at lw_m7 75 rfl) rfl
theorem q1570 : (Jvm.Cond.soleField "GridMarketModel" "blockPrices") ∈ lw_all := lw_g (lw_at lw_m7 76 rfl) rfl
theorem q1571 : (Jvm.Cond.laysFinal "GridMarketModel" "GridMarketModel" "blockUnits" "[I") ∈ lw_all := lw_g (lw_at lw_m7 77 rfl) rfl
theorem q1572 : (Jvm.Cond.soleField "GridMarketModel" "blockUnits") ∈ lw_all := lw_g (lw_at lw_m7 78 rfl) rfl
theorem q1573 : (Jvm.Cond.laysFinal "GridMarketModel" "GridMarketModel" "links" "[I") ∈ lw_all := lw_g (lw_at lw_m7 79 rfl) rfl
theorem q1574 : (Jvm.Cond.soleField "GridMarketModel" "links") ∈ lw_all := lw_g (lw_at lw_m7 80 rfl) rfl
theorem q1575 : (Jvm.Cond.laysFinal "GridMarketModel" "GridMarketModel" "groups" "[I") ∈ lw_all := lw_g (lw_at lw_m7 81 rfl) rfl
theorem q1576 : (Jvm.Cond.soleField "GridMarketModel" "groups") ∈ lw_all := lw_g (lw_at lw_m7 82 rfl) rfl
theorem q1577 : (Jvm.Cond.lays "GridMarketModel" "GridMarketModel" "taken" "I") ∈ lw_all := lw_g (lw_at lw_m7 83 rfl) rfl
theorem q1578 : (Jvm.Cond.soleField "GridMarketModel" "taken") ∈ lw_all := lw_g (lw_at lw_m7 84 rfl) rfl
theorem q1579 : (Jvm.Cond.lays "GridMarketModel" "GridMarketModel" "asks" "I") ∈ lw_all := lw_g (lw_at lw_m7 85 rfl) rfl
theorem q1580 : (Jvm.Cond.soleField "GridMarketModel" "asks") ∈ lw_all := lw_g (lw_at lw_m7 86 rfl) rfl
theorem q1581 : (Jvm.Cond.laysFinal "GridMarketModel" "GridMarketModel" "askFirms" "[I") ∈ lw_all := lw_g (lw_at lw_m7 87 rfl) rfl
theorem q1582 : (Jvm.Cond.soleField "GridMarketModel" "askFirms") ∈ lw_all := lw_g (lw_at lw_m7 88 rfl) rfl
theorem q1583 : (Jvm.Cond.laysFinal "GridMarketModel" "GridMarketModel" "askFroms" "[I") ∈ lw_all := lw_g (lw_at lw_m7 89 rfl) rfl
theorem q1584 : (Jvm.Cond.soleField "GridMarketModel" "askFroms") ∈ lw_all := lw_g (lw_at lw_m7 90 rfl) rfl
theorem q1585 : (Jvm.Cond.laysFinal "GridMarketModel" "GridMarketModel" "askTos" "[I") ∈ lw_all := lw_g (lw_at lw_m7 91 rfl) rfl
theorem q1586 : (Jvm.Cond.soleField "GridMarketModel" "askTos") ∈ lw_all := lw_g (lw_at lw_m7 92 rfl) rfl
theorem q1587 : (Jvm.Cond.laysFinal "GridMarketModel" "GridMarketModel" "askUnits" "[I") ∈ lw_all := lw_g (lw_at lw_m7 93 rfl) rfl
theorem q1588 : (Jvm.Cond.soleField "GridMarketModel" "askUnits") ∈ lw_all := lw_g (lw_at lw_m7 94 rfl) rfl
theorem q1589 : (Jvm.Cond.laysFinal "GridMarketModel" "GridMarketModel" "askPrices" "[I") ∈ lw_all := lw_g (lw_at lw_m7 95 rfl) rfl
theorem q1590 : (Jvm.Cond.soleField "GridMarketModel" "askPrices") ∈ lw_all := lw_g (lw_at lw_m7 96 rfl) rfl
theorem q1591 : (Jvm.Cond.laysFinal "GridMarketModel" "GridMarketModel" "askGiven" "[I") ∈ lw_all := lw_g (lw_at lw_m7 97 rfl) rfl
theorem q1592 : (Jvm.Cond.soleField "GridMarketModel" "askGiven") ∈ lw_all := lw_g (lw_at lw_m7 98 rfl) rfl
theorem q1593 : (Jvm.Cond.lays "GridMarketModel" "GridMarketModel" "offers" "I") ∈ lw_all := lw_g (lw_at lw_m7 99 rfl) rfl
theorem q1594 : (Jvm.Cond.soleField "GridMarketModel" "offers") ∈ lw_all := lw_g (lw_at lw_m7 100 rfl) rfl
theorem q1595 : (Jvm.Cond.laysFinal "GridMarketModel" "GridMarketModel" "offerFirms" "[I") ∈ lw_all := lw_g (lw_at lw_m7 101 rfl) rfl
theorem q1596 : (Jvm.Cond.soleField "GridMarketModel" "offerFirms") ∈ lw_all := lw_g (lw_at lw_m7 102 rfl) rfl
theorem q1597 : (Jvm.Cond.laysFinal "GridMarketModel" "GridMarketModel" "offerZones" "[I") ∈ lw_all := lw_g (lw_at lw_m7 103 rfl) rfl
theorem q1598 : (Jvm.Cond.soleField "GridMarketModel" "offerZones") ∈ lw_all := lw_g (lw_at lw_m7 104 rfl) rfl
theorem q1599 : (Jvm.Cond.laysFinal "GridMarketModel" "GridMarketModel" "offerHours" "[I") ∈ lw_all := lw_g (lw_at lw_m7 105 rfl) rfl
theorem q1600 : (Jvm.Cond.soleField "GridMarketModel" "offerHours") ∈ lw_all := lw_g (lw_at lw_m7 106 rfl) rfl
theorem q1601 : (Jvm.Cond.laysFinal "GridMarketModel" "GridMarketModel" "offerBuys" "[I") ∈ lw_all := lw_g (lw_at lw_m7 107 rfl) rfl
theorem q1602 : (Jvm.Cond.soleField "GridMarketModel" "offerBuys") ∈ lw_all := lw_g (lw_at lw_m7 108 rfl) rfl
theorem q1603 : (Jvm.Cond.laysFinal "GridMarketModel" "GridMarketModel" "offerPrices" "[I") ∈ lw_all := lw_g (lw_at lw_m7 109 rfl) rfl
theorem q1604 : (Jvm.Cond.soleField "GridMarketModel" "offerPrices") ∈ lw_all := lw_g (lw_at lw_m7 110 rfl) rfl
theorem q1605 : (Jvm.Cond.laysFinal "GridMarketModel" "GridMarketModel" "offerLeft" "[I") ∈ lw_all := lw_g (lw_at lw_m7 111 rfl) rfl
theorem q1606 : (Jvm.Cond.soleField "GridMarketModel" "offerLeft") ∈ lw_all := lw_g (lw_at lw_m7 112 rfl) rfl
theorem q1607 : (Jvm.Cond.laysFinal "GridMarketModel" "GridMarketModel" "looked" "[I") ∈ lw_all := lw_g (lw_at lw_m7 113 rfl) rfl
theorem q1608 : (Jvm.Cond.soleField "GridMarketModel" "looked") ∈ lw_all := lw_g (lw_at lw_m7 114 rfl) rfl
theorem q1609 : (Jvm.Cond.laysFinal "GridMarketModel" "GridMarketModel" "aids" "[I") ∈ lw_all := lw_g (lw_at lw_m7 115 rfl) rfl
theorem q1610 : (Jvm.Cond.soleField "GridMarketModel" "aids") ∈ lw_all := lw_g (lw_at lw_m7 116 rfl) rfl
theorem q1611 : (Jvm.Cond.laysFinal "GridMarketModel" "GridMarketModel" "aidFirms" "[I") ∈ lw_all := lw_g (lw_at lw_m7 117 rfl) rfl
theorem q1612 : (Jvm.Cond.soleField "GridMarketModel" "aidFirms") ∈ lw_all := lw_g (lw_at lw_m7 118 rfl) rfl
theorem q1613 : (Jvm.Cond.laysFinal "GridMarketModel" "GridMarketModel" "aidHours" "[I") ∈ lw_all := lw_g (lw_at lw_m7 119 rfl) rfl
theorem q1614 : (Jvm.Cond.soleField "GridMarketModel" "aidHours") ∈ lw_all := lw_g (lw_at lw_m7 120 rfl) rfl
theorem q1615 : (Jvm.Cond.laysFinal "GridMarketModel" "GridMarketModel" "aidMore" "[I") ∈ lw_all := lw_g (lw_at lw_m7 121 rfl) rfl
theorem q1616 : (Jvm.Cond.soleField "GridMarketModel" "aidMore") ∈ lw_all := lw_g (lw_at lw_m7 122 rfl) rfl
theorem q1617 : (Jvm.Cond.laysFinal "GridMarketModel" "GridMarketModel" "aidPrices" "[I") ∈ lw_all := lw_g (lw_at lw_m7 123 rfl) rfl
theorem q1618 : (Jvm.Cond.soleField "GridMarketModel" "aidPrices") ∈ lw_all := lw_g (lw_at lw_m7 124 rfl) rfl
theorem q1619 : (Jvm.Cond.laysFinal "GridMarketModel" "GridMarketModel" "aidUnits" "[I") ∈ lw_all := lw_g (lw_at lw_m7 125 rfl) rfl
theorem q1620 : (Jvm.Cond.soleField "GridMarketModel" "aidUnits") ∈ lw_all := lw_g (lw_at lw_m7 126 rfl) rfl
theorem q1621 : (Jvm.Cond.laysFinal "GridMarketModel" "GridMarketModel" "aidUsed" "[I") ∈ lw_all := lw_g (lw_at lw_m7 127 rfl) rfl
theorem q1622 : (Jvm.Cond.soleField "GridMarketModel" "aidUsed") ∈ lw_all := lw_g (lw_at lw_m7 128 rfl) rfl
theorem q1623 : (Jvm.Cond.laysFinal "GridMarketModel" "GridMarketModel" "prices" "[I") ∈ lw_all := lw_g (lw_at lw_m7 129 rfl) rfl
theorem q1624 : (Jvm.Cond.soleField "GridMarketModel" "prices") ∈ lw_all := lw_g (lw_at lw_m7 130 rfl) rfl
theorem q1625 : (Jvm.Cond.laysFinal "GridMarketModel" "GridMarketModel" "plans" "[I") ∈ lw_all := lw_g (lw_at lw_m7 131 rfl) rfl
theorem q1626 : (Jvm.Cond.soleField "GridMarketModel" "plans") ∈ lw_all := lw_g (lw_at lw_m7 132 rfl) rfl
theorem q1627 : (Jvm.Cond.laysFinal "GridMarketModel" "GridMarketModel" "readings" "[I") ∈ lw_all := lw_g (lw_at lw_m7 133 rfl) rfl
theorem q1628 : (Jvm.Cond.soleField "GridMarketModel" "readings") ∈ lw_all := lw_g (lw_at lw_m7 134 rfl) rfl
theorem q1629 : (Jvm.Cond.laysFinal "GridMarketModel" "GridMarketModel" "areRead" "[I") ∈ lw_all := lw_g (lw_at lw_m7 135 rfl) rfl
theorem q1630 : (Jvm.Cond.soleField "GridMarketModel" "areRead") ∈ lw_all := lw_g (lw_at lw_m7 136 rfl) rfl
theorem q1631 : (Jvm.Cond.laysFinal "GridMarketModel" "GridMarketModel" "brings" "[I") ∈ lw_all := lw_g (lw_at lw_m7 137 rfl) rfl
theorem q1632 : (Jvm.Cond.soleField "GridMarketModel" "brings") ∈ lw_all := lw_g (lw_at lw_m7 138 rfl) rfl
theorem q1633 : (Jvm.Cond.laysFinal "GridMarketModel" "GridMarketModel" "gave" "[I") ∈ lw_all := lw_g (lw_at lw_m7 139 rfl) rfl
theorem q1634 : (Jvm.Cond.soleField "GridMarketModel" "gave") ∈ lw_all := lw_g (lw_at lw_m7 140 rfl) rfl
theorem q1635 : (Jvm.Cond.laysFinal "GridMarketModel" "GridMarketModel" "runs" "[I") ∈ lw_all := lw_g (lw_at lw_m7 141 rfl) rfl
theorem q1636 : (Jvm.Cond.soleField "GridMarketModel" "runs") ∈ lw_all := lw_g (lw_at lw_m7 142 rfl) rfl
theorem q1637 : (Jvm.Cond.laysFinal "GridMarketModel" "GridMarketModel" "nets" "[I") ∈ lw_all := lw_g (lw_at lw_m7 143 rfl) rfl
theorem q1638 : (Jvm.Cond.soleField "GridMarketModel" "nets") ∈ lw_all := lw_g (lw_at lw_m7 144 rfl) rfl
theorem q1639 : (Jvm.Cond.laysFinal "GridMarketModel" "GridMarketModel" "costs" "[I") ∈ lw_all := lw_g (lw_at lw_m7 145 rfl) rfl
theorem q1640 : (Jvm.Cond.soleField "GridMarketModel" "costs") ∈ lw_all := lw_g (lw_at lw_m7 146 rfl) rfl
theorem q1641 : (Jvm.Cond.laysFinal "GridMarketModel" "GridMarketModel" "values" "[I") ∈ lw_all := lw_g (lw_at lw_m7 147 rfl) rfl
theorem q1642 : (Jvm.Cond.soleField "GridMarketModel" "values") ∈ lw_all := lw_g (lw_at lw_m7 148 rfl) rfl
theorem q1643 : (Jvm.Cond.lays "GridMarketModel" "GridMarketModel" "sells" "I") ∈ lw_all := lw_g (lw_at lw_m7 149 rfl) rfl
theorem q1644 : (Jvm.Cond.soleField "GridMarketModel" "sells") ∈ lw_all := lw_g (lw_at lw_m7 150 rfl) rfl
theorem q1645 : (Jvm.Cond.lays "GridMarketModel" "GridMarketModel" "buys" "I") ∈ lw_all := lw_g (lw_at lw_m7 151 rfl) rfl
theorem q1646 : (Jvm.Cond.soleField "GridMarketModel" "buys") ∈ lw_all := lw_g (lw_at lw_m7 152 rfl) rfl
theorem q1647 : (Jvm.Cond.laysFinal "GridMarketModel" "GridMarketModel" "worths" "[I") ∈ lw_all := lw_g (lw_at lw_m7 153 rfl) rfl
theorem q1648 : (Jvm.Cond.soleField "GridMarketModel" "worths") ∈ lw_all := lw_g (lw_at lw_m7 154 rfl) rfl
theorem q1649 : (Jvm.Cond.laysFinal "GridMarketModel" "GridMarketModel" "bought" "[I") ∈ lw_all := lw_g (lw_at lw_m7 155 rfl) rfl
theorem q1650 : (Jvm.Cond.soleField "GridMarketModel" "bought") ∈ lw_all := lw_g (lw_at lw_m7 156 rfl) rfl
theorem q1651 : (Jvm.Cond.laysFinal "GridMarketModel" "GridMarketModel" "bases" "[I") ∈ lw_all := lw_g (lw_at lw_m7 157 rfl) rfl
theorem q1652 : (Jvm.Cond.soleField "GridMarketModel" "bases") ∈ lw_all := lw_g (lw_at lw_m7 158 rfl) rfl
theorem q1653 : (Jvm.Cond.laysFinal "GridMarketModel" "GridMarketModel" "setNets" "[I") ∈ lw_all := lw_g (lw_at lw_m7 159 rfl) rfl
theorem q1654 : (Jvm.Cond.soleField "GridMarketModel" "setNets") ∈ lw_all := lw_g (lw_at lw_m7 160 rfl) rfl
theorem q1655 : (Jvm.Cond.laysFinal "GridMarketModel" "GridMarketModel" "setPrices" "[I") ∈ lw_all := lw_g (lw_at lw_m7 161 rfl) rfl
theorem q1656 : (Jvm.Cond.soleField "GridMarketModel" "setPrices") ∈ lw_all := lw_g (lw_at lw_m7 162 rfl) rfl
theorem q1657 : (Jvm.Cond.lays "GridMarketModel" "GridMarketModel" "bestFirst" "I") ∈ lw_all := lw_g (lw_at lw_m7 163 rfl) rfl
theorem q1658 : (Jvm.Cond.soleField "GridMarketModel" "bestFirst") ∈ lw_all := lw_g (lw_at lw_m7 164 rfl) rfl
theorem q1659 : (Jvm.Cond.lays "GridMarketModel" "GridMarketModel" "bestSecond" "I") ∈ lw_all := lw_g (lw_at lw_m7 165 rfl) rfl
theorem q1660 : (Jvm.Cond.soleField "GridMarketModel" "bestSecond") ∈ lw_all := lw_g (lw_at lw_m7 166 rfl) rfl
theorem q1661 : (Jvm.Cond.lays "GridMarketModel" "GridMarketModel" "thrown" "I") ∈ lw_all := lw_g (lw_at lw_m7 167 rfl) rfl
theorem q1662 : (Jvm.Cond.soleField "GridMarketModel" "thrown") ∈ lw_all := lw_g (lw_at lw_m7 168 rfl) rfl
theorem q1663 : (Jvm.Cond.superclass "GridMarketModel" "java/lang/Object") ∈ lw_all := lw_g (lw_at lw_m7 169 rfl) rfl
theorem q1665 : (Jvm.Cond.instanceMethod ({ cls := "GridMarketModel", name := "thrown", desc := "()I" } : Jvm.MethodName)) ∈ lw_all := lw_g (lw_at lw_m7 171 rfl) rfl
theorem q1666 : (Jvm.Cond.selects "GridMarketModel" ({ cls := "GridMarketModel", name := "thrown", desc := "()I" } : Jvm.MethodName) ({ cls := "GridMarketModel", name := "thrown", desc := "()I" } : Jvm.MethodName)) ∈ lw_all := lw_g (lw_at lw_m7 172 rfl) rfl
theorem q1667 : (Jvm.Cond.code ({ cls := "GridMarketModel", name := "thrown", desc := "()I" } : Jvm.MethodName) prog_15_method_2_code (1 : Nat) (Option.some Jvm.ClassFile.FieldType.int)) ∈ lw_all := lw_g (lw_at lw_m7 173 rfl) rfl
theorem q1669 : (Jvm.Cond.instanceMethod ({ cls := "GridMarketModel", name := "deposit", desc := "(II)I" } : Jvm.MethodName)) ∈ lw_all := lw_g (lw_at lw_m7 175 rfl) rfl
theorem q1670 : (Jvm.Cond.selects "GridMarketModel" ({ cls := "GridMarketModel", name := "deposit", desc := "(II)I" } : Jvm.MethodName) ({ cls := "GridMarketModel", name := "deposit", desc := "(II)I" } : Jvm.MethodName)) ∈ lw_all := lw_g (lw_at lw_m7 176 rfl) rfl
theorem q1671 : (Jvm.Cond.code ({ cls := "GridMarketModel", name := "deposit", desc := "(II)I" } : Jvm.MethodName) prog_15_method_8_code (3 : Nat) (Option.some Jvm.ClassFile.FieldType.int)) ∈ lw_all := lw_g (lw_at lw_m7 177 rfl) rfl
theorem q1672 : (Jvm.Cond.methodLink "GridMarketModel" (186 : Nat) ({ cls := "GridMarketModel", name := "isFirm", desc := "(I)Z" } : Jvm.MethodName)) ∈ lw_all := lw_g (lw_at lw_m7 178 rfl) rfl
theorem q1673 : (Jvm.Cond.static ({ cls := "GridMarketModel", name := "isFirm", desc := "(I)Z" } : Jvm.MethodName)) ∈ lw_all := lw_g (lw_at lw_m7 179 rfl) rfl
theorem q1674 : (Jvm.Cond.code ({ cls := "GridMarketModel", name := "isFirm", desc := "(I)Z" } : Jvm.MethodName) prog_15_method_4_code (1 : Nat) (Option.some Jvm.ClassFile.FieldType.boolean)) ∈ lw_all := lw_g (lw_at lw_m7 180 rfl) rfl
theorem q1675 : (Jvm.Cond.methodLink "GridMarketModel" (179 : Nat) ({ cls := "GridMarketModel", name := "in", desc := "(III)Z" } : Jvm.MethodName)) ∈ lw_all := lw_g (lw_at lw_m7 181 rfl) rfl
theorem q1676 : (Jvm.Cond.static ({ cls := "GridMarketModel", name := "in", desc := "(III)Z" } : Jvm.MethodName)) ∈ lw_all := lw_g (lw_at lw_m7 182 rfl) rfl
theorem q1677 : (Jvm.Cond.code ({ cls := "GridMarketModel", name := "in", desc := "(III)Z" } : Jvm.MethodName) prog_15_method_3_code (3 : Nat) (Option.some Jvm.ClassFile.FieldType.boolean)) ∈ lw_all := lw_g (lw_at lw_m7 183 rfl) rfl
theorem q1678 : (Jvm.Cond.constant "GridMarketModel" (190 : Nat) (100000 : Int32)) ∈ lw_all := lw_g (lw_at lw_m7 184 rfl) rfl
theorem q1679 : (Jvm.Cond.constant "GridMarketModel" (191 : Nat) (10000000 : Int32)) ∈ lw_all := lw_g (lw_at lw_m7 185 rfl) rfl
theorem q1681 : (Jvm.Cond.instanceMethod ({ cls := "GridMarketModel", name := "setLimit", desc := "(II)I" } : Jvm.MethodName)) ∈ lw_all := lw_g (lw_at lw_m7 187 rfl) rfl
theorem q1682 : (Jvm.Cond.selects "GridMarketModel" ({ cls := "GridMarketModel", name := "setLimit", desc := "(II)I" } : Jvm.MethodName) ({ cls := "GridMarketModel", name := "setLimit", desc := "(II)I" } : Jvm.MethodName)) ∈ lw_all := lw_g (lw_at lw_m7 188 rfl) rfl
theorem q1683 : (Jvm.Cond.code ({ cls := "GridMarketModel", name := "setLimit", desc := "(II)I" } : Jvm.MethodName) prog_15_method_9_code (4 : Nat) (Option.some Jvm.ClassFile.FieldType.int)) ∈ lw_all := lw_g (lw_at lw_m7 189 rfl) rfl
theorem q1685 : (Jvm.Cond.instanceMethod ({ cls := "GridMarketModel", name := "bid", desc := "(IIIZII)I" } : Jvm.MethodName)) ∈ lw_all := lw_g (lw_at lw_m7 191 rfl) rfl
theorem q1686 : (Jvm.Cond.selects "GridMarketModel" ({ cls := "GridMarketModel", name := "bid", desc := "(IIIZII)I" } : Jvm.MethodName) ({ cls := "GridMarketModel", name := "bid", desc := "(IIIZII)I" } : Jvm.MethodName)) ∈ lw_all := lw_g (lw_at lw_m7 192 rfl) rfl
theorem q1687 : (Jvm.Cond.code ({ cls := "GridMarketModel", name := "bid", desc := "(IIIZII)I" } : Jvm.MethodName) prog_15_method_10_code (7 : Nat) (Option.some Jvm.ClassFile.FieldType.int)) ∈ lw_all := lw_g (lw_at lw_m7 193 rfl) rfl
theorem q1688 : (Jvm.Cond.methodLink "GridMarketModel" (195 : Nat) ({ cls := "GridMarketModel", name := "isZone", desc := "(I)Z" } : Jvm.MethodName)) ∈ lw_all := lw_g (lw_at lw_m7 194 rfl) rfl
theorem q1689 : (Jvm.Cond.static ({ cls := "GridMarketModel", name := "isZone", desc := "(I)Z" } : Jvm.MethodName)) ∈ lw_all := lw_g (lw_at lw_m7 195 rfl) rfl
theorem q1690 : (Jvm.Cond.code ({ cls := "GridMarketModel", name := "isZone", desc := "(I)Z" } : Jvm.MethodName) prog_15_method_5_code (1 : Nat) (Option.some Jvm.ClassFile.FieldType.boolean)) ∈ lw_all := lw_g (lw_at lw_m7 196 rfl) rfl
theorem q1691 : (Jvm.Cond.methodLink "GridMarketModel" (198 : Nat) ({ cls := "GridMarketModel", name := "isHour", desc := "(I)Z" } : Jvm.MethodName)) ∈ lw_all := lw_g (lw_at lw_m7 197 rfl) rfl
theorem q1692 : (Jvm.Cond.static ({ cls := "GridMarketModel", name := "isHour", desc := "(I)Z" } : Jvm.MethodName)) ∈ lw_all := lw_g (lw_at lw_m7 198 rfl) rfl
theorem q1693 : (Jvm.Cond.code ({ cls := "GridMarketModel", name := "isHour", desc := "(I)Z" } : Jvm.MethodName) prog_15_method_6_code (1 : Nat) (Option.some Jvm.ClassFile.FieldType.boolean)) ∈ lw_all := lw_g (lw_at lw_m7 199 rfl) rfl
theorem q1695 : (Jvm.Cond.instanceMethod ({ cls := "GridMarketModel", name := "block", desc := "(IIIZII)I" } : Jvm.MethodName)) ∈ lw_all := lw_g (lw_at lw_m7 201 rfl) rfl
theorem q1696 : (Jvm.Cond.selects "GridMarketModel" ({ cls := "GridMarketModel", name := "block", desc := "(IIIZII)I" } : Jvm.MethodName) ({ cls := "GridMarketModel", name := "block", desc := "(IIIZII)I" } : Jvm.MethodName)) ∈ lw_all := lw_g (lw_at lw_m7 202 rfl) rfl
theorem q1697 : (Jvm.Cond.code ({ cls := "GridMarketModel", name := "block", desc := "(IIIZII)I" } : Jvm.MethodName) prog_15_method_11_code (7 : Nat) (Option.some Jvm.ClassFile.FieldType.int)) ∈ lw_all := lw_g (lw_at lw_m7 203 rfl) rfl
theorem q1699 : (Jvm.Cond.instanceMethod ({ cls := "GridMarketModel", name := "link", desc := "(III)V" } : Jvm.MethodName)) ∈ lw_all := lw_g (lw_at lw_m7 205 rfl) rfl
theorem q1700 : (Jvm.Cond.selects "GridMarketModel" ({ cls := "GridMarketModel", name := "link", desc := "(III)V" } : Jvm.MethodName) ({ cls := "GridMarketModel", name := "link", desc := "(III)V" } : Jvm.MethodName)) ∈ lw_all := lw_g (lw_at lw_m7 206 rfl) rfl
theorem q1701 : (Jvm.Cond.code ({ cls := "GridMarketModel", name := "link", desc := "(III)V" } : Jvm.MethodName) prog_15_method_12_code (4 : Nat) (Option.none : Option Jvm.ClassFile.FieldType)) ∈ lw_all := lw_g (lw_at lw_m7 207 rfl) rfl
theorem q1703 : (Jvm.Cond.instanceMethod ({ cls := "GridMarketModel", name := "ask", desc := "(IIIII)I" } : Jvm.MethodName)) ∈ lw_all := lw_g (lw_at lw_m7 209 rfl) rfl
theorem q1704 : (Jvm.Cond.selects "GridMarketModel" ({ cls := "GridMarketModel", name := "ask", desc := "(IIIII)I" } : Jvm.MethodName) ({ cls := "GridMarketModel", name := "ask", desc := "(IIIII)I" } : Jvm.MethodName)) ∈ lw_all := lw_g (lw_at lw_m7 210 rfl) rfl
theorem q1705 : (Jvm.Cond.code ({ cls := "GridMarketModel", name := "ask", desc := "(IIIII)I" } : Jvm.MethodName) prog_15_method_13_code (6 : Nat) (Option.some Jvm.ClassFile.FieldType.int)) ∈ lw_all := lw_g (lw_at lw_m7 211 rfl) rfl
theorem q1707 : (Jvm.Cond.instanceMethod ({ cls := "GridMarketModel", name := "clear", desc := "()I" } : Jvm.MethodName)) ∈ lw_all := lw_g (lw_at lw_m7 213 rfl) rfl
theorem q1708 : (Jvm.Cond.selects "GridMarketModel" ({ cls := "GridMarketModel", name := "clear", desc := "()I" } : Jvm.MethodName) ({ cls := "GridMarketModel", name := "clear", desc := "()I" } : Jvm.MethodName)) ∈ lw_all := lw_g (lw_at lw_m7 214 rfl) rfl
theorem q1709 : (Jvm.Cond.code ({ cls := "GridMarketModel", name := "clear", desc := "()I" } : Jvm.MethodName) prog_15_method_34_code (6 : Nat) (Option.some Jvm.ClassFile.FieldType.int)) ∈ lw_all := lw_g (lw_at lw_m7 215 rfl) rfl
theorem q1710 : (Jvm.Cond.methodLink "GridMarketModel" (264 : Nat) ({ cls := "GridMarketModel", name := "forgets", desc := "()V" } : Jvm.MethodName)) ∈ lw_all := lw_g (lw_at lw_m7 216 rfl) rfl
theorem q1711 : (Jvm.Cond.privateMethod ({ cls := "GridMarketModel", name := "forgets", desc := "()V" } : Jvm.MethodName)) ∈ lw_tbl := lw_at lw_m7 217 rfl
theorem q1712 : (Jvm.Cond.instanceMethod ({ cls := "GridMarketModel", name := "forgets", desc := "()V" } : Jvm.MethodName)) ∈ lw_all := lw_g (lw_at lw_m7 218 rfl) rfl
theorem q1713 : (Jvm.Cond.code ({ cls := "GridMarketModel", name := "forgets", desc := "()V" } : Jvm.MethodName) prog_15_method_15_code (2 : Nat) (Option.none : Option Jvm.ClassFile.FieldType)) ∈ lw_all := lw_g (lw_at lw_m7 219 rfl) rfl
theorem q1714 : (Jvm.Cond.methodLink "GridMarketModel" (271 : Nat) ({ cls := "GridMarketModel", name := "weighs", desc := "(II)V" } : Jvm.MethodName)) ∈ lw_all := lw_g (lw_at lw_m7 220 rfl) rfl
theorem q1715 : (Jvm.Cond.privateMethod ({ cls := "GridMarketModel", name := "weighs", desc := "(II)V" } : Jvm.MethodName)) ∈ lw_tbl := lw_at lw_m7 221 rfl
theorem q1716 : (Jvm.Cond.instanceMethod ({ cls := "GridMarketModel", name := "weighs", desc := "(II)V" } : Jvm.MethodName)) ∈ lw_all := lw_g (lw_at lw_m7 222 rfl) rfl
theorem q1717 : (Jvm.Cond.code ({ cls := "GridMarketModel", name := "weighs", desc := "(II)V" } : Jvm.MethodName) prog_15_method_17_code (8 : Nat) (Option.none : Option Jvm.ClassFile.FieldType)) ∈ lw_all := lw_g (lw_at lw_m7 223 rfl) rfl
theorem q1718 : (Jvm.Cond.methodLink "GridMarketModel" (214 : Nat) ({ cls := "GridMarketModel", name := "sums", desc := "(III)I" } : Jvm.MethodName)) ∈ lw_all := lw_g (lw_at lw_m7 224 rfl) rfl
theorem q1719 : (Jvm.Cond.privateMethod ({ cls := "GridMarketModel", name := "sums", desc := "(III)I" } : Jvm.MethodName)) ∈ lw_tbl := lw_at lw_m7 225 rfl
theorem q1720 : (Jvm.Cond.instanceMethod ({ cls := "GridMarketModel", name := "sums", desc := "(III)I" } : Jvm.MethodName)) ∈ lw_all := lw_g (lw_at lw_m7 226 rfl) rfl
theorem q1721 : (Jvm.Cond.code ({ cls := "GridMarketModel", name := "sums", desc := "(III)I" } : Jvm.MethodName) prog_15_method_16_code (7 : Nat) (Option.some Jvm.ClassFile.FieldType.int)) ∈ lw_all := lw_g (lw_at lw_m7 227 rfl) rfl
theorem q1722 : (Jvm.Cond.methodLink "GridMarketModel" (210 : Nat) ({ cls := "GridMarketModel", name := "nextBid", desc := "(III)I" } : Jvm.MethodName)) ∈ lw_all := lw_g (lw_at lw_m7 228 rfl) rfl
theorem q1723 : (Jvm.Cond.privateMethod ({ cls := "GridMarketModel", name := "nextBid", desc := "(III)I" } : Jvm.MethodName)) ∈ lw_tbl := lw_at lw_m7 229 rfl
theorem q1724 : (Jvm.Cond.instanceMethod ({ cls := "GridMarketModel", name := "nextBid", desc := "(III)I" } : Jvm.MethodName)) ∈ lw_all := lw_g (lw_at lw_m7 230 rfl) rfl
theorem q1725 : (Jvm.Cond.code ({ cls := "GridMarketModel", name := "nextBid", desc := "(III)I" } : Jvm.MethodName) prog_15_method_14_code (8 : Nat) (Option.some Jvm.ClassFile.FieldType.int)) ∈ lw_all := lw_g (lw_at lw_m7 231 rfl) rfl
theorem q1726 : (Jvm.Cond.constant "GridMarketModel" (223 : Nat) (-1000000000 : Int32)) ∈ lw_all := lw_g (lw_at lw_m7 232 rfl) rfl
theorem q1727 : (Jvm.Cond.methodLink "GridMarketModel" (278 : Nat) ({ cls := "GridMarketModel", name := "isAllowed", desc := "(I)Z" } : Jvm.MethodName)) ∈ lw_all := lw_g (lw_at lw_m7 233 rfl) rfl
theorem q1728 : (Jvm.Cond.privateMethod ({ cls := "GridMarketModel", name := "isAllowed", desc := "(I)Z" } : Jvm.MethodName)) ∈ lw_tbl := lw_at lw_m7 234 rfl
theorem q1729 : (Jvm.Cond.instanceMethod ({ cls := "GridMarketModel", name := "isAllowed", desc := "(I)Z" } : Jvm.MethodName)) ∈ lw_all := lw_g (lw_at lw_m7 235 rfl) rfl
theorem q1730 : (Jvm.Cond.code ({ cls := "GridMarketModel", name := "isAllowed", desc := "(I)Z" } : Jvm.MethodName) prog_15_method_23_code (6 : Nat) (Option.some Jvm.ClassFile.FieldType.boolean)) ∈ lw_all := lw_g (lw_at lw_m7 236 rfl) rfl
theorem q1731 : (Jvm.Cond.methodLink "GridMarketModel" (281 : Nat) ({ cls := "GridMarketModel", name := "tries", desc := "(I)I" } : Jvm.MethodName)) ∈ lw_all := lw_g (lw_at lw_m7 237 rfl) rfl
theorem q1732 : (Jvm.Cond.privateMethod ({ cls := "GridMarketModel", name := "tries", desc := "(I)I" } : Jvm.MethodName)) ∈ lw_tbl := lw_at lw_m7 238 rfl
theorem q1733 : (Jvm.Cond.instanceMethod ({ cls := "GridMarketModel", name := "tries", desc := "(I)I" } : Jvm.MethodName)) ∈ lw_all := lw_g (lw_at lw_m7 239 rfl) rfl
theorem q1734 : (Jvm.Cond.code ({ cls := "GridMarketModel", name := "tries", desc := "(I)I" } : Jvm.MethodName) prog_15_method_29_code (7 : Nat) (Option.some Jvm.ClassFile.FieldType.int)) ∈ lw_all := lw_g (lw_at lw_m8 0 rfl) rfl
theorem q1735 : (Jvm.Cond.methodLink "GridMarketModel" (251 : Nat) ({ cls := "GridMarketModel", name := "lays", desc := "(I)V" } : Jvm.MethodName)) ∈ lw_all := lw_g (lw_at lw_m8 1 rfl) rfl
theorem q1736 : (Jvm.Cond.privateMethod ({ cls := "GridMarketModel", name := "lays", desc := "(I)V" } : Jvm.MethodName)) ∈ lw_tbl := lw_at lw_m8 2 rfl
theorem q1737 : (Jvm.Cond.instanceMethod ({ cls := "GridMarketModel", name := "lays", desc := "(I)V" } : Jvm.MethodName)) ∈ lw_all := lw_g (lw_at lw_m8 3 rfl) rfl
theorem q1738 : (Jvm.Cond.code ({ cls := "GridMarketModel", name := "lays", desc := "(I)V" } : Jvm.MethodName) prog_15_method_27_code (5 : Nat) (Option.none : Option Jvm.ClassFile.FieldType)) ∈ lw_all := lw_g (lw_at lw_m8 4 rfl) rfl
theorem q1739 : (Jvm.Cond.methodLink "GridMarketModel" (255 : Nat) ({ cls := "GridMarketModel", name := "worthOfBlocks", desc := "(I)I" } : Jvm.MethodName)) ∈ lw_all := lw_g (lw_at lw_m8 5 rfl) rfl
theorem q1740 : (Jvm.Cond.privateMethod ({ cls := "GridMarketModel", name := "worthOfBlocks", desc := "(I)I" } : Jvm.MethodName)) ∈ lw_tbl := lw_at lw_m8 6 rfl
theorem q1741 : (Jvm.Cond.instanceMethod ({ cls := "GridMarketModel", name := "worthOfBlocks", desc := "(I)I" } : Jvm.MethodName)) ∈ lw_all := lw_g (lw_at lw_m8 7 rfl) rfl
theorem q1742 : (Jvm.Cond.code ({ cls := "GridMarketModel", name := "worthOfBlocks", desc := "(I)I" } : Jvm.MethodName) prog_15_method_28_code (5 : Nat) (Option.some Jvm.ClassFile.FieldType.int)) ∈ lw_all := lw_g (lw_at lw_m8 8 rfl) rfl
theorem q1743 : (Jvm.Cond.methodLink "GridMarketModel" (248 : Nat) ({ cls := "GridMarketModel", name := "hoursOf", desc := "(I)I" } : Jvm.MethodName)) ∈ lw_all := lw_g (lw_at lw_m8 9 rfl) rfl
theorem q1744 : (Jvm.Cond.privateMethod ({ cls := "GridMarketModel", name := "hoursOf", desc := "(I)I" } : Jvm.MethodName)) ∈ lw_tbl := lw_at lw_m8 10 rfl
theorem q1745 : (Jvm.Cond.instanceMethod ({ cls := "GridMarketModel", name := "hoursOf", desc := "(I)I" } : Jvm.MethodName)) ∈ lw_all := lw_g (lw_at lw_m8 11 rfl) rfl
theorem q1746 : (Jvm.Cond.code ({ cls := "GridMarketModel", name := "hoursOf", desc := "(I)I" } : Jvm.MethodName) prog_15_method_25_code (4 : Nat) (Option.some Jvm.ClassFile.FieldType.int)) ∈ lw_all := lw_g (lw_at lw_m8 12 rfl) rfl
theorem q1747 : (Jvm.Cond.methodLink "GridMarketModel" (258 : Nat) ({ cls := "GridMarketModel", name := "most", desc := "(II)I" } : Jvm.MethodName)) ∈ lw_all := lw_g (lw_at lw_m8 13 rfl) rfl
theorem q1748 : (Jvm.Cond.privateMethod ({ cls := "GridMarketModel", name := "most", desc := "(II)I" } : Jvm.MethodName)) ∈ lw_tbl := lw_at lw_m8 14 rfl
theorem q1749 : (Jvm.Cond.instanceMethod ({ cls := "GridMarketModel", name := "most", desc := "(II)I" } : Jvm.MethodName)) ∈ lw_all := lw_g (lw_at lw_m8 15 rfl) rfl
theorem q1750 : (Jvm.Cond.code ({ cls := "GridMarketModel", name := "most", desc := "(II)I" } : Jvm.MethodName) prog_15_method_22_code (12 : Nat) (Option.some Jvm.ClassFile.FieldType.int)) ∈ lw_all := lw_g (lw_at lw_m8 16 rfl) rfl
theorem q1751 : (Jvm.Cond.methodLink "GridMarketModel" (228 : Nat) ({ cls := "GridMarketModel", name := "fits", desc := "(III)Z" } : Jvm.MethodName)) ∈ lw_all := lw_g (lw_at lw_m8 17 rfl) rfl
theorem q1752 : (Jvm.Cond.privateMethod ({ cls := "GridMarketModel", name := "fits", desc := "(III)Z" } : Jvm.MethodName)) ∈ lw_tbl := lw_at lw_m8 18 rfl
theorem q1753 : (Jvm.Cond.instanceMethod ({ cls := "GridMarketModel", name := "fits", desc := "(III)Z" } : Jvm.MethodName)) ∈ lw_all := lw_g (lw_at lw_m8 19 rfl) rfl
theorem q1754 : (Jvm.Cond.code ({ cls := "GridMarketModel", name := "fits", desc := "(III)Z" } : Jvm.MethodName) prog_15_method_19_code (4 : Nat) (Option.some Jvm.ClassFile.FieldType.boolean)) ∈ lw_all := lw_g (lw_at lw_m8 20 rfl) rfl
theorem q1755 : (Jvm.Cond.methodLink "GridMarketModel" (224 : Nat) ({ cls := "GridMarketModel", name := "away", desc := "(I)I" } : Jvm.MethodName)) ∈ lw_all := lw_g (lw_at lw_m8 21 rfl) rfl
theorem q1756 : (Jvm.Cond.static ({ cls := "GridMarketModel", name := "away", desc := "(I)I" } : Jvm.MethodName)) ∈ lw_all := lw_g (lw_at lw_m8 22 rfl) rfl
theorem q1757 : (Jvm.Cond.code ({ cls := "GridMarketModel", name := "away", desc := "(I)I" } : Jvm.MethodName) prog_15_method_18_code (1 : Nat) (Option.some Jvm.ClassFile.FieldType.int)) ∈ lw_all := lw_g (lw_at lw_m8 23 rfl) rfl
theorem q1758 : (Jvm.Cond.methodLink "GridMarketModel" (231 : Nat) ({ cls := "GridMarketModel", name := "worthOf", desc := "(III)I" } : Jvm.MethodName)) ∈ lw_all := lw_g (lw_at lw_m8 24 rfl) rfl
theorem q1759 : (Jvm.Cond.privateMethod ({ cls := "GridMarketModel", name := "worthOf", desc := "(III)I" } : Jvm.MethodName)) ∈ lw_tbl := lw_at lw_m8 25 rfl
theorem q1760 : (Jvm.Cond.instanceMethod ({ cls := "GridMarketModel", name := "worthOf", desc := "(III)I" } : Jvm.MethodName)) ∈ lw_all := lw_g (lw_at lw_m8 26 rfl) rfl
theorem q1761 : (Jvm.Cond.code ({ cls := "GridMarketModel", name := "worthOf", desc := "(III)I" } : Jvm.MethodName) prog_15_method_20_code (4 : Nat) (Option.some Jvm.ClassFile.FieldType.int)) ∈ lw_all := lw_g (lw_at lw_m8 27 rfl) rfl
theorem q1762 : (Jvm.Cond.methodLink "GridMarketModel" (234 : Nat) ({ cls := "GridMarketModel", name := "goes", desc := "(II)I" } : Jvm.MethodName)) ∈ lw_all := lw_g (lw_at lw_m8 28 rfl) rfl
theorem q1763 : (Jvm.Cond.static ({ cls := "GridMarketModel", name := "goes", desc := "(II)I" } : Jvm.MethodName)) ∈ lw_all := lw_g (lw_at lw_m8 29 rfl) rfl
theorem q1764 : (Jvm.Cond.code ({ cls := "GridMarketModel", name := "goes", desc := "(II)I" } : Jvm.MethodName) prog_15_method_21_code (3 : Nat) (Option.some Jvm.ClassFile.FieldType.int)) ∈ lw_all := lw_g (lw_at lw_m8 30 rfl) rfl
theorem q1765 : (Jvm.Cond.methodLink "GridMarketModel" (261 : Nat) ({ cls := "GridMarketModel", name := "gainOf", desc := "(I[II)I" } : Jvm.MethodName)) ∈ lw_all := lw_g (lw_at lw_m8 31 rfl) rfl
theorem q1766 : (Jvm.Cond.privateMethod ({ cls := "GridMarketModel", name := "gainOf", desc := "(I[II)I" } : Jvm.MethodName)) ∈ lw_tbl := lw_at lw_m8 32 rfl
theorem q1767 : (Jvm.Cond.instanceMethod ({ cls := "GridMarketModel", name := "gainOf", desc := "(I[II)I" } : Jvm.MethodName)) ∈ lw_all := lw_g (lw_at lw_m8 33 rfl) rfl
theorem q1768 : (Jvm.Cond.code ({ cls := "GridMarketModel", name := "gainOf", desc := "(I[II)I" } : Jvm.MethodName) prog_15_method_26_code (5 : Nat) (Option.some Jvm.ClassFile.FieldType.int)) ∈ lw_all := lw_g (lw_at lw_m8 34 rfl) rfl
theorem q1769 : (Jvm.Cond.methodLink "GridMarketModel" (244 : Nat) ({ cls := "GridMarketModel", name := "pricesOf", desc := "(I[II)I" } : Jvm.MethodName)) ∈ lw_all := lw_g (lw_at lw_m8 35 rfl) rfl
theorem q1770 : (Jvm.Cond.privateMethod ({ cls := "GridMarketModel", name := "pricesOf", desc := "(I[II)I" } : Jvm.MethodName)) ∈ lw_tbl := lw_at lw_m8 36 rfl
theorem q1771 : (Jvm.Cond.instanceMethod ({ cls := "GridMarketModel", name := "pricesOf", desc := "(I[II)I" } : Jvm.MethodName)) ∈ lw_all := lw_g (lw_at lw_m8 37 rfl) rfl
theorem q1772 : (Jvm.Cond.code ({ cls := "GridMarketModel", name := "pricesOf", desc := "(I[II)I" } : Jvm.MethodName) prog_15_method_24_code (6 : Nat) (Option.some Jvm.ClassFile.FieldType.int)) ∈ lw_all := lw_g (lw_at lw_m8 38 rfl) rfl
theorem q1773 : (Jvm.Cond.methodLink "GridMarketModel" (284 : Nat) ({ cls := "GridMarketModel", name := "takesHour", desc := "(II)V" } : Jvm.MethodName)) ∈ lw_all := lw_g (lw_at lw_m8 39 rfl) rfl
theorem q1774 : (Jvm.Cond.privateMethod ({ cls := "GridMarketModel", name := "takesHour", desc := "(II)V" } : Jvm.MethodName)) ∈ lw_tbl := lw_at lw_m8 40 rfl
theorem q1775 : (Jvm.Cond.instanceMethod ({ cls := "GridMarketModel", name := "takesHour", desc := "(II)V" } : Jvm.MethodName)) ∈ lw_all := lw_g (lw_at lw_m8 41 rfl) rfl
theorem q1776 : (Jvm.Cond.code ({ cls := "GridMarketModel", name := "takesHour", desc := "(II)V" } : Jvm.MethodName) prog_15_method_33_code (6 : Nat) (Option.none : Option Jvm.ClassFile.FieldType)) ∈ lw_all := lw_g (lw_at lw_m8 42 rfl) rfl
theorem q1777 : (Jvm.Cond.methodLink "GridMarketModel" (267 : Nat) ({ cls := "GridMarketModel", name := "takes", desc := "(IIII)V" } : Jvm.MethodName)) ∈ lw_all := lw_g (lw_at lw_m8 43 rfl) rfl
theorem q1778 : (Jvm.Cond.privateMethod ({ cls := "GridMarketModel", name := "takes", desc := "(IIII)V" } : Jvm.MethodName)) ∈ lw_tbl := lw_at lw_m8 44 rfl
theorem q1779 : (Jvm.Cond.instanceMethod ({ cls := "GridMarketModel", name := "takes", desc := "(IIII)V" } : Jvm.MethodName)) ∈ lw_all := lw_g (lw_at lw_m8 45 rfl) rfl
theorem q1780 : (Jvm.Cond.code ({ cls := "GridMarketModel", name := "takes", desc := "(IIII)V" } : Jvm.MethodName) prog_15_method_30_code (7 : Nat) (Option.none : Option Jvm.ClassFile.FieldType)) ∈ lw_all := lw_g (lw_at lw_m8 46 rfl) rfl
theorem q1781 : (Jvm.Cond.methodLink "GridMarketModel" (287 : Nat) ({ cls := "GridMarketModel", name := "trades", desc := "(IIIII)V" } : Jvm.MethodName)) ∈ lw_all := lw_g (lw_at lw_m8 47 rfl) rfl
theorem q1782 : (Jvm.Cond.privateMethod ({ cls := "GridMarketModel", name := "trades", desc := "(IIIII)V" } : Jvm.MethodName)) ∈ lw_tbl := lw_at lw_m8 48 rfl
theorem q1783 : (Jvm.Cond.instanceMethod ({ cls := "GridMarketModel", name := "trades", desc := "(IIIII)V" } : Jvm.MethodName)) ∈ lw_all := lw_g (lw_at lw_m8 49 rfl) rfl
theorem q1784 : (Jvm.Cond.code ({ cls := "GridMarketModel", name := "trades", desc := "(IIIII)V" } : Jvm.MethodName) prog_15_method_31_code (6 : Nat) (Option.none : Option Jvm.ClassFile.FieldType)) ∈ lw_all := lw_g (lw_at lw_m8 50 rfl) rfl
theorem q1785 : (Jvm.Cond.methodLink "GridMarketModel" (291 : Nat) ({ cls := "GridMarketModel", name := "givesRights", desc := "(II)V" } : Jvm.MethodName)) ∈ lw_all := lw_g (lw_at lw_m8 51 rfl) rfl
theorem q1786 : (Jvm.Cond.privateMethod ({ cls := "GridMarketModel", name := "givesRights", desc := "(II)V" } : Jvm.MethodName)) ∈ lw_tbl := lw_at lw_m8 52 rfl
theorem q1787 : (Jvm.Cond.instanceMethod ({ cls := "GridMarketModel", name := "givesRights", desc := "(II)V" } : Jvm.MethodName)) ∈ lw_all := lw_g (lw_at lw_m8 53 rfl) rfl
theorem q1788 : (Jvm.Cond.code ({ cls := "GridMarketModel", name := "givesRights", desc := "(II)V" } : Jvm.MethodName) prog_15_method_32_code (9 : Nat) (Option.none : Option Jvm.ClassFile.FieldType)) ∈ lw_all := lw_g (lw_at lw_m8 54 rfl) rfl
theorem q1790 : (Jvm.Cond.instanceMethod ({ cls := "GridMarketModel", name := "offer", desc := "(IIIZII)I" } : Jvm.MethodName)) ∈ lw_all := lw_g (lw_at lw_m8 56 rfl) rfl
theorem q1791 : (Jvm.Cond.selects "GridMarketModel" ({ cls := "GridMarketModel", name := "offer", desc := "(IIIZII)I" } : Jvm.MethodName) ({ cls := "GridMarketModel", name := "offer", desc := "(IIIZII)I" } : Jvm.MethodName)) ∈ lw_all := lw_g (lw_at lw_m8 57 rfl) rfl
theorem q1792 : (Jvm.Cond.code ({ cls := "GridMarketModel", name := "offer", desc := "(IIIZII)I" } : Jvm.MethodName) prog_15_method_38_code (9 : Nat) (Option.some Jvm.ClassFile.FieldType.int)) ∈ lw_all := lw_g (lw_at lw_m8 58 rfl) rfl
theorem q1793 : (Jvm.Cond.methodLink "GridMarketModel" (301 : Nat) ({ cls := "GridMarketModel", name := "restFor", desc := "(I)I" } : Jvm.MethodName)) ∈ lw_all := lw_g (lw_at lw_m8 59 rfl) rfl
theorem q1794 : (Jvm.Cond.privateMethod ({ cls := "GridMarketModel", name := "restFor", desc := "(I)I" } : Jvm.MethodName)) ∈ lw_tbl := lw_at lw_m8 60 rfl
theorem q1795 : (Jvm.Cond.instanceMethod ({ cls := "GridMarketModel", name := "restFor", desc := "(I)I" } : Jvm.MethodName)) ∈ lw_all := lw_g (lw_at lw_m8 61 rfl) rfl
theorem q1796 : (Jvm.Cond.code ({ cls := "GridMarketModel", name := "restFor", desc := "(I)I" } : Jvm.MethodName) prog_15_method_36_code (6 : Nat) (Option.some Jvm.ClassFile.FieldType.int)) ∈ lw_all := lw_g (lw_at lw_m8 62 rfl) rfl
theorem q1797 : (Jvm.Cond.methodLink "GridMarketModel" (304 : Nat) ({ cls := "GridMarketModel", name := "meets", desc := "(II)V" } : Jvm.MethodName)) ∈ lw_all := lw_g (lw_at lw_m8 63 rfl) rfl
theorem q1798 : (Jvm.Cond.privateMethod ({ cls := "GridMarketModel", name := "meets", desc := "(II)V" } : Jvm.MethodName)) ∈ lw_tbl := lw_at lw_m8 64 rfl
theorem q1799 : (Jvm.Cond.instanceMethod ({ cls := "GridMarketModel", name := "meets", desc := "(II)V" } : Jvm.MethodName)) ∈ lw_all := lw_g (lw_at lw_m8 65 rfl) rfl
theorem q1800 : (Jvm.Cond.code ({ cls := "GridMarketModel", name := "meets", desc := "(II)V" } : Jvm.MethodName) prog_15_method_37_code (8 : Nat) (Option.none : Option Jvm.ClassFile.FieldType)) ∈ lw_all := lw_g (lw_at lw_m8 66 rfl) rfl
theorem q1801 : (Jvm.Cond.methodLink "GridMarketModel" (294 : Nat) ({ cls := "GridMarketModel", name := "room", desc := "(IIII)I" } : Jvm.MethodName)) ∈ lw_all := lw_g (lw_at lw_m8 67 rfl) rfl
theorem q1802 : (Jvm.Cond.privateMethod ({ cls := "GridMarketModel", name := "room", desc := "(IIII)I" } : Jvm.MethodName)) ∈ lw_tbl := lw_at lw_m8 68 rfl
theorem q1803 : (Jvm.Cond.instanceMethod ({ cls := "GridMarketModel", name := "room", desc := "(IIII)I" } : Jvm.MethodName)) ∈ lw_all := lw_g (lw_at lw_m8 69 rfl) rfl
theorem q1804 : (Jvm.Cond.code ({ cls := "GridMarketModel", name := "room", desc := "(IIII)I" } : Jvm.MethodName) prog_15_method_35_code (7 : Nat) (Option.some Jvm.ClassFile.FieldType.int)) ∈ lw_all := lw_g (lw_at lw_m8 70 rfl) rfl
theorem q1806 : (Jvm.Cond.instanceMethod ({ cls := "GridMarketModel", name := "takeBack", desc := "(I)I" } : Jvm.MethodName)) ∈ lw_all := lw_g (lw_at lw_m8 72 rfl) rfl
theorem q1807 : (Jvm.Cond.selects "GridMarketModel" ({ cls := "GridMarketModel", name := "takeBack", desc := "(I)I" } : Jvm.MethodName) ({ cls := "GridMarketModel", name := "takeBack", desc := "(I)I" } : Jvm.MethodName)) ∈ lw_all := lw_g (lw_at lw_m8 73 rfl) rfl
theorem q1808 : (Jvm.Cond.code ({ cls := "GridMarketModel", name := "takeBack", desc := "(I)I" } : Jvm.MethodName) prog_15_method_39_code (3 : Nat) (Option.some Jvm.ClassFile.FieldType.int)) ∈ lw_all := lw_g (lw_at lw_m8 74 rfl) rfl
theorem q1810 : (Jvm.Cond.instanceMethod ({ cls := "GridMarketModel", name := "aid", desc := "(IIZII)I" } : Jvm.MethodName)) ∈ lw_all := lw_g (lw_at lw_m8 76 rfl) rfl
theorem q1811 : (Jvm.Cond.selects "GridMarketModel" ({ cls := "GridMarketModel", name := "aid", desc := "(IIZII)I" } : Jvm.MethodName) ({ cls := "GridMarketModel", name := "aid", desc := "(IIZII)I" } : Jvm.MethodName)) ∈ lw_all := lw_g (lw_at lw_m8 77 rfl) rfl
theorem q1812 : (Jvm.Cond.code ({ cls := "GridMarketModel", name := "aid", desc := "(IIZII)I" } : Jvm.MethodName) prog_15_method_40_code (7 : Nat) (Option.some Jvm.ClassFile.FieldType.int)) ∈ lw_all := lw_g (lw_at lw_m8 78 rfl) rfl
theorem q1814 : (Jvm.Cond.instanceMethod ({ cls := "GridMarketModel", name := "close", desc := "()I" } : Jvm.MethodName)) ∈ lw_all := lw_g (lw_at lw_m8 80 rfl) rfl
theorem q1815 : (Jvm.Cond.selects "GridMarketModel" ({ cls := "GridMarketModel", name := "close", desc := "()I" } : Jvm.MethodName) ({ cls := "GridMarketModel", name := "close", desc := "()I" } : Jvm.MethodName)) ∈ lw_all := lw_g (lw_at lw_m8 81 rfl) rfl
theorem q1816 : (Jvm.Cond.code ({ cls := "GridMarketModel", name := "close", desc := "()I" } : Jvm.MethodName) prog_15_method_41_code (1 : Nat) (Option.some Jvm.ClassFile.FieldType.int)) ∈ lw_all := lw_g (lw_at lw_m8 82 rfl) rfl
theorem q1818 : (Jvm.Cond.instanceMethod ({ cls := "GridMarketModel", name := "read", desc := "(IIIII)I" } : Jvm.MethodName)) ∈ lw_all := lw_g (lw_at lw_m8 84 rfl) rfl
theorem q1819 : (Jvm.Cond.selects "GridMarketModel" ({ cls := "GridMarketModel", name := "read", desc := "(IIIII)I" } : Jvm.MethodName) ({ cls := "GridMarketModel", name := "read", desc := "(IIIII)I" } : Jvm.MethodName)) ∈ lw_all := lw_g (lw_at lw_m8 85 rfl) rfl
theorem q1820 : (Jvm.Cond.code ({ cls := "GridMarketModel", name := "read", desc := "(IIIII)I" } : Jvm.MethodName) prog_15_method_44_code (6 : Nat) (Option.some Jvm.ClassFile.FieldType.int)) ∈ lw_all := lw_g (lw_at lw_m8 86 rfl) rfl
theorem q1821 : (Jvm.Cond.methodLink "GridMarketModel" (310 : Nat) ({ cls := "GridMarketModel", name := "isClosed", desc := "(I)Z" } : Jvm.MethodName)) ∈ lw_all := lw_g (lw_at lw_m8 87 rfl) rfl
theorem q1822 : (Jvm.Cond.privateMethod ({ cls := "GridMarketModel", name := "isClosed", desc := "(I)Z" } : Jvm.MethodName)) ∈ lw_tbl := lw_at lw_m8 88 rfl
theorem q1823 : (Jvm.Cond.instanceMethod ({ cls := "GridMarketModel", name := "isClosed", desc := "(I)Z" } : Jvm.MethodName)) ∈ lw_all := lw_g (lw_at lw_m8 89 rfl) rfl
theorem q1824 : (Jvm.Cond.code ({ cls := "GridMarketModel", name := "isClosed", desc := "(I)Z" } : Jvm.MethodName) prog_15_method_7_code (2 : Nat) (Option.some Jvm.ClassFile.FieldType.boolean)) ∈ lw_all := lw_g (lw_at lw_m8 90 rfl) rfl
theorem q1825 : (Jvm.Cond.methodLink "GridMarketModel" (307 : Nat) ({ cls := "GridMarketModel", name := "placeOf", desc := "(IIII)I" } : Jvm.MethodName)) ∈ lw_all := lw_g (lw_at lw_m8 91 rfl) rfl
theorem q1826 : (Jvm.Cond.static ({ cls := "GridMarketModel", name := "placeOf", desc := "(IIII)I" } : Jvm.MethodName)) ∈ lw_all := lw_g (lw_at lw_m8 92 rfl) rfl
theorem q1827 : (Jvm.Cond.code ({ cls := "GridMarketModel", name := "placeOf", desc := "(IIII)I" } : Jvm.MethodName) prog_15_method_42_code (4 : Nat) (Option.some Jvm.ClassFile.FieldType.int)) ∈ lw_all := lw_g (lw_at lw_m8 93 rfl) rfl
theorem q1828 : (Jvm.Cond.methodLink "GridMarketModel" (313 : Nat) ({ cls := "GridMarketModel", name := "gapOf", desc := "(IIII)I" } : Jvm.MethodName)) ∈ lw_all := lw_g (lw_at lw_m8 94 rfl) rfl
theorem q1829 : (Jvm.Cond.privateMethod ({ cls := "GridMarketModel", name := "gapOf", desc := "(IIII)I" } : Jvm.MethodName)) ∈ lw_tbl := lw_at lw_m8 95 rfl
theorem q1830 : (Jvm.Cond.instanceMethod ({ cls := "GridMarketModel", name := "gapOf", desc := "(IIII)I" } : Jvm.MethodName)) ∈ lw_all := lw_g (lw_at lw_m8 96 rfl) rfl
theorem q1831 : (Jvm.Cond.code ({ cls := "GridMarketModel", name := "gapOf", desc := "(IIII)I" } : Jvm.MethodName) prog_15_method_43_code (6 : Nat) (Option.some Jvm.ClassFile.FieldType.int)) ∈ lw_all := lw_g (lw_at lw_m8 97 rfl) rfl
theorem q1833 : (Jvm.Cond.instanceMethod ({ cls := "GridMarketModel", name := "run", desc := "(I)I" } : Jvm.MethodName)) ∈ lw_all := lw_g (lw_at lw_m8 99 rfl) rfl
theorem q1834 : (Jvm.Cond.selects "GridMarketModel" ({ cls := "GridMarketModel", name := "run", desc := "(I)I" } : Jvm.MethodName) ({ cls := "GridMarketModel", name := "run", desc := "(I)I" } : Jvm.MethodName)) ∈ lw_all := lw_g (lw_at lw_m8 100 rfl) rfl
theorem q1835 : (Jvm.Cond.code ({ cls := "GridMarketModel", name := "run", desc := "(I)I" } : Jvm.MethodName) prog_15_method_53_code (4 : Nat) (Option.some Jvm.ClassFile.FieldType.int)) ∈ lw_all := lw_g (lw_at lw_m8 101 rfl) rfl
theorem q1836 : (Jvm.Cond.methodLink "GridMarketModel" (334 : Nat) ({ cls := "GridMarketModel", name := "billOf", desc := "(II)I" } : Jvm.MethodName)) ∈ lw_all := lw_g (lw_at lw_m8 102 rfl) rfl
theorem q1837 : (Jvm.Cond.privateMethod ({ cls := "GridMarketModel", name := "billOf", desc := "(II)I" } : Jvm.MethodName)) ∈ lw_tbl := lw_at lw_m8 103 rfl
theorem q1838 : (Jvm.Cond.instanceMethod ({ cls := "GridMarketModel", name := "billOf", desc := "(II)I" } : Jvm.MethodName)) ∈ lw_all := lw_g (lw_at lw_m8 104 rfl) rfl
theorem q1839 : (Jvm.Cond.code ({ cls := "GridMarketModel", name := "billOf", desc := "(II)I" } : Jvm.MethodName) prog_15_method_50_code (5 : Nat) (Option.some Jvm.ClassFile.FieldType.int)) ∈ lw_all := lw_g (lw_at lw_m8 105 rfl) rfl
theorem q1840 : (Jvm.Cond.methodLink "GridMarketModel" (328 : Nat) ({ cls := "GridMarketModel", name := "balances", desc := "(III)I" } : Jvm.MethodName)) ∈ lw_all := lw_g (lw_at lw_m8 106 rfl) rfl
theorem q1841 : (Jvm.Cond.privateMethod ({ cls := "GridMarketModel", name := "balances", desc := "(III)I" } : Jvm.MethodName)) ∈ lw_tbl := lw_at lw_m8 107 rfl
theorem q1842 : (Jvm.Cond.instanceMethod ({ cls := "GridMarketModel", name := "balances", desc := "(III)I" } : Jvm.MethodName)) ∈ lw_all := lw_g (lw_at lw_m8 108 rfl) rfl
theorem q1843 : (Jvm.Cond.code ({ cls := "GridMarketModel", name := "balances", desc := "(III)I" } : Jvm.MethodName) prog_15_method_49_code (10 : Nat) (Option.some Jvm.ClassFile.FieldType.int)) ∈ lw_all := lw_g (lw_at lw_m8 109 rfl) rfl
theorem q1844 : (Jvm.Cond.methodLink "GridMarketModel" (325 : Nat) ({ cls := "GridMarketModel", name := "helps", desc := "(II)I" } : Jvm.MethodName)) ∈ lw_all := lw_g (lw_at lw_m8 110 rfl) rfl
theorem q1845 : (Jvm.Cond.privateMethod ({ cls := "GridMarketModel", name := "helps", desc := "(II)I" } : Jvm.MethodName)) ∈ lw_tbl := lw_at lw_m8 111 rfl
theorem q1846 : (Jvm.Cond.instanceMethod ({ cls := "GridMarketModel", name := "helps", desc := "(II)I" } : Jvm.MethodName)) ∈ lw_all := lw_g (lw_at lw_m8 112 rfl) rfl
theorem q1847 : (Jvm.Cond.code ({ cls := "GridMarketModel", name := "helps", desc := "(II)I" } : Jvm.MethodName) prog_15_method_48_code (11 : Nat) (Option.some Jvm.ClassFile.FieldType.int)) ∈ lw_all := lw_g (lw_at lw_m8 113 rfl) rfl
theorem q1848 : (Jvm.Cond.methodLink "GridMarketModel" (316 : Nat) ({ cls := "GridMarketModel", name := "gapIn", desc := "(II)I" } : Jvm.MethodName)) ∈ lw_all := lw_g (lw_at lw_m8 114 rfl) rfl
theorem q1849 : (Jvm.Cond.privateMethod ({ cls := "GridMarketModel", name := "gapIn", desc := "(II)I" } : Jvm.MethodName)) ∈ lw_tbl := lw_at lw_m8 115 rfl
theorem q1850 : (Jvm.Cond.instanceMethod ({ cls := "GridMarketModel", name := "gapIn", desc := "(II)I" } : Jvm.MethodName)) ∈ lw_all := lw_g (lw_at lw_m8 116 rfl) rfl
theorem q1851 : (Jvm.Cond.code ({ cls := "GridMarketModel", name := "gapIn", desc := "(II)I" } : Jvm.MethodName) prog_15_method_45_code (6 : Nat) (Option.some Jvm.ClassFile.FieldType.int)) ∈ lw_all := lw_g (lw_at lw_m8 117 rfl) rfl
theorem q1852 : (Jvm.Cond.methodLink "GridMarketModel" (319 : Nat) ({ cls := "GridMarketModel", name := "lesser", desc := "(II)I" } : Jvm.MethodName)) ∈ lw_all := lw_g (lw_at lw_m8 118 rfl) rfl
theorem q1853 : (Jvm.Cond.static ({ cls := "GridMarketModel", name := "lesser", desc := "(II)I" } : Jvm.MethodName)) ∈ lw_all := lw_g (lw_at lw_m8 119 rfl) rfl
theorem q1854 : (Jvm.Cond.code ({ cls := "GridMarketModel", name := "lesser", desc := "(II)I" } : Jvm.MethodName) prog_15_method_46_code (2 : Nat) (Option.some Jvm.ClassFile.FieldType.int)) ∈ lw_all := lw_g (lw_at lw_m8 120 rfl) rfl
theorem q1855 : (Jvm.Cond.methodLink "GridMarketModel" (322 : Nat) ({ cls := "GridMarketModel", name := "greater", desc := "(II)I" } : Jvm.MethodName)) ∈ lw_all := lw_g (lw_at lw_m8 121 rfl) rfl
theorem q1856 : (Jvm.Cond.static ({ cls := "GridMarketModel", name := "greater", desc := "(II)I" } : Jvm.MethodName)) ∈ lw_all := lw_g (lw_at lw_m8 122 rfl) rfl
theorem q1857 : (Jvm.Cond.code ({ cls := "GridMarketModel", name := "greater", desc := "(II)I" } : Jvm.MethodName) prog_15_method_47_code (2 : Nat) (Option.some Jvm.ClassFile.FieldType.int)) ∈ lw_all := lw_g (lw_at lw_m8 123 rfl) rfl
theorem q1858 : (Jvm.Cond.methodLink "GridMarketModel" (337 : Nat) ({ cls := "GridMarketModel", name := "lowestBelow", desc := "()I" } : Jvm.MethodName)) ∈ lw_all := lw_g (lw_at lw_m8 124 rfl) rfl
theorem q1859 : (Jvm.Cond.privateMethod ({ cls := "GridMarketModel", name := "lowestBelow", desc := "()I" } : Jvm.MethodName)) ∈ lw_tbl := lw_at lw_m8 125 rfl
theorem q1860 : (Jvm.Cond.instanceMethod ({ cls := "GridMarketModel", name := "lowestBelow", desc := "()I" } : Jvm.MethodName)) ∈ lw_all := lw_g (lw_at lw_m8 126 rfl) rfl
theorem q1861 : (Jvm.Cond.code ({ cls := "GridMarketModel", name := "lowestBelow", desc := "()I" } : Jvm.MethodName) prog_15_method_51_code (2 : Nat) (Option.some Jvm.ClassFile.FieldType.int)) ∈ lw_all := lw_g (lw_at lw_m8 127 rfl) rfl
theorem q1862 : (Jvm.Cond.methodLink "GridMarketModel" (341 : Nat) ({ cls := "GridMarketModel", name := "fails", desc := "(I)V" } : Jvm.MethodName)) ∈ lw_all := lw_g (lw_at lw_m8 128 rfl) rfl
theorem q1863 : (Jvm.Cond.privateMethod ({ cls := "GridMarketModel", name := "fails", desc := "(I)V" } : Jvm.MethodName)) ∈ lw_tbl := lw_at lw_m8 129 rfl
theorem q1864 : (Jvm.Cond.instanceMethod ({ cls := "GridMarketModel", name := "fails", desc := "(I)V" } : Jvm.MethodName)) ∈ lw_all := lw_g (lw_at lw_m8 130 rfl) rfl
theorem q1865 : (Jvm.Cond.code ({ cls := "GridMarketModel", name := "fails", desc := "(I)V" } : Jvm.MethodName) prog_15_method_52_code (10 : Nat) (Option.none : Option Jvm.ClassFile.FieldType)) ∈ lw_all := lw_g (lw_at lw_m8 131 rfl) rfl
theorem q1867 : (Jvm.Cond.instanceMethod ({ cls := "GridMarketModel", name := "day", desc := "()I" } : Jvm.MethodName)) ∈ lw_all := lw_g (lw_at lw_m8 133 rfl) rfl
theorem q1868 : (Jvm.Cond.selects "GridMarketModel" ({ cls := "GridMarketModel", name := "day", desc := "()I" } : Jvm.MethodName) ({ cls := "GridMarketModel", name := "day", desc := "()I" } : Jvm.MethodName)) ∈ lw_all := lw_g (lw_at lw_m8 134 rfl) rfl
theorem q1869 : (Jvm.Cond.code ({ cls := "GridMarketModel", name := "day", desc := "()I" } : Jvm.MethodName) prog_15_method_54_code (1 : Nat) (Option.some Jvm.ClassFile.FieldType.int)) ∈ lw_all := lw_g (lw_at lw_m8 135 rfl) rfl
theorem q1871 : (Jvm.Cond.instanceMethod ({ cls := "GridMarketModel", name := "phase", desc := "()I" } : Jvm.MethodName)) ∈ lw_all := lw_g (lw_at lw_m8 137 rfl) rfl
theorem q1872 : (Jvm.Cond.selects "GridMarketModel" ({ cls := "GridMarketModel", name := "phase", desc := "()I" } : Jvm.MethodName) ({ cls := "GridMarketModel", name := "phase", desc := "()I" } : Jvm.MethodName)) ∈ lw_all := lw_g (lw_at lw_m8 138 rfl) rfl
theorem q1873 : (Jvm.Cond.code ({ cls := "GridMarketModel", name := "phase", desc := "()I" } : Jvm.MethodName) prog_15_method_55_code (1 : Nat) (Option.some Jvm.ClassFile.FieldType.int)) ∈ lw_all := lw_g (lw_at lw_m8 139 rfl) rfl
theorem q1875 : (Jvm.Cond.instanceMethod ({ cls := "GridMarketModel", name := "price", desc := "(II)I" } : Jvm.MethodName)) ∈ lw_all := lw_g (lw_at lw_m8 141 rfl) rfl
theorem q1876 : (Jvm.Cond.selects "GridMarketModel" ({ cls := "GridMarketModel", name := "price", desc := "(II)I" } : Jvm.MethodName) ({ cls := "GridMarketModel", name := "price", desc := "(II)I" } : Jvm.MethodName)) ∈ lw_all := lw_g (lw_at lw_m8 142 rfl) rfl
theorem q1877 : (Jvm.Cond.code ({ cls := "GridMarketModel", name := "price", desc := "(II)I" } : Jvm.MethodName) prog_15_method_57_code (3 : Nat) (Option.some Jvm.ClassFile.FieldType.int)) ∈ lw_all := lw_g (lw_at lw_m8 143 rfl) rfl
theorem q1878 : (Jvm.Cond.methodLink "GridMarketModel" (344 : Nat) ({ cls := "GridMarketModel", name := "isThere", desc := "(Z)Z" } : Jvm.MethodName)) ∈ lw_all := lw_g (lw_at lw_m8 144 rfl) rfl
theorem q1879 : (Jvm.Cond.privateMethod ({ cls := "GridMarketModel", name := "isThere", desc := "(Z)Z" } : Jvm.MethodName)) ∈ lw_tbl := lw_at lw_m8 145 rfl
theorem q1880 : (Jvm.Cond.instanceMethod ({ cls := "GridMarketModel", name := "isThere", desc := "(Z)Z" } : Jvm.MethodName)) ∈ lw_all := lw_g (lw_at lw_m8 146 rfl) rfl
theorem q1881 : (Jvm.Cond.code ({ cls := "GridMarketModel", name := "isThere", desc := "(Z)Z" } : Jvm.MethodName) prog_15_method_56_code (2 : Nat) (Option.some Jvm.ClassFile.FieldType.boolean)) ∈ lw_all := lw_g (lw_at lw_m8 147 rfl) rfl
theorem q1883 : (Jvm.Cond.instanceMethod ({ cls := "GridMarketModel", name := "net", desc := "(II)I" } : Jvm.MethodName)) ∈ lw_all := lw_g (lw_at lw_m8 149 rfl) rfl
theorem q1884 : (Jvm.Cond.selects "GridMarketModel" ({ cls := "GridMarketModel", name := "net", desc := "(II)I" } : Jvm.MethodName) ({ cls := "GridMarketModel", name := "net", desc := "(II)I" } : Jvm.MethodName)) ∈ lw_all := lw_g (lw_at lw_m8 150 rfl) rfl
theorem q1885 : (Jvm.Cond.code ({ cls := "GridMarketModel", name := "net", desc := "(II)I" } : Jvm.MethodName) prog_15_method_58_code (3 : Nat) (Option.some Jvm.ClassFile.FieldType.int)) ∈ lw_all := lw_g (lw_at lw_m8 151 rfl) rfl
theorem q1887 : (Jvm.Cond.instanceMethod ({ cls := "GridMarketModel", name := "flow", desc := "(II)I" } : Jvm.MethodName)) ∈ lw_all := lw_g (lw_at lw_m8 153 rfl) rfl
theorem q1888 : (Jvm.Cond.selects "GridMarketModel" ({ cls := "GridMarketModel", name := "flow", desc := "(II)I" } : Jvm.MethodName) ({ cls := "GridMarketModel", name := "flow", desc := "(II)I" } : Jvm.MethodName)) ∈ lw_all := lw_g (lw_at lw_m8 154 rfl) rfl
theorem q1889 : (Jvm.Cond.code ({ cls := "GridMarketModel", name := "flow", desc := "(II)I" } : Jvm.MethodName) prog_15_method_59_code (3 : Nat) (Option.some Jvm.ClassFile.FieldType.int)) ∈ lw_all := lw_g (lw_at lw_m8 155 rfl) rfl
theorem q1891 : (Jvm.Cond.instanceMethod ({ cls := "GridMarketModel", name := "taken", desc := "(I)I" } : Jvm.MethodName)) ∈ lw_all := lw_g (lw_at lw_m8 157 rfl) rfl
theorem q1892 : (Jvm.Cond.selects "GridMarketModel" ({ cls := "GridMarketModel", name := "taken", desc := "(I)I" } : Jvm.MethodName) ({ cls := "GridMarketModel", name := "taken", desc := "(I)I" } : Jvm.MethodName)) ∈ lw_all := lw_g (lw_at lw_m8 158 rfl) rfl
theorem q1893 : (Jvm.Cond.code ({ cls := "GridMarketModel", name := "taken", desc := "(I)I" } : Jvm.MethodName) prog_15_method_60_code (2 : Nat) (Option.some Jvm.ClassFile.FieldType.int)) ∈ lw_all := lw_g (lw_at lw_m8 159 rfl) rfl
theorem q1895 : (Jvm.Cond.instanceMethod ({ cls := "GridMarketModel", name := "isTaken", desc := "(I)Z" } : Jvm.MethodName)) ∈ lw_all := lw_g (lw_at lw_m8 161 rfl) rfl
theorem q1896 : (Jvm.Cond.selects "GridMarketModel" ({ cls := "GridMarketModel", name := "isTaken", desc := "(I)Z" } : Jvm.MethodName) ({ cls := "GridMarketModel", name := "isTaken", desc := "(I)Z" } : Jvm.MethodName)) ∈ lw_all := lw_g (lw_at lw_m8 162 rfl) rfl
theorem q1897 : (Jvm.Cond.code ({ cls := "GridMarketModel", name := "isTaken", desc := "(I)Z" } : Jvm.MethodName) prog_15_method_61_code (2 : Nat) (Option.some Jvm.ClassFile.FieldType.boolean)) ∈ lw_all := lw_g (lw_at lw_m8 163 rfl) rfl
theorem q1899 : (Jvm.Cond.instanceMethod ({ cls := "GridMarketModel", name := "gain", desc := "(I)I" } : Jvm.MethodName)) ∈ lw_all := lw_g (lw_at lw_m8 165 rfl) rfl
theorem q1900 : (Jvm.Cond.selects "GridMarketModel" ({ cls := "GridMarketModel", name := "gain", desc := "(I)I" } : Jvm.MethodName) ({ cls := "GridMarketModel", name := "gain", desc := "(I)I" } : Jvm.MethodName)) ∈ lw_all := lw_g (lw_at lw_m8 166 rfl) rfl
theorem q1901 : (Jvm.Cond.code ({ cls := "GridMarketModel", name := "gain", desc := "(I)I" } : Jvm.MethodName) prog_15_method_62_code (2 : Nat) (Option.some Jvm.ClassFile.FieldType.int)) ∈ lw_all := lw_g (lw_at lw_m8 167 rfl) rfl
theorem q1903 : (Jvm.Cond.instanceMethod ({ cls := "GridMarketModel", name := "worthAnew", desc := "()I" } : Jvm.MethodName)) ∈ lw_all := lw_g (lw_at lw_m8 169 rfl) rfl
theorem q1904 : (Jvm.Cond.selects "GridMarketModel" ({ cls := "GridMarketModel", name := "worthAnew", desc := "()I" } : Jvm.MethodName) ({ cls := "GridMarketModel", name := "worthAnew", desc := "()I" } : Jvm.MethodName)) ∈ lw_all := lw_g (lw_at lw_m8 170 rfl) rfl
theorem q1905 : (Jvm.Cond.code ({ cls := "GridMarketModel", name := "worthAnew", desc := "()I" } : Jvm.MethodName) prog_15_method_63_code (3 : Nat) (Option.some Jvm.ClassFile.FieldType.int)) ∈ lw_all := lw_g (lw_at lw_m8 171 rfl) rfl
theorem q1907 : (Jvm.Cond.instanceMethod ({ cls := "GridMarketModel", name := "given", desc := "(I)I" } : Jvm.MethodName)) ∈ lw_all := lw_g (lw_at lw_m8 173 rfl) rfl
theorem q1908 : (Jvm.Cond.selects "GridMarketModel" ({ cls := "GridMarketModel", name := "given", desc := "(I)I" } : Jvm.MethodName) ({ cls := "GridMarketModel", name := "given", desc := "(I)I" } : Jvm.MethodName)) ∈ lw_all := lw_g (lw_at lw_m8 174 rfl) rfl
theorem q1909 : (Jvm.Cond.code ({ cls := "GridMarketModel", name := "given", desc := "(I)I" } : Jvm.MethodName) prog_15_method_64_code (2 : Nat) (Option.some Jvm.ClassFile.FieldType.int)) ∈ lw_all := lw_g (lw_at lw_m8 175 rfl) rfl
theorem q1911 : (Jvm.Cond.instanceMethod ({ cls := "GridMarketModel", name := "left", desc := "(I)I" } : Jvm.MethodName)) ∈ lw_all := lw_g (lw_at lw_m8 177 rfl) rfl
theorem q1912 : (Jvm.Cond.selects "GridMarketModel" ({ cls := "GridMarketModel", name := "left", desc := "(I)I" } : Jvm.MethodName) ({ cls := "GridMarketModel", name := "left", desc := "(I)I" } : Jvm.MethodName)) ∈ lw_all := lw_g (lw_at lw_m8 178 rfl) rfl
theorem q1913 : (Jvm.Cond.code ({ cls := "GridMarketModel", name := "left", desc := "(I)I" } : Jvm.MethodName) prog_15_method_65_code (2 : Nat) (Option.some Jvm.ClassFile.FieldType.int)) ∈ lw_all := lw_g (lw_at lw_m8 179 rfl) rfl
theorem q1915 : (Jvm.Cond.instanceMethod ({ cls := "GridMarketModel", name := "plan", desc := "(IIII)I" } : Jvm.MethodName)) ∈ lw_all := lw_g (lw_at lw_m8 181 rfl) rfl
theorem q1916 : (Jvm.Cond.selects "GridMarketModel" ({ cls := "GridMarketModel", name := "plan", desc := "(IIII)I" } : Jvm.MethodName) ({ cls := "GridMarketModel", name := "plan", desc := "(IIII)I" } : Jvm.MethodName)) ∈ lw_all := lw_g (lw_at lw_m8 182 rfl) rfl
theorem q1917 : (Jvm.Cond.code ({ cls := "GridMarketModel", name := "plan", desc := "(IIII)I" } : Jvm.MethodName) prog_15_method_66_code (5 : Nat) (Option.some Jvm.ClassFile.FieldType.int)) ∈ lw_all := lw_g (lw_at lw_m8 183 rfl) rfl
theorem q1919 : (Jvm.Cond.instanceMethod ({ cls := "GridMarketModel", name := "gap", desc := "(II)I" } : Jvm.MethodName)) ∈ lw_all := lw_g (lw_at lw_m8 185 rfl) rfl
theorem q1920 : (Jvm.Cond.selects "GridMarketModel" ({ cls := "GridMarketModel", name := "gap", desc := "(II)I" } : Jvm.MethodName) ({ cls := "GridMarketModel", name := "gap", desc := "(II)I" } : Jvm.MethodName)) ∈ lw_all := lw_g (lw_at lw_m8 186 rfl) rfl
theorem q1921 : (Jvm.Cond.code ({ cls := "GridMarketModel", name := "gap", desc := "(II)I" } : Jvm.MethodName) prog_15_method_67_code (3 : Nat) (Option.some Jvm.ClassFile.FieldType.int)) ∈ lw_all := lw_g (lw_at lw_m8 187 rfl) rfl
theorem q1923 : (Jvm.Cond.instanceMethod ({ cls := "GridMarketModel", name := "gapPrice", desc := "(II)I" } : Jvm.MethodName)) ∈ lw_all := lw_g (lw_at lw_m8 189 rfl) rfl
theorem q1924 : (Jvm.Cond.selects "GridMarketModel" ({ cls := "GridMarketModel", name := "gapPrice", desc := "(II)I" } : Jvm.MethodName) ({ cls := "GridMarketModel", name := "gapPrice", desc := "(II)I" } : Jvm.MethodName)) ∈ lw_all := lw_g (lw_at lw_m8 190 rfl) rfl
theorem q1925 : (Jvm.Cond.code ({ cls := "GridMarketModel", name := "gapPrice", desc := "(II)I" } : Jvm.MethodName) prog_15_method_68_code (3 : Nat) (Option.some Jvm.ClassFile.FieldType.int)) ∈ lw_all := lw_g (lw_at lw_m8 191 rfl) rfl
theorem q1927 : (Jvm.Cond.instanceMethod ({ cls := "GridMarketModel", name := "bill", desc := "(II)I" } : Jvm.MethodName)) ∈ lw_all := lw_g (lw_at lw_m8 193 rfl) rfl
theorem q1928 : (Jvm.Cond.selects "GridMarketModel" ({ cls := "GridMarketModel", name := "bill", desc := "(II)I" } : Jvm.MethodName) ({ cls := "GridMarketModel", name := "bill", desc := "(II)I" } : Jvm.MethodName)) ∈ lw_all := lw_g (lw_at lw_m8 194 rfl) rfl
theorem q1929 : (Jvm.Cond.code ({ cls := "GridMarketModel", name := "bill", desc := "(II)I" } : Jvm.MethodName) prog_15_method_70_code (3 : Nat) (Option.some Jvm.ClassFile.FieldType.int)) ∈ lw_all := lw_g (lw_at lw_m8 195 rfl) rfl
theorem q1930 : (Jvm.Cond.methodLink "GridMarketModel" (348 : Nat) ({ cls := "GridMarketModel", name := "isBill", desc := "(II)Z" } : Jvm.MethodName)) ∈ lw_all := lw_g (lw_at lw_m8 196 rfl) rfl
theorem q1931 : (Jvm.Cond.privateMethod ({ cls := "GridMarketModel", name := "isBill", desc := "(II)Z" } : Jvm.MethodName)) ∈ lw_tbl := lw_at lw_m8 197 rfl
theorem q1932 : (Jvm.Cond.instanceMethod ({ cls := "GridMarketModel", name := "isBill", desc := "(II)Z" } : Jvm.MethodName)) ∈ lw_all := lw_g (lw_at lw_m8 198 rfl) rfl
theorem q1933 : (Jvm.Cond.code ({ cls := "GridMarketModel", name := "isBill", desc := "(II)Z" } : Jvm.MethodName) prog_15_method_69_code (3 : Nat) (Option.some Jvm.ClassFile.FieldType.boolean)) ∈ lw_all := lw_g (lw_at lw_m8 199 rfl) rfl
theorem q1935 : (Jvm.Cond.instanceMethod ({ cls := "GridMarketModel", name := "settled", desc := "(II)I" } : Jvm.MethodName)) ∈ lw_all := lw_g (lw_at lw_m8 201 rfl) rfl
theorem q1936 : (Jvm.Cond.selects "GridMarketModel" ({ cls := "GridMarketModel", name := "settled", desc := "(II)I" } : Jvm.MethodName) ({ cls := "GridMarketModel", name := "settled", desc := "(II)I" } : Jvm.MethodName)) ∈ lw_all := lw_g (lw_at lw_m8 202 rfl) rfl
theorem q1937 : (Jvm.Cond.code ({ cls := "GridMarketModel", name := "settled", desc := "(II)I" } : Jvm.MethodName) prog_15_method_71_code (3 : Nat) (Option.some Jvm.ClassFile.FieldType.int)) ∈ lw_all := lw_g (lw_at lw_m8 203 rfl) rfl
theorem q1939 : (Jvm.Cond.instanceMethod ({ cls := "GridMarketModel", name := "account", desc := "(I)I" } : Jvm.MethodName)) ∈ lw_all := lw_g (lw_at lw_m8 205 rfl) rfl
theorem q1940 : (Jvm.Cond.selects "GridMarketModel" ({ cls := "GridMarketModel", name := "account", desc := "(I)I" } : Jvm.MethodName) ({ cls := "GridMarketModel", name := "account", desc := "(I)I" } : Jvm.MethodName)) ∈ lw_all := lw_g (lw_at lw_m8 206 rfl) rfl
theorem q1941 : (Jvm.Cond.code ({ cls := "GridMarketModel", name := "account", desc := "(I)I" } : Jvm.MethodName) prog_15_method_72_code (2 : Nat) (Option.some Jvm.ClassFile.FieldType.int)) ∈ lw_all := lw_g (lw_at lw_m8 207 rfl) rfl
theorem q1943 : (Jvm.Cond.instanceMethod ({ cls := "GridMarketModel", name := "hasFailed", desc := "(I)Z" } : Jvm.MethodName)) ∈ lw_all := lw_g (lw_at lw_m8 209 rfl) rfl
theorem q1944 : (Jvm.Cond.selects "GridMarketModel" ({ cls := "GridMarketModel", name := "hasFailed", desc := "(I)Z" } : Jvm.MethodName) ({ cls := "GridMarketModel", name := "hasFailed", desc := "(I)Z" } : Jvm.MethodName)) ∈ lw_all := lw_g (lw_at lw_m8 210 rfl) rfl
theorem q1945 : (Jvm.Cond.code ({ cls := "GridMarketModel", name := "hasFailed", desc := "(I)Z" } : Jvm.MethodName) prog_15_method_73_code (2 : Nat) (Option.some Jvm.ClassFile.FieldType.boolean)) ∈ lw_all := lw_g (lw_at lw_m8 211 rfl) rfl
theorem q1947 : (Jvm.Cond.instanceMethod ({ cls := "GridMarketModel", name := "house", desc := "()I" } : Jvm.MethodName)) ∈ lw_all := lw_g (lw_at lw_m8 213 rfl) rfl
theorem q1948 : (Jvm.Cond.selects "GridMarketModel" ({ cls := "GridMarketModel", name := "house", desc := "()I" } : Jvm.MethodName) ({ cls := "GridMarketModel", name := "house", desc := "()I" } : Jvm.MethodName)) ∈ lw_all := lw_g (lw_at lw_m8 214 rfl) rfl
theorem q1949 : (Jvm.Cond.code ({ cls := "GridMarketModel", name := "house", desc := "()I" } : Jvm.MethodName) prog_15_method_74_code (1 : Nat) (Option.some Jvm.ClassFile.FieldType.int)) ∈ lw_all := lw_g (lw_at lw_m8 215 rfl) rfl
theorem q1967 : (Jvm.Cond.castable "GridMarketModel" "java/lang/Object") ∈ lw_tbl := lw_at lw_m8 233 rfl
theorem in_X3 : ∀ w ∈ wsX30, w ∈ lw_all := lw_in wsX30 [1527, 1529, 1531, 1533, 1535, 1537, 1539, 1541, 1543, 1545, 1547, 1549, 1551, 1553, 1555, 1557, 1559, 1561, 1563, 1565, 1567, 1569, 1571, 1573, 1575, 1577, 1579, 1581, 1583, 1585, 1587, 1589, 1591, 1593, 1595, 1597, 1599, 1601, 1603, 1605, 1607, 1609, 1611, 1613, 1615, 1617, 1619, 1621, 1623, 1625, 1627, 1629, 1631, 1633, 1635, 1637, 1639, 1641, 1643, 1645, 1647, 1649, 1651, 1653, 1655, 1657, 1659, 1661] (by decide +kernel) (by decide +kernel)
