/-! GridMarket$Day -/
set_option maxRecDepth 100000
def RX2 : String := "GridMarket$Day"
def TX2 : u_T := fun k => match k with
  | 0 => ("GridMarket$Day", "bids", "Ljava/util/List;", true)
  | 1 => ("GridMarket$Day", "blocks", "Ljava/util/List;", true)
  | 2 => ("GridMarket$Day", "asks", "Ljava/util/List;", true)
  | 3 => ("GridMarket$Day", "offers", "Ljava/util/List;", true)
  | 4 => ("GridMarket$Day", "trades", "Ljava/util/List;", true)
  | 5 => ("GridMarket$Day", "aids", "Ljava/util/List;", true)
  | 6 => ("GridMarket$Day", "result", "LGridMarket$Result;", false)
  | 7 => ("GridMarket$Day", "readings", "[[[I", true)
  | 8 => ("GridMarket$Day", "isRead", "[[[Z", true)
  | 9 => ("GridMarket$Day", "settled", "[I", true)
  | _ => ("GridMarket$Day", "runs", "I", false)
def tyX2 : Nat → FieldType := fun k => match k with
  | 0 => .object "java/util/List"
  | 1 => .object "java/util/List"
  | 2 => .object "java/util/List"
  | 3 => .object "java/util/List"
  | 4 => .object "java/util/List"
  | 5 => .object "java/util/List"
  | 6 => .object "GridMarket$Result"
  | 7 => .array (.array (.array .int))
  | 8 => .array (.array (.array .boolean))
  | 9 => .array .int
  | _ => .int
abbrev wsX20 : List Cond := u_ws RX2 TX2 11
theorem nmX2 : ∀ a, a < 11 → ∀ b, b < 11 → a ≠ b → (TX2 a).2.1 ≠ (TX2 b).2.1 := by decide +kernel
theorem tyX2_ok : ∀ k, k < 11 → parseFieldDescriptor (TX2 k).2.2.1 = some (tyX2 k) := by decide +kernel
abbrev cX2_init : ByteArray := prog_8_method_1_code
def yX2_init : MethodName := ⟨RX2, "<init>", "()V"⟩
def dkwX2_init_4 : List UInt8 := [181, 0, 40, 42, 16, 6, 188, 10, 181, 0, 43, 177]
abbrev dktX2_init_4 : List UInt8 := dkwX2_init_4 ++ []
def dkwX2_init_3 : List UInt8 := [181, 0, 30, 42, 16, 6, 6, 7, 197, 0, 33, 3, 181, 0, 35, 42, 16, 6, 6, 7, 197, 0, 38, 3]
abbrev dktX2_init_3 : List UInt8 := dkwX2_init_3 ++ dktX2_init_4
def dkwX2_init_2 : List UInt8 := [181, 0, 24, 42, 187, 0, 9, 89, 183, 0, 11, 181, 0, 27, 42, 187, 0, 9, 89, 183, 0, 11]
abbrev dktX2_init_2 : List UInt8 := dkwX2_init_2 ++ dktX2_init_3
def dkwX2_init_1 : List UInt8 := [181, 0, 18, 42, 187, 0, 9, 89, 183, 0, 11, 181, 0, 21, 42, 187, 0, 9, 89, 183, 0, 11]
abbrev dktX2_init_1 : List UInt8 := dkwX2_init_1 ++ dktX2_init_2
def dkwX2_init_0 : List UInt8 := [42, 183, 0, 3, 42, 187, 0, 9, 89, 183, 0, 11, 181, 0, 12, 42, 187, 0, 9, 89, 183, 0, 11]
abbrev dktX2_init_0 : List UInt8 := dkwX2_init_0 ++ dktX2_init_1
theorem dksX2_init_0 : cX2_init.data.toList.drop 0 = dktX2_init_0 := by decide +kernel
theorem dksX2_init_1 : cX2_init.data.toList.drop 23 = dktX2_init_1 := dk_seg dksX2_init_0 23 rfl rfl
theorem dksX2_init_2 : cX2_init.data.toList.drop 45 = dktX2_init_2 := dk_seg dksX2_init_1 22 rfl rfl
theorem dksX2_init_3 : cX2_init.data.toList.drop 67 = dktX2_init_3 := dk_seg dksX2_init_2 22 rfl rfl
theorem dksX2_init_4 : cX2_init.data.toList.drop 91 = dktX2_init_4 := dk_seg dksX2_init_3 24 rfl rfl
theorem dX2_init_0 : decode cX2_init 0 = .ok (.aload_n 0, 1) := dk_42 (dk_at dksX2_init_0 0 rfl rfl)
theorem dX2_init_1 : decode cX2_init 1 = .ok (.invokespecial 3, 3) := dk_183 0 3 (dk_at dksX2_init_0 1 rfl rfl)
theorem dX2_init_4 : decode cX2_init 4 = .ok (.aload_n 0, 1) := dk_42 (dk_at dksX2_init_0 4 rfl rfl)
theorem dX2_init_5 : decode cX2_init 5 = .ok (.new 9, 3) := dk_187 0 9 (dk_at dksX2_init_0 5 rfl rfl)
theorem dX2_init_8 : decode cX2_init 8 = .ok (.dup, 1) := dk_89 (dk_at dksX2_init_0 8 rfl rfl)
theorem dX2_init_9 : decode cX2_init 9 = .ok (.invokespecial 11, 3) := dk_183 0 11 (dk_at dksX2_init_0 9 rfl rfl)
theorem dX2_init_12 : decode cX2_init 12 = .ok (.putfield 12, 3) := dk_181 0 12 (dk_at dksX2_init_0 12 rfl rfl)
theorem dX2_init_15 : decode cX2_init 15 = .ok (.aload_n 0, 1) := dk_42 (dk_at dksX2_init_0 15 rfl rfl)
theorem dX2_init_16 : decode cX2_init 16 = .ok (.new 9, 3) := dk_187 0 9 (dk_at dksX2_init_0 16 rfl rfl)
theorem dX2_init_19 : decode cX2_init 19 = .ok (.dup, 1) := dk_89 (dk_at dksX2_init_0 19 rfl rfl)
theorem dX2_init_20 : decode cX2_init 20 = .ok (.invokespecial 11, 3) := dk_183 0 11 (dk_at dksX2_init_0 20 rfl rfl)
theorem dX2_init_23 : decode cX2_init 23 = .ok (.putfield 18, 3) := dk_181 0 18 (dk_at dksX2_init_1 0 rfl rfl)
theorem dX2_init_26 : decode cX2_init 26 = .ok (.aload_n 0, 1) := dk_42 (dk_at dksX2_init_1 3 rfl rfl)
theorem dX2_init_27 : decode cX2_init 27 = .ok (.new 9, 3) := dk_187 0 9 (dk_at dksX2_init_1 4 rfl rfl)
theorem dX2_init_30 : decode cX2_init 30 = .ok (.dup, 1) := dk_89 (dk_at dksX2_init_1 7 rfl rfl)
theorem dX2_init_31 : decode cX2_init 31 = .ok (.invokespecial 11, 3) := dk_183 0 11 (dk_at dksX2_init_1 8 rfl rfl)
theorem dX2_init_34 : decode cX2_init 34 = .ok (.putfield 21, 3) := dk_181 0 21 (dk_at dksX2_init_1 11 rfl rfl)
theorem dX2_init_37 : decode cX2_init 37 = .ok (.aload_n 0, 1) := dk_42 (dk_at dksX2_init_1 14 rfl rfl)
theorem dX2_init_38 : decode cX2_init 38 = .ok (.new 9, 3) := dk_187 0 9 (dk_at dksX2_init_1 15 rfl rfl)
theorem dX2_init_41 : decode cX2_init 41 = .ok (.dup, 1) := dk_89 (dk_at dksX2_init_1 18 rfl rfl)
theorem dX2_init_42 : decode cX2_init 42 = .ok (.invokespecial 11, 3) := dk_183 0 11 (dk_at dksX2_init_1 19 rfl rfl)
theorem dX2_init_45 : decode cX2_init 45 = .ok (.putfield 24, 3) := dk_181 0 24 (dk_at dksX2_init_2 0 rfl rfl)
theorem dX2_init_48 : decode cX2_init 48 = .ok (.aload_n 0, 1) := dk_42 (dk_at dksX2_init_2 3 rfl rfl)
theorem dX2_init_49 : decode cX2_init 49 = .ok (.new 9, 3) := dk_187 0 9 (dk_at dksX2_init_2 4 rfl rfl)
theorem dX2_init_52 : decode cX2_init 52 = .ok (.dup, 1) := dk_89 (dk_at dksX2_init_2 7 rfl rfl)
theorem dX2_init_53 : decode cX2_init 53 = .ok (.invokespecial 11, 3) := dk_183 0 11 (dk_at dksX2_init_2 8 rfl rfl)
theorem dX2_init_56 : decode cX2_init 56 = .ok (.putfield 27, 3) := dk_181 0 27 (dk_at dksX2_init_2 11 rfl rfl)
theorem dX2_init_59 : decode cX2_init 59 = .ok (.aload_n 0, 1) := dk_42 (dk_at dksX2_init_2 14 rfl rfl)
theorem dX2_init_60 : decode cX2_init 60 = .ok (.new 9, 3) := dk_187 0 9 (dk_at dksX2_init_2 15 rfl rfl)
theorem dX2_init_63 : decode cX2_init 63 = .ok (.dup, 1) := dk_89 (dk_at dksX2_init_2 18 rfl rfl)
theorem dX2_init_64 : decode cX2_init 64 = .ok (.invokespecial 11, 3) := dk_183 0 11 (dk_at dksX2_init_2 19 rfl rfl)
theorem dX2_init_67 : decode cX2_init 67 = .ok (.putfield 30, 3) := dk_181 0 30 (dk_at dksX2_init_3 0 rfl rfl)
theorem dX2_init_70 : decode cX2_init 70 = .ok (.aload_n 0, 1) := dk_42 (dk_at dksX2_init_3 3 rfl rfl)
theorem dX2_init_71 : decode cX2_init 71 = .ok (.bipush 6, 2) := dk_16 6 (dk_at dksX2_init_3 4 rfl rfl)
theorem dX2_init_73 : decode cX2_init 73 = .ok (.iconst 3, 1) := dk_6 (dk_at dksX2_init_3 6 rfl rfl)
theorem dX2_init_74 : decode cX2_init 74 = .ok (.iconst 4, 1) := dk_7 (dk_at dksX2_init_3 7 rfl rfl)
theorem dX2_init_75 : decode cX2_init 75 = .ok (.multianewarray 33 3, 4) := by decide +kernel
theorem dX2_init_79 : decode cX2_init 79 = .ok (.putfield 35, 3) := dk_181 0 35 (dk_at dksX2_init_3 12 rfl rfl)
theorem dX2_init_82 : decode cX2_init 82 = .ok (.aload_n 0, 1) := dk_42 (dk_at dksX2_init_3 15 rfl rfl)
theorem dX2_init_83 : decode cX2_init 83 = .ok (.bipush 6, 2) := dk_16 6 (dk_at dksX2_init_3 16 rfl rfl)
theorem dX2_init_85 : decode cX2_init 85 = .ok (.iconst 3, 1) := dk_6 (dk_at dksX2_init_3 18 rfl rfl)
theorem dX2_init_86 : decode cX2_init 86 = .ok (.iconst 4, 1) := dk_7 (dk_at dksX2_init_3 19 rfl rfl)
theorem dX2_init_87 : decode cX2_init 87 = .ok (.multianewarray 38 3, 4) := by decide +kernel
theorem dX2_init_91 : decode cX2_init 91 = .ok (.putfield 40, 3) := dk_181 0 40 (dk_at dksX2_init_4 0 rfl rfl)
theorem dX2_init_94 : decode cX2_init 94 = .ok (.aload_n 0, 1) := dk_42 (dk_at dksX2_init_4 3 rfl rfl)
theorem dX2_init_95 : decode cX2_init 95 = .ok (.bipush 6, 2) := dk_16 6 (dk_at dksX2_init_4 4 rfl rfl)
theorem dX2_init_97 : decode cX2_init 97 = .ok (.newarray .int, 2) := dk_188_10 (dk_at dksX2_init_4 6 rfl rfl)
theorem dX2_init_99 : decode cX2_init 99 = .ok (.putfield 43, 3) := dk_181 0 43 (dk_at dksX2_init_4 8 rfl rfl)
theorem dX2_init_102 : decode cX2_init 102 = .ok (.return_, 1) := dk_177 (dk_at dksX2_init_4 11 rfl rfl)
abbrev cX2_gap : ByteArray := prog_8_method_3_code
def yX2_gap : MethodName := ⟨RX2, "gap", "(III)I"⟩
def dkwX2_gap_1 : List UInt8 := [27, 28, 29, 182, 0, 112, 100, 167, 0, 4, 3, 172]
abbrev dktX2_gap_1 : List UInt8 := dkwX2_gap_1 ++ []
def dkwX2_gap_0 : List UInt8 := [42, 180, 0, 40, 27, 50, 28, 50, 29, 51, 153, 0, 24, 42, 180, 0, 35, 27, 50, 28, 50, 29, 46, 42]
abbrev dktX2_gap_0 : List UInt8 := dkwX2_gap_0 ++ dktX2_gap_1
theorem dksX2_gap_0 : cX2_gap.data.toList.drop 0 = dktX2_gap_0 := by decide +kernel
theorem dksX2_gap_1 : cX2_gap.data.toList.drop 24 = dktX2_gap_1 := dk_seg dksX2_gap_0 24 rfl rfl
theorem dX2_gap_0 : decode cX2_gap 0 = .ok (.aload_n 0, 1) := dk_42 (dk_at dksX2_gap_0 0 rfl rfl)
theorem dX2_gap_1 : decode cX2_gap 1 = .ok (.getfield 40, 3) := dk_180 0 40 (dk_at dksX2_gap_0 1 rfl rfl)
theorem dX2_gap_4 : decode cX2_gap 4 = .ok (.iload_n 1, 1) := dk_27 (dk_at dksX2_gap_0 4 rfl rfl)
theorem dX2_gap_5 : decode cX2_gap 5 = .ok (.aaload, 1) := dk_50 (dk_at dksX2_gap_0 5 rfl rfl)
theorem dX2_gap_6 : decode cX2_gap 6 = .ok (.iload_n 2, 1) := dk_28 (dk_at dksX2_gap_0 6 rfl rfl)
theorem dX2_gap_7 : decode cX2_gap 7 = .ok (.aaload, 1) := dk_50 (dk_at dksX2_gap_0 7 rfl rfl)
theorem dX2_gap_8 : decode cX2_gap 8 = .ok (.iload_n 3, 1) := dk_29 (dk_at dksX2_gap_0 8 rfl rfl)
theorem dX2_gap_9 : decode cX2_gap 9 = .ok (.baload, 1) := dk_51 (dk_at dksX2_gap_0 9 rfl rfl)
theorem dX2_gap_10 : decode cX2_gap 10 = .ok (.ifCond .eq 24, 3) := dk_153 0 24 (dk_at dksX2_gap_0 10 rfl rfl)
theorem dX2_gap_13 : decode cX2_gap 13 = .ok (.aload_n 0, 1) := dk_42 (dk_at dksX2_gap_0 13 rfl rfl)
theorem dX2_gap_14 : decode cX2_gap 14 = .ok (.getfield 35, 3) := dk_180 0 35 (dk_at dksX2_gap_0 14 rfl rfl)
theorem dX2_gap_17 : decode cX2_gap 17 = .ok (.iload_n 1, 1) := dk_27 (dk_at dksX2_gap_0 17 rfl rfl)
theorem dX2_gap_18 : decode cX2_gap 18 = .ok (.aaload, 1) := dk_50 (dk_at dksX2_gap_0 18 rfl rfl)
theorem dX2_gap_19 : decode cX2_gap 19 = .ok (.iload_n 2, 1) := dk_28 (dk_at dksX2_gap_0 19 rfl rfl)
theorem dX2_gap_20 : decode cX2_gap 20 = .ok (.aaload, 1) := dk_50 (dk_at dksX2_gap_0 20 rfl rfl)
theorem dX2_gap_21 : decode cX2_gap 21 = .ok (.iload_n 3, 1) := dk_29 (dk_at dksX2_gap_0 21 rfl rfl)
theorem dX2_gap_22 : decode cX2_gap 22 = .ok (.iaload, 1) := dk_46 (dk_at dksX2_gap_0 22 rfl rfl)
theorem dX2_gap_23 : decode cX2_gap 23 = .ok (.aload_n 0, 1) := dk_42 (dk_at dksX2_gap_0 23 rfl rfl)
theorem dX2_gap_24 : decode cX2_gap 24 = .ok (.iload_n 1, 1) := dk_27 (dk_at dksX2_gap_1 0 rfl rfl)
theorem dX2_gap_25 : decode cX2_gap 25 = .ok (.iload_n 2, 1) := dk_28 (dk_at dksX2_gap_1 1 rfl rfl)
theorem dX2_gap_26 : decode cX2_gap 26 = .ok (.iload_n 3, 1) := dk_29 (dk_at dksX2_gap_1 2 rfl rfl)
theorem dX2_gap_27 : decode cX2_gap 27 = .ok (.invokevirtual 112, 3) := dk_182 0 112 (dk_at dksX2_gap_1 3 rfl rfl)
theorem dX2_gap_30 : decode cX2_gap 30 = .ok (.isub, 1) := dk_100 (dk_at dksX2_gap_1 6 rfl rfl)
theorem dX2_gap_31 : decode cX2_gap 31 = .ok (.goto 4, 3) := dk_167 0 4 (dk_at dksX2_gap_1 7 rfl rfl)
theorem dX2_gap_34 : decode cX2_gap 34 = .ok (.iconst 0, 1) := dk_3 (dk_at dksX2_gap_1 10 rfl rfl)
theorem dX2_gap_35 : decode cX2_gap 35 = .ok (.ireturn, 1) := dk_172 (dk_at dksX2_gap_1 11 rfl rfl)
abbrev cX2_plan : ByteArray := prog_8_method_2_code
def yX2_plan : MethodName := ⟨RX2, "plan", "(III)I"⟩
def dkwX2_plan_15 : List UInt8 := [167, 0, 4, 3, 96, 54, 4, 167, 255, 129, 21, 4, 172]
abbrev dktX2_plan_15 : List UInt8 := dkwX2_plan_15 ++ []
def dkwX2_plan_14 : List UInt8 := [180, 0, 106, 27, 160, 0, 23, 25, 6, 180, 0, 109, 180, 0, 107, 28, 160, 0, 11, 25, 6, 180, 0, 108]
abbrev dktX2_plan_14 : List UInt8 := dkwX2_plan_14 ++ dktX2_plan_15
def dkwX2_plan_13 : List UInt8 := [25, 6, 180, 0, 108, 167, 0, 4, 3, 100, 54, 4, 21, 4, 21, 7, 153, 0, 35, 25, 6, 180, 0, 109]
abbrev dktX2_plan_13 : List UInt8 := dkwX2_plan_13 ++ dktX2_plan_14
def dkwX2_plan_12 : List UInt8 := [25, 6, 180, 0, 99, 180, 0, 106, 27, 160, 0, 23, 25, 6, 180, 0, 99, 180, 0, 107, 28, 160, 0, 11]
abbrev dktX2_plan_12 : List UInt8 := dkwX2_plan_12 ++ dktX2_plan_13
def dkwX2_plan_11 : List UInt8 := [180, 0, 99, 180, 0, 103, 29, 160, 0, 7, 4, 167, 0, 4, 3, 54, 7, 21, 4, 21, 7, 153, 0, 35]
abbrev dktX2_plan_11 : List UInt8 := dkwX2_plan_11 ++ dktX2_plan_12
def dkwX2_plan_10 : List UInt8 := [185, 0, 53, 1, 0, 153, 0, 123, 25, 5, 185, 0, 59, 1, 0, 192, 0, 97, 58, 6, 25, 6]
abbrev dktX2_plan_10 : List UInt8 := dkwX2_plan_10 ++ dktX2_plan_11
def dkwX2_plan_9 : List UInt8 := [25, 6, 180, 0, 94, 96, 54, 4, 167, 255, 156, 42, 180, 0, 27, 185, 0, 47, 1, 0, 58, 5, 25, 5]
abbrev dktX2_plan_9 : List UInt8 := dkwX2_plan_9 ++ dktX2_plan_10
def dkwX2_plan_8 : List UInt8 := [154, 0, 7, 3, 167, 0, 25, 25, 6, 180, 0, 93, 153, 0, 12, 25, 6, 180, 0, 94, 116, 167, 0, 8]
abbrev dktX2_plan_8 : List UInt8 := dkwX2_plan_8 ++ dktX2_plan_9
def dkwX2_plan_7 : List UInt8 := [160, 0, 16, 25, 6, 29, 182, 0, 89, 153, 0, 7, 4, 167, 0, 4, 3, 54, 7, 21, 4, 21, 7]
abbrev dktX2_plan_7 : List UInt8 := dkwX2_plan_7 ++ dktX2_plan_8
def dkwX2_plan_6 : List UInt8 := [25, 6, 180, 0, 84, 153, 0, 34, 25, 6, 180, 0, 87, 27, 160, 0, 25, 25, 6, 180, 0, 88, 28]
abbrev dktX2_plan_6 : List UInt8 := dkwX2_plan_6 ++ dktX2_plan_7
def dkwX2_plan_5 : List UInt8 := [58, 5, 25, 5, 185, 0, 53, 1, 0, 153, 0, 96, 25, 5, 185, 0, 59, 1, 0, 192, 0, 82, 58, 6]
abbrev dktX2_plan_5 : List UInt8 := dkwX2_plan_5 ++ dktX2_plan_6
def dkwX2_plan_4 : List UInt8 := [116, 167, 0, 8, 25, 6, 180, 0, 79, 96, 54, 4, 167, 255, 164, 42, 180, 0, 18, 185, 0, 47, 1, 0]
abbrev dktX2_plan_4 : List UInt8 := dkwX2_plan_4 ++ dktX2_plan_5
def dkwX2_plan_3 : List UInt8 := [21, 4, 21, 7, 154, 0, 7, 3, 167, 0, 25, 25, 6, 180, 0, 75, 153, 0, 12, 25, 6, 180, 0, 79]
abbrev dktX2_plan_3 : List UInt8 := dkwX2_plan_3 ++ dktX2_plan_4
def dkwX2_plan_2 : List UInt8 := [180, 0, 69, 28, 160, 0, 16, 25, 6, 180, 0, 72, 29, 160, 0, 7, 4, 167, 0, 4, 3, 54, 7]
abbrev dktX2_plan_2 : List UInt8 := dkwX2_plan_2 ++ dktX2_plan_3
def dkwX2_plan_1 : List UInt8 := [25, 5, 185, 0, 59, 1, 0, 192, 0, 63, 58, 6, 25, 6, 180, 0, 65, 27, 160, 0, 25, 25, 6]
abbrev dktX2_plan_1 : List UInt8 := dkwX2_plan_1 ++ dktX2_plan_2
def dkwX2_plan_0 : List UInt8 := [3, 54, 4, 42, 180, 0, 12, 185, 0, 47, 1, 0, 58, 5, 25, 5, 185, 0, 53, 1, 0, 153, 0, 88]
abbrev dktX2_plan_0 : List UInt8 := dkwX2_plan_0 ++ dktX2_plan_1
theorem dksX2_plan_0 : cX2_plan.data.toList.drop 0 = dktX2_plan_0 := by decide +kernel
theorem dksX2_plan_1 : cX2_plan.data.toList.drop 24 = dktX2_plan_1 := dk_seg dksX2_plan_0 24 rfl rfl
theorem dksX2_plan_2 : cX2_plan.data.toList.drop 47 = dktX2_plan_2 := dk_seg dksX2_plan_1 23 rfl rfl
theorem dksX2_plan_3 : cX2_plan.data.toList.drop 70 = dktX2_plan_3 := dk_seg dksX2_plan_2 23 rfl rfl
theorem dksX2_plan_4 : cX2_plan.data.toList.drop 94 = dktX2_plan_4 := dk_seg dksX2_plan_3 24 rfl rfl
theorem dksX2_plan_5 : cX2_plan.data.toList.drop 118 = dktX2_plan_5 := dk_seg dksX2_plan_4 24 rfl rfl
theorem dksX2_plan_6 : cX2_plan.data.toList.drop 142 = dktX2_plan_6 := dk_seg dksX2_plan_5 24 rfl rfl
theorem dksX2_plan_7 : cX2_plan.data.toList.drop 165 = dktX2_plan_7 := dk_seg dksX2_plan_6 23 rfl rfl
theorem dksX2_plan_8 : cX2_plan.data.toList.drop 188 = dktX2_plan_8 := dk_seg dksX2_plan_7 23 rfl rfl
theorem dksX2_plan_9 : cX2_plan.data.toList.drop 212 = dktX2_plan_9 := dk_seg dksX2_plan_8 24 rfl rfl
theorem dksX2_plan_10 : cX2_plan.data.toList.drop 236 = dktX2_plan_10 := dk_seg dksX2_plan_9 24 rfl rfl
theorem dksX2_plan_11 : cX2_plan.data.toList.drop 258 = dktX2_plan_11 := dk_seg dksX2_plan_10 22 rfl rfl
theorem dksX2_plan_12 : cX2_plan.data.toList.drop 282 = dktX2_plan_12 := dk_seg dksX2_plan_11 24 rfl rfl
theorem dksX2_plan_13 : cX2_plan.data.toList.drop 306 = dktX2_plan_13 := dk_seg dksX2_plan_12 24 rfl rfl
theorem dksX2_plan_14 : cX2_plan.data.toList.drop 330 = dktX2_plan_14 := dk_seg dksX2_plan_13 24 rfl rfl
theorem dksX2_plan_15 : cX2_plan.data.toList.drop 354 = dktX2_plan_15 := dk_seg dksX2_plan_14 24 rfl rfl
theorem dX2_plan_0 : decode cX2_plan 0 = .ok (.iconst 0, 1) := dk_3 (dk_at dksX2_plan_0 0 rfl rfl)
theorem dX2_plan_1 : decode cX2_plan 1 = .ok (.istore 4, 2) := dk_54 4 (dk_at dksX2_plan_0 1 rfl rfl)
theorem dX2_plan_3 : decode cX2_plan 3 = .ok (.aload_n 0, 1) := dk_42 (dk_at dksX2_plan_0 3 rfl rfl)
theorem dX2_plan_4 : decode cX2_plan 4 = .ok (.getfield 12, 3) := dk_180 0 12 (dk_at dksX2_plan_0 4 rfl rfl)
theorem dX2_plan_7 : decode cX2_plan 7 = .ok (.invokeinterface 47 1, 5) := by decide +kernel
theorem dX2_plan_12 : decode cX2_plan 12 = .ok (.astore 5, 2) := dk_58 5 (dk_at dksX2_plan_0 12 rfl rfl)
theorem dX2_plan_14 : decode cX2_plan 14 = .ok (.aload 5, 2) := dk_25 5 (dk_at dksX2_plan_0 14 rfl rfl)
theorem dX2_plan_16 : decode cX2_plan 16 = .ok (.invokeinterface 53 1, 5) := by decide +kernel
theorem dX2_plan_21 : decode cX2_plan 21 = .ok (.ifCond .eq 88, 3) := dk_153 0 88 (dk_at dksX2_plan_0 21 rfl rfl)
theorem dX2_plan_24 : decode cX2_plan 24 = .ok (.aload 5, 2) := dk_25 5 (dk_at dksX2_plan_1 0 rfl rfl)
theorem dX2_plan_26 : decode cX2_plan 26 = .ok (.invokeinterface 59 1, 5) := by decide +kernel
theorem dX2_plan_31 : decode cX2_plan 31 = .ok (.checkcast 63, 3) := dk_192 0 63 (dk_at dksX2_plan_1 7 rfl rfl)
theorem dX2_plan_34 : decode cX2_plan 34 = .ok (.astore 6, 2) := dk_58 6 (dk_at dksX2_plan_1 10 rfl rfl)
theorem dX2_plan_36 : decode cX2_plan 36 = .ok (.aload 6, 2) := dk_25 6 (dk_at dksX2_plan_1 12 rfl rfl)
theorem dX2_plan_38 : decode cX2_plan 38 = .ok (.getfield 65, 3) := dk_180 0 65 (dk_at dksX2_plan_1 14 rfl rfl)
theorem dX2_plan_41 : decode cX2_plan 41 = .ok (.iload_n 1, 1) := dk_27 (dk_at dksX2_plan_1 17 rfl rfl)
theorem dX2_plan_42 : decode cX2_plan 42 = .ok (.if_icmp .ne 25, 3) := dk_160 0 25 (dk_at dksX2_plan_1 18 rfl rfl)
theorem dX2_plan_45 : decode cX2_plan 45 = .ok (.aload 6, 2) := dk_25 6 (dk_at dksX2_plan_1 21 rfl rfl)
theorem dX2_plan_47 : decode cX2_plan 47 = .ok (.getfield 69, 3) := dk_180 0 69 (dk_at dksX2_plan_2 0 rfl rfl)
theorem dX2_plan_50 : decode cX2_plan 50 = .ok (.iload_n 2, 1) := dk_28 (dk_at dksX2_plan_2 3 rfl rfl)
theorem dX2_plan_51 : decode cX2_plan 51 = .ok (.if_icmp .ne 16, 3) := dk_160 0 16 (dk_at dksX2_plan_2 4 rfl rfl)
theorem dX2_plan_54 : decode cX2_plan 54 = .ok (.aload 6, 2) := dk_25 6 (dk_at dksX2_plan_2 7 rfl rfl)
theorem dX2_plan_56 : decode cX2_plan 56 = .ok (.getfield 72, 3) := dk_180 0 72 (dk_at dksX2_plan_2 9 rfl rfl)
theorem dX2_plan_59 : decode cX2_plan 59 = .ok (.iload_n 3, 1) := dk_29 (dk_at dksX2_plan_2 12 rfl rfl)
theorem dX2_plan_60 : decode cX2_plan 60 = .ok (.if_icmp .ne 7, 3) := dk_160 0 7 (dk_at dksX2_plan_2 13 rfl rfl)
theorem dX2_plan_63 : decode cX2_plan 63 = .ok (.iconst 1, 1) := dk_4 (dk_at dksX2_plan_2 16 rfl rfl)
theorem dX2_plan_64 : decode cX2_plan 64 = .ok (.goto 4, 3) := dk_167 0 4 (dk_at dksX2_plan_2 17 rfl rfl)
theorem dX2_plan_67 : decode cX2_plan 67 = .ok (.iconst 0, 1) := dk_3 (dk_at dksX2_plan_2 20 rfl rfl)
theorem dX2_plan_68 : decode cX2_plan 68 = .ok (.istore 7, 2) := dk_54 7 (dk_at dksX2_plan_2 21 rfl rfl)
theorem dX2_plan_70 : decode cX2_plan 70 = .ok (.iload 4, 2) := dk_21 4 (dk_at dksX2_plan_3 0 rfl rfl)
theorem dX2_plan_72 : decode cX2_plan 72 = .ok (.iload 7, 2) := dk_21 7 (dk_at dksX2_plan_3 2 rfl rfl)
theorem dX2_plan_74 : decode cX2_plan 74 = .ok (.ifCond .ne 7, 3) := dk_154 0 7 (dk_at dksX2_plan_3 4 rfl rfl)
theorem dX2_plan_77 : decode cX2_plan 77 = .ok (.iconst 0, 1) := dk_3 (dk_at dksX2_plan_3 7 rfl rfl)
theorem dX2_plan_78 : decode cX2_plan 78 = .ok (.goto 25, 3) := dk_167 0 25 (dk_at dksX2_plan_3 8 rfl rfl)
theorem dX2_plan_81 : decode cX2_plan 81 = .ok (.aload 6, 2) := dk_25 6 (dk_at dksX2_plan_3 11 rfl rfl)
theorem dX2_plan_83 : decode cX2_plan 83 = .ok (.getfield 75, 3) := dk_180 0 75 (dk_at dksX2_plan_3 13 rfl rfl)
theorem dX2_plan_86 : decode cX2_plan 86 = .ok (.ifCond .eq 12, 3) := dk_153 0 12 (dk_at dksX2_plan_3 16 rfl rfl)
theorem dX2_plan_89 : decode cX2_plan 89 = .ok (.aload 6, 2) := dk_25 6 (dk_at dksX2_plan_3 19 rfl rfl)
theorem dX2_plan_91 : decode cX2_plan 91 = .ok (.getfield 79, 3) := dk_180 0 79 (dk_at dksX2_plan_3 21 rfl rfl)
theorem dX2_plan_94 : decode cX2_plan 94 = .ok (.ineg, 1) := dk_116 (dk_at dksX2_plan_4 0 rfl rfl)
theorem dX2_plan_95 : decode cX2_plan 95 = .ok (.goto 8, 3) := dk_167 0 8 (dk_at dksX2_plan_4 1 rfl rfl)
theorem dX2_plan_98 : decode cX2_plan 98 = .ok (.aload 6, 2) := dk_25 6 (dk_at dksX2_plan_4 4 rfl rfl)
theorem dX2_plan_100 : decode cX2_plan 100 = .ok (.getfield 79, 3) := dk_180 0 79 (dk_at dksX2_plan_4 6 rfl rfl)
theorem dX2_plan_103 : decode cX2_plan 103 = .ok (.iadd, 1) := dk_96 (dk_at dksX2_plan_4 9 rfl rfl)
theorem dX2_plan_104 : decode cX2_plan 104 = .ok (.istore 4, 2) := dk_54 4 (dk_at dksX2_plan_4 10 rfl rfl)
theorem dX2_plan_106 : decode cX2_plan 106 = .ok (.goto (-92), 3) := dk_167 255 164 (dk_at dksX2_plan_4 12 rfl rfl)
theorem dX2_plan_109 : decode cX2_plan 109 = .ok (.aload_n 0, 1) := dk_42 (dk_at dksX2_plan_4 15 rfl rfl)
theorem dX2_plan_110 : decode cX2_plan 110 = .ok (.getfield 18, 3) := dk_180 0 18 (dk_at dksX2_plan_4 16 rfl rfl)
theorem dX2_plan_113 : decode cX2_plan 113 = .ok (.invokeinterface 47 1, 5) := by decide +kernel
theorem dX2_plan_118 : decode cX2_plan 118 = .ok (.astore 5, 2) := dk_58 5 (dk_at dksX2_plan_5 0 rfl rfl)
theorem dX2_plan_120 : decode cX2_plan 120 = .ok (.aload 5, 2) := dk_25 5 (dk_at dksX2_plan_5 2 rfl rfl)
theorem dX2_plan_122 : decode cX2_plan 122 = .ok (.invokeinterface 53 1, 5) := by decide +kernel
theorem dX2_plan_127 : decode cX2_plan 127 = .ok (.ifCond .eq 96, 3) := dk_153 0 96 (dk_at dksX2_plan_5 9 rfl rfl)
theorem dX2_plan_130 : decode cX2_plan 130 = .ok (.aload 5, 2) := dk_25 5 (dk_at dksX2_plan_5 12 rfl rfl)
theorem dX2_plan_132 : decode cX2_plan 132 = .ok (.invokeinterface 59 1, 5) := by decide +kernel
theorem dX2_plan_137 : decode cX2_plan 137 = .ok (.checkcast 82, 3) := dk_192 0 82 (dk_at dksX2_plan_5 19 rfl rfl)
theorem dX2_plan_140 : decode cX2_plan 140 = .ok (.astore 6, 2) := dk_58 6 (dk_at dksX2_plan_5 22 rfl rfl)
theorem dX2_plan_142 : decode cX2_plan 142 = .ok (.aload 6, 2) := dk_25 6 (dk_at dksX2_plan_6 0 rfl rfl)
theorem dX2_plan_144 : decode cX2_plan 144 = .ok (.getfield 84, 3) := dk_180 0 84 (dk_at dksX2_plan_6 2 rfl rfl)
theorem dX2_plan_147 : decode cX2_plan 147 = .ok (.ifCond .eq 34, 3) := dk_153 0 34 (dk_at dksX2_plan_6 5 rfl rfl)
theorem dX2_plan_150 : decode cX2_plan 150 = .ok (.aload 6, 2) := dk_25 6 (dk_at dksX2_plan_6 8 rfl rfl)
theorem dX2_plan_152 : decode cX2_plan 152 = .ok (.getfield 87, 3) := dk_180 0 87 (dk_at dksX2_plan_6 10 rfl rfl)
theorem dX2_plan_155 : decode cX2_plan 155 = .ok (.iload_n 1, 1) := dk_27 (dk_at dksX2_plan_6 13 rfl rfl)
theorem dX2_plan_156 : decode cX2_plan 156 = .ok (.if_icmp .ne 25, 3) := dk_160 0 25 (dk_at dksX2_plan_6 14 rfl rfl)
theorem dX2_plan_159 : decode cX2_plan 159 = .ok (.aload 6, 2) := dk_25 6 (dk_at dksX2_plan_6 17 rfl rfl)
theorem dX2_plan_161 : decode cX2_plan 161 = .ok (.getfield 88, 3) := dk_180 0 88 (dk_at dksX2_plan_6 19 rfl rfl)
theorem dX2_plan_164 : decode cX2_plan 164 = .ok (.iload_n 2, 1) := dk_28 (dk_at dksX2_plan_6 22 rfl rfl)
theorem dX2_plan_165 : decode cX2_plan 165 = .ok (.if_icmp .ne 16, 3) := dk_160 0 16 (dk_at dksX2_plan_7 0 rfl rfl)
theorem dX2_plan_168 : decode cX2_plan 168 = .ok (.aload 6, 2) := dk_25 6 (dk_at dksX2_plan_7 3 rfl rfl)
theorem dX2_plan_170 : decode cX2_plan 170 = .ok (.iload_n 3, 1) := dk_29 (dk_at dksX2_plan_7 5 rfl rfl)
theorem dX2_plan_171 : decode cX2_plan 171 = .ok (.invokevirtual 89, 3) := dk_182 0 89 (dk_at dksX2_plan_7 6 rfl rfl)
theorem dX2_plan_174 : decode cX2_plan 174 = .ok (.ifCond .eq 7, 3) := dk_153 0 7 (dk_at dksX2_plan_7 9 rfl rfl)
theorem dX2_plan_177 : decode cX2_plan 177 = .ok (.iconst 1, 1) := dk_4 (dk_at dksX2_plan_7 12 rfl rfl)
theorem dX2_plan_178 : decode cX2_plan 178 = .ok (.goto 4, 3) := dk_167 0 4 (dk_at dksX2_plan_7 13 rfl rfl)
theorem dX2_plan_181 : decode cX2_plan 181 = .ok (.iconst 0, 1) := dk_3 (dk_at dksX2_plan_7 16 rfl rfl)
theorem dX2_plan_182 : decode cX2_plan 182 = .ok (.istore 7, 2) := dk_54 7 (dk_at dksX2_plan_7 17 rfl rfl)
theorem dX2_plan_184 : decode cX2_plan 184 = .ok (.iload 4, 2) := dk_21 4 (dk_at dksX2_plan_7 19 rfl rfl)
theorem dX2_plan_186 : decode cX2_plan 186 = .ok (.iload 7, 2) := dk_21 7 (dk_at dksX2_plan_7 21 rfl rfl)
theorem dX2_plan_188 : decode cX2_plan 188 = .ok (.ifCond .ne 7, 3) := dk_154 0 7 (dk_at dksX2_plan_8 0 rfl rfl)
theorem dX2_plan_191 : decode cX2_plan 191 = .ok (.iconst 0, 1) := dk_3 (dk_at dksX2_plan_8 3 rfl rfl)
theorem dX2_plan_192 : decode cX2_plan 192 = .ok (.goto 25, 3) := dk_167 0 25 (dk_at dksX2_plan_8 4 rfl rfl)
theorem dX2_plan_195 : decode cX2_plan 195 = .ok (.aload 6, 2) := dk_25 6 (dk_at dksX2_plan_8 7 rfl rfl)
theorem dX2_plan_197 : decode cX2_plan 197 = .ok (.getfield 93, 3) := dk_180 0 93 (dk_at dksX2_plan_8 9 rfl rfl)
theorem dX2_plan_200 : decode cX2_plan 200 = .ok (.ifCond .eq 12, 3) := dk_153 0 12 (dk_at dksX2_plan_8 12 rfl rfl)
theorem dX2_plan_203 : decode cX2_plan 203 = .ok (.aload 6, 2) := dk_25 6 (dk_at dksX2_plan_8 15 rfl rfl)
theorem dX2_plan_205 : decode cX2_plan 205 = .ok (.getfield 94, 3) := dk_180 0 94 (dk_at dksX2_plan_8 17 rfl rfl)
theorem dX2_plan_208 : decode cX2_plan 208 = .ok (.ineg, 1) := dk_116 (dk_at dksX2_plan_8 20 rfl rfl)
theorem dX2_plan_209 : decode cX2_plan 209 = .ok (.goto 8, 3) := dk_167 0 8 (dk_at dksX2_plan_8 21 rfl rfl)
theorem dX2_plan_212 : decode cX2_plan 212 = .ok (.aload 6, 2) := dk_25 6 (dk_at dksX2_plan_9 0 rfl rfl)
theorem dX2_plan_214 : decode cX2_plan 214 = .ok (.getfield 94, 3) := dk_180 0 94 (dk_at dksX2_plan_9 2 rfl rfl)
theorem dX2_plan_217 : decode cX2_plan 217 = .ok (.iadd, 1) := dk_96 (dk_at dksX2_plan_9 5 rfl rfl)
theorem dX2_plan_218 : decode cX2_plan 218 = .ok (.istore 4, 2) := dk_54 4 (dk_at dksX2_plan_9 6 rfl rfl)
theorem dX2_plan_220 : decode cX2_plan 220 = .ok (.goto (-100), 3) := dk_167 255 156 (dk_at dksX2_plan_9 8 rfl rfl)
theorem dX2_plan_223 : decode cX2_plan 223 = .ok (.aload_n 0, 1) := dk_42 (dk_at dksX2_plan_9 11 rfl rfl)
theorem dX2_plan_224 : decode cX2_plan 224 = .ok (.getfield 27, 3) := dk_180 0 27 (dk_at dksX2_plan_9 12 rfl rfl)
theorem dX2_plan_227 : decode cX2_plan 227 = .ok (.invokeinterface 47 1, 5) := by decide +kernel
theorem dX2_plan_232 : decode cX2_plan 232 = .ok (.astore 5, 2) := dk_58 5 (dk_at dksX2_plan_9 20 rfl rfl)
theorem dX2_plan_234 : decode cX2_plan 234 = .ok (.aload 5, 2) := dk_25 5 (dk_at dksX2_plan_9 22 rfl rfl)
theorem dX2_plan_236 : decode cX2_plan 236 = .ok (.invokeinterface 53 1, 5) := by decide +kernel
theorem dX2_plan_241 : decode cX2_plan 241 = .ok (.ifCond .eq 123, 3) := dk_153 0 123 (dk_at dksX2_plan_10 5 rfl rfl)
theorem dX2_plan_244 : decode cX2_plan 244 = .ok (.aload 5, 2) := dk_25 5 (dk_at dksX2_plan_10 8 rfl rfl)
theorem dX2_plan_246 : decode cX2_plan 246 = .ok (.invokeinterface 59 1, 5) := by decide +kernel
theorem dX2_plan_251 : decode cX2_plan 251 = .ok (.checkcast 97, 3) := dk_192 0 97 (dk_at dksX2_plan_10 15 rfl rfl)
theorem dX2_plan_254 : decode cX2_plan 254 = .ok (.astore 6, 2) := dk_58 6 (dk_at dksX2_plan_10 18 rfl rfl)
theorem dX2_plan_256 : decode cX2_plan 256 = .ok (.aload 6, 2) := dk_25 6 (dk_at dksX2_plan_10 20 rfl rfl)
theorem dX2_plan_258 : decode cX2_plan 258 = .ok (.getfield 99, 3) := dk_180 0 99 (dk_at dksX2_plan_11 0 rfl rfl)
theorem dX2_plan_261 : decode cX2_plan 261 = .ok (.getfield 103, 3) := dk_180 0 103 (dk_at dksX2_plan_11 3 rfl rfl)
theorem dX2_plan_264 : decode cX2_plan 264 = .ok (.iload_n 3, 1) := dk_29 (dk_at dksX2_plan_11 6 rfl rfl)
theorem dX2_plan_265 : decode cX2_plan 265 = .ok (.if_icmp .ne 7, 3) := dk_160 0 7 (dk_at dksX2_plan_11 7 rfl rfl)
theorem dX2_plan_268 : decode cX2_plan 268 = .ok (.iconst 1, 1) := dk_4 (dk_at dksX2_plan_11 10 rfl rfl)
theorem dX2_plan_269 : decode cX2_plan 269 = .ok (.goto 4, 3) := dk_167 0 4 (dk_at dksX2_plan_11 11 rfl rfl)
theorem dX2_plan_272 : decode cX2_plan 272 = .ok (.iconst 0, 1) := dk_3 (dk_at dksX2_plan_11 14 rfl rfl)
theorem dX2_plan_273 : decode cX2_plan 273 = .ok (.istore 7, 2) := dk_54 7 (dk_at dksX2_plan_11 15 rfl rfl)
theorem dX2_plan_275 : decode cX2_plan 275 = .ok (.iload 4, 2) := dk_21 4 (dk_at dksX2_plan_11 17 rfl rfl)
theorem dX2_plan_277 : decode cX2_plan 277 = .ok (.iload 7, 2) := dk_21 7 (dk_at dksX2_plan_11 19 rfl rfl)
theorem dX2_plan_279 : decode cX2_plan 279 = .ok (.ifCond .eq 35, 3) := dk_153 0 35 (dk_at dksX2_plan_11 21 rfl rfl)
theorem dX2_plan_282 : decode cX2_plan 282 = .ok (.aload 6, 2) := dk_25 6 (dk_at dksX2_plan_12 0 rfl rfl)
theorem dX2_plan_284 : decode cX2_plan 284 = .ok (.getfield 99, 3) := dk_180 0 99 (dk_at dksX2_plan_12 2 rfl rfl)
theorem dX2_plan_287 : decode cX2_plan 287 = .ok (.getfield 106, 3) := dk_180 0 106 (dk_at dksX2_plan_12 5 rfl rfl)
theorem dX2_plan_290 : decode cX2_plan 290 = .ok (.iload_n 1, 1) := dk_27 (dk_at dksX2_plan_12 8 rfl rfl)
theorem dX2_plan_291 : decode cX2_plan 291 = .ok (.if_icmp .ne 23, 3) := dk_160 0 23 (dk_at dksX2_plan_12 9 rfl rfl)
theorem dX2_plan_294 : decode cX2_plan 294 = .ok (.aload 6, 2) := dk_25 6 (dk_at dksX2_plan_12 12 rfl rfl)
theorem dX2_plan_296 : decode cX2_plan 296 = .ok (.getfield 99, 3) := dk_180 0 99 (dk_at dksX2_plan_12 14 rfl rfl)
theorem dX2_plan_299 : decode cX2_plan 299 = .ok (.getfield 107, 3) := dk_180 0 107 (dk_at dksX2_plan_12 17 rfl rfl)
theorem dX2_plan_302 : decode cX2_plan 302 = .ok (.iload_n 2, 1) := dk_28 (dk_at dksX2_plan_12 20 rfl rfl)
theorem dX2_plan_303 : decode cX2_plan 303 = .ok (.if_icmp .ne 11, 3) := dk_160 0 11 (dk_at dksX2_plan_12 21 rfl rfl)
theorem dX2_plan_306 : decode cX2_plan 306 = .ok (.aload 6, 2) := dk_25 6 (dk_at dksX2_plan_13 0 rfl rfl)
theorem dX2_plan_308 : decode cX2_plan 308 = .ok (.getfield 108, 3) := dk_180 0 108 (dk_at dksX2_plan_13 2 rfl rfl)
theorem dX2_plan_311 : decode cX2_plan 311 = .ok (.goto 4, 3) := dk_167 0 4 (dk_at dksX2_plan_13 5 rfl rfl)
theorem dX2_plan_314 : decode cX2_plan 314 = .ok (.iconst 0, 1) := dk_3 (dk_at dksX2_plan_13 8 rfl rfl)
theorem dX2_plan_315 : decode cX2_plan 315 = .ok (.isub, 1) := dk_100 (dk_at dksX2_plan_13 9 rfl rfl)
theorem dX2_plan_316 : decode cX2_plan 316 = .ok (.istore 4, 2) := dk_54 4 (dk_at dksX2_plan_13 10 rfl rfl)
theorem dX2_plan_318 : decode cX2_plan 318 = .ok (.iload 4, 2) := dk_21 4 (dk_at dksX2_plan_13 12 rfl rfl)
theorem dX2_plan_320 : decode cX2_plan 320 = .ok (.iload 7, 2) := dk_21 7 (dk_at dksX2_plan_13 14 rfl rfl)
theorem dX2_plan_322 : decode cX2_plan 322 = .ok (.ifCond .eq 35, 3) := dk_153 0 35 (dk_at dksX2_plan_13 16 rfl rfl)
theorem dX2_plan_325 : decode cX2_plan 325 = .ok (.aload 6, 2) := dk_25 6 (dk_at dksX2_plan_13 19 rfl rfl)
theorem dX2_plan_327 : decode cX2_plan 327 = .ok (.getfield 109, 3) := dk_180 0 109 (dk_at dksX2_plan_13 21 rfl rfl)
theorem dX2_plan_330 : decode cX2_plan 330 = .ok (.getfield 106, 3) := dk_180 0 106 (dk_at dksX2_plan_14 0 rfl rfl)
theorem dX2_plan_333 : decode cX2_plan 333 = .ok (.iload_n 1, 1) := dk_27 (dk_at dksX2_plan_14 3 rfl rfl)
theorem dX2_plan_334 : decode cX2_plan 334 = .ok (.if_icmp .ne 23, 3) := dk_160 0 23 (dk_at dksX2_plan_14 4 rfl rfl)
theorem dX2_plan_337 : decode cX2_plan 337 = .ok (.aload 6, 2) := dk_25 6 (dk_at dksX2_plan_14 7 rfl rfl)
theorem dX2_plan_339 : decode cX2_plan 339 = .ok (.getfield 109, 3) := dk_180 0 109 (dk_at dksX2_plan_14 9 rfl rfl)
theorem dX2_plan_342 : decode cX2_plan 342 = .ok (.getfield 107, 3) := dk_180 0 107 (dk_at dksX2_plan_14 12 rfl rfl)
theorem dX2_plan_345 : decode cX2_plan 345 = .ok (.iload_n 2, 1) := dk_28 (dk_at dksX2_plan_14 15 rfl rfl)
theorem dX2_plan_346 : decode cX2_plan 346 = .ok (.if_icmp .ne 11, 3) := dk_160 0 11 (dk_at dksX2_plan_14 16 rfl rfl)
theorem dX2_plan_349 : decode cX2_plan 349 = .ok (.aload 6, 2) := dk_25 6 (dk_at dksX2_plan_14 19 rfl rfl)
theorem dX2_plan_351 : decode cX2_plan 351 = .ok (.getfield 108, 3) := dk_180 0 108 (dk_at dksX2_plan_14 21 rfl rfl)
theorem dX2_plan_354 : decode cX2_plan 354 = .ok (.goto 4, 3) := dk_167 0 4 (dk_at dksX2_plan_15 0 rfl rfl)
theorem dX2_plan_357 : decode cX2_plan 357 = .ok (.iconst 0, 1) := dk_3 (dk_at dksX2_plan_15 3 rfl rfl)
theorem dX2_plan_358 : decode cX2_plan 358 = .ok (.iadd, 1) := dk_96 (dk_at dksX2_plan_15 4 rfl rfl)
theorem dX2_plan_359 : decode cX2_plan 359 = .ok (.istore 4, 2) := dk_54 4 (dk_at dksX2_plan_15 5 rfl rfl)
theorem dX2_plan_361 : decode cX2_plan 361 = .ok (.goto (-127), 3) := dk_167 255 129 (dk_at dksX2_plan_15 7 rfl rfl)
theorem dX2_plan_364 : decode cX2_plan 364 = .ok (.iload 4, 2) := dk_21 4 (dk_at dksX2_plan_15 10 rfl rfl)
theorem dX2_plan_366 : decode cX2_plan 366 = .ok (.ireturn, 1) := dk_172 (dk_at dksX2_plan_15 12 rfl rfl)
abbrev cX2_gap_2 : ByteArray := prog_8_method_4_code
def yX2_gap_2 : MethodName := ⟨RX2, "gap", "(I)I"⟩
def dkwX2_gap_2_1 : List UInt8 := [27, 182, 0, 116, 96, 61, 132, 4, 1, 167, 255, 236, 132, 3, 1, 167, 255, 221, 28, 172]
abbrev dktX2_gap_2_1 : List UInt8 := dkwX2_gap_2_1 ++ []
def dkwX2_gap_2_0 : List UInt8 := [3, 61, 3, 62, 29, 16, 6, 162, 0, 35, 3, 54, 4, 21, 4, 6, 162, 0, 20, 28, 42, 29, 21, 4]
abbrev dktX2_gap_2_0 : List UInt8 := dkwX2_gap_2_0 ++ dktX2_gap_2_1
theorem dksX2_gap_2_0 : cX2_gap_2.data.toList.drop 0 = dktX2_gap_2_0 := by decide +kernel
theorem dksX2_gap_2_1 : cX2_gap_2.data.toList.drop 24 = dktX2_gap_2_1 := dk_seg dksX2_gap_2_0 24 rfl rfl
theorem dX2_gap_2_0 : decode cX2_gap_2 0 = .ok (.iconst 0, 1) := dk_3 (dk_at dksX2_gap_2_0 0 rfl rfl)
theorem dX2_gap_2_1 : decode cX2_gap_2 1 = .ok (.istore_n 2, 1) := dk_61 (dk_at dksX2_gap_2_0 1 rfl rfl)
theorem dX2_gap_2_2 : decode cX2_gap_2 2 = .ok (.iconst 0, 1) := dk_3 (dk_at dksX2_gap_2_0 2 rfl rfl)
theorem dX2_gap_2_3 : decode cX2_gap_2 3 = .ok (.istore_n 3, 1) := dk_62 (dk_at dksX2_gap_2_0 3 rfl rfl)
theorem dX2_gap_2_4 : decode cX2_gap_2 4 = .ok (.iload_n 3, 1) := dk_29 (dk_at dksX2_gap_2_0 4 rfl rfl)
theorem dX2_gap_2_5 : decode cX2_gap_2 5 = .ok (.bipush 6, 2) := dk_16 6 (dk_at dksX2_gap_2_0 5 rfl rfl)
theorem dX2_gap_2_7 : decode cX2_gap_2 7 = .ok (.if_icmp .ge 35, 3) := dk_162 0 35 (dk_at dksX2_gap_2_0 7 rfl rfl)
theorem dX2_gap_2_10 : decode cX2_gap_2 10 = .ok (.iconst 0, 1) := dk_3 (dk_at dksX2_gap_2_0 10 rfl rfl)
theorem dX2_gap_2_11 : decode cX2_gap_2 11 = .ok (.istore 4, 2) := dk_54 4 (dk_at dksX2_gap_2_0 11 rfl rfl)
theorem dX2_gap_2_13 : decode cX2_gap_2 13 = .ok (.iload 4, 2) := dk_21 4 (dk_at dksX2_gap_2_0 13 rfl rfl)
theorem dX2_gap_2_15 : decode cX2_gap_2 15 = .ok (.iconst 3, 1) := dk_6 (dk_at dksX2_gap_2_0 15 rfl rfl)
theorem dX2_gap_2_16 : decode cX2_gap_2 16 = .ok (.if_icmp .ge 20, 3) := dk_162 0 20 (dk_at dksX2_gap_2_0 16 rfl rfl)
theorem dX2_gap_2_19 : decode cX2_gap_2 19 = .ok (.iload_n 2, 1) := dk_28 (dk_at dksX2_gap_2_0 19 rfl rfl)
theorem dX2_gap_2_20 : decode cX2_gap_2 20 = .ok (.aload_n 0, 1) := dk_42 (dk_at dksX2_gap_2_0 20 rfl rfl)
theorem dX2_gap_2_21 : decode cX2_gap_2 21 = .ok (.iload_n 3, 1) := dk_29 (dk_at dksX2_gap_2_0 21 rfl rfl)
theorem dX2_gap_2_22 : decode cX2_gap_2 22 = .ok (.iload 4, 2) := dk_21 4 (dk_at dksX2_gap_2_0 22 rfl rfl)
theorem dX2_gap_2_24 : decode cX2_gap_2 24 = .ok (.iload_n 1, 1) := dk_27 (dk_at dksX2_gap_2_1 0 rfl rfl)
theorem dX2_gap_2_25 : decode cX2_gap_2 25 = .ok (.invokevirtual 116, 3) := dk_182 0 116 (dk_at dksX2_gap_2_1 1 rfl rfl)
theorem dX2_gap_2_28 : decode cX2_gap_2 28 = .ok (.iadd, 1) := dk_96 (dk_at dksX2_gap_2_1 4 rfl rfl)
theorem dX2_gap_2_29 : decode cX2_gap_2 29 = .ok (.istore_n 2, 1) := dk_61 (dk_at dksX2_gap_2_1 5 rfl rfl)
theorem dX2_gap_2_30 : decode cX2_gap_2 30 = .ok (.iinc 4 1, 3) := dk_132 4 1 (dk_at dksX2_gap_2_1 6 rfl rfl)
theorem dX2_gap_2_33 : decode cX2_gap_2 33 = .ok (.goto (-20), 3) := dk_167 255 236 (dk_at dksX2_gap_2_1 9 rfl rfl)
theorem dX2_gap_2_36 : decode cX2_gap_2 36 = .ok (.iinc 3 1, 3) := dk_132 3 1 (dk_at dksX2_gap_2_1 12 rfl rfl)
theorem dX2_gap_2_39 : decode cX2_gap_2 39 = .ok (.goto (-35), 3) := dk_167 255 221 (dk_at dksX2_gap_2_1 15 rfl rfl)
theorem dX2_gap_2_42 : decode cX2_gap_2 42 = .ok (.iload_n 2, 1) := dk_28 (dk_at dksX2_gap_2_1 18 rfl rfl)
theorem dX2_gap_2_43 : decode cX2_gap_2 43 = .ok (.ireturn, 1) := dk_172 (dk_at dksX2_gap_2_1 19 rfl rfl)
theorem q59 : (Jvm.Cond.initialized "GridMarket$Day") ∈ lw_all := lw_g (lw_at lw_m1 5 rfl) rfl
theorem q130 : (Jvm.Cond.instantiable "GridMarket$Day" (11 : Nat)) ∈ lw_all := lw_g (lw_at lw_m1 76 rfl) rfl
theorem q132 : (Jvm.Cond.instanceMethod ({ cls := "GridMarket$Day", name := "<init>", desc := "()V" } : Jvm.MethodName)) ∈ lw_all := lw_g (lw_at lw_m1 78 rfl) rfl
theorem q133 : (Jvm.Cond.code ({ cls := "GridMarket$Day", name := "<init>", desc := "()V" } : Jvm.MethodName) prog_8_method_1_code (1 : Nat) (Option.none : Option Jvm.ClassFile.FieldType)) ∈ lw_all := lw_g (lw_at lw_m1 79 rfl) rfl
theorem q134 : (Jvm.Cond.methodLink "GridMarket$Day" (3 : Nat) ({ cls := "java/lang/Object", name := "<init>", desc := "()V" } : Jvm.MethodName)) ∈ lw_all := lw_g (lw_at lw_m1 80 rfl) rfl
theorem q135 : (Jvm.Cond.classLink "GridMarket$Day" (9 : Nat) "java/util/ArrayList") ∈ lw_all := lw_g (lw_at lw_m1 81 rfl) rfl
theorem q136 : (Jvm.Cond.methodLink "GridMarket$Day" (11 : Nat) ({ cls := "java/util/ArrayList", name := "<init>", desc := "()V" } : Jvm.MethodName)) ∈ lw_all := lw_g (lw_at lw_m1 82 rfl) rfl
theorem q137 : (Jvm.Cond.classLink "GridMarket$Day" (33 : Nat) "[[[I") ∈ lw_all := lw_g (lw_at lw_m1 83 rfl) rfl
theorem q140 : (Jvm.Cond.classLink "GridMarket$Day" (38 : Nat) "[[[Z") ∈ lw_all := lw_g (lw_at lw_m1 86 rfl) rfl
theorem q143 : (Jvm.Cond.fieldLink "GridMarket$Day" (12 : Nat) "GridMarket$Day" "bids" "Ljava/util/List;") ∈ lw_all := lw_g (lw_at lw_m1 89 rfl) rfl
theorem q145 : (Jvm.Cond.fieldLink "GridMarket$Day" (18 : Nat) "GridMarket$Day" "blocks" "Ljava/util/List;") ∈ lw_all := lw_g (lw_at lw_m1 91 rfl) rfl
theorem q147 : (Jvm.Cond.fieldLink "GridMarket$Day" (21 : Nat) "GridMarket$Day" "asks" "Ljava/util/List;") ∈ lw_all := lw_g (lw_at lw_m1 93 rfl) rfl
theorem q149 : (Jvm.Cond.fieldLink "GridMarket$Day" (24 : Nat) "GridMarket$Day" "offers" "Ljava/util/List;") ∈ lw_all := lw_g (lw_at lw_m1 95 rfl) rfl
theorem q151 : (Jvm.Cond.fieldLink "GridMarket$Day" (27 : Nat) "GridMarket$Day" "trades" "Ljava/util/List;") ∈ lw_all := lw_g (lw_at lw_m1 97 rfl) rfl
theorem q153 : (Jvm.Cond.fieldLink "GridMarket$Day" (30 : Nat) "GridMarket$Day" "aids" "Ljava/util/List;") ∈ lw_all := lw_g (lw_at lw_m1 99 rfl) rfl
theorem q156 : (Jvm.Cond.fieldLink "GridMarket$Day" (35 : Nat) "GridMarket$Day" "readings" "[[[I") ∈ lw_all := lw_g (lw_at lw_m1 102 rfl) rfl
theorem q158 : (Jvm.Cond.fieldLink "GridMarket$Day" (40 : Nat) "GridMarket$Day" "isRead" "[[[Z") ∈ lw_all := lw_g (lw_at lw_m1 104 rfl) rfl
theorem q160 : (Jvm.Cond.fieldLink "GridMarket$Day" (43 : Nat) "GridMarket$Day" "settled" "[I") ∈ lw_all := lw_g (lw_at lw_m1 106 rfl) rfl
theorem q163 : (Jvm.Cond.laysFinal "GridMarket$Day" "GridMarket$Day" "bids" "Ljava/util/List;") ∈ lw_all := lw_g (lw_at lw_m1 109 rfl) rfl
theorem q164 : (Jvm.Cond.soleField "GridMarket$Day" "bids") ∈ lw_all := lw_g (lw_at lw_m1 110 rfl) rfl
theorem q165 : (Jvm.Cond.laysFinal "GridMarket$Day" "GridMarket$Day" "blocks" "Ljava/util/List;") ∈ lw_all := lw_g (lw_at lw_m1 111 rfl) rfl
theorem q166 : (Jvm.Cond.soleField "GridMarket$Day" "blocks") ∈ lw_all := lw_g (lw_at lw_m1 112 rfl) rfl
theorem q167 : (Jvm.Cond.laysFinal "GridMarket$Day" "GridMarket$Day" "asks" "Ljava/util/List;") ∈ lw_all := lw_g (lw_at lw_m1 113 rfl) rfl
theorem q168 : (Jvm.Cond.soleField "GridMarket$Day" "asks") ∈ lw_all := lw_g (lw_at lw_m1 114 rfl) rfl
theorem q169 : (Jvm.Cond.laysFinal "GridMarket$Day" "GridMarket$Day" "offers" "Ljava/util/List;") ∈ lw_all := lw_g (lw_at lw_m1 115 rfl) rfl
theorem q170 : (Jvm.Cond.soleField "GridMarket$Day" "offers") ∈ lw_all := lw_g (lw_at lw_m1 116 rfl) rfl
theorem q171 : (Jvm.Cond.laysFinal "GridMarket$Day" "GridMarket$Day" "trades" "Ljava/util/List;") ∈ lw_all := lw_g (lw_at lw_m1 117 rfl) rfl
theorem q172 : (Jvm.Cond.soleField "GridMarket$Day" "trades") ∈ lw_all := lw_g (lw_at lw_m1 118 rfl) rfl
theorem q173 : (Jvm.Cond.laysFinal "GridMarket$Day" "GridMarket$Day" "aids" "Ljava/util/List;") ∈ lw_all := lw_g (lw_at lw_m1 119 rfl) rfl
theorem q174 : (Jvm.Cond.soleField "GridMarket$Day" "aids") ∈ lw_all := lw_g (lw_at lw_m1 120 rfl) rfl
theorem q175 : (Jvm.Cond.lays "GridMarket$Day" "GridMarket$Day" "result" "LGridMarket$Result;") ∈ lw_all := lw_g (lw_at lw_m1 121 rfl) rfl
theorem q176 : (Jvm.Cond.soleField "GridMarket$Day" "result") ∈ lw_all := lw_g (lw_at lw_m1 122 rfl) rfl
theorem q177 : (Jvm.Cond.laysFinal "GridMarket$Day" "GridMarket$Day" "readings" "[[[I") ∈ lw_all := lw_g (lw_at lw_m1 123 rfl) rfl
theorem q178 : (Jvm.Cond.soleField "GridMarket$Day" "readings") ∈ lw_all := lw_g (lw_at lw_m1 124 rfl) rfl
theorem q179 : (Jvm.Cond.laysFinal "GridMarket$Day" "GridMarket$Day" "isRead" "[[[Z") ∈ lw_all := lw_g (lw_at lw_m1 125 rfl) rfl
theorem q180 : (Jvm.Cond.soleField "GridMarket$Day" "isRead") ∈ lw_all := lw_g (lw_at lw_m1 126 rfl) rfl
theorem q181 : (Jvm.Cond.laysFinal "GridMarket$Day" "GridMarket$Day" "settled" "[I") ∈ lw_all := lw_g (lw_at lw_m1 127 rfl) rfl
theorem q182 : (Jvm.Cond.soleField "GridMarket$Day" "settled") ∈ lw_all := lw_g (lw_at lw_m1 128 rfl) rfl
theorem q183 : (Jvm.Cond.lays "GridMarket$Day" "GridMarket$Day" "runs" "I") ∈ lw_all := lw_g (lw_at lw_m1 129 rfl) rfl
theorem q184 : (Jvm.Cond.soleField "GridMarket$Day" "runs") ∈ lw_all := lw_g (lw_at lw_m1 130 rfl) rfl
theorem q185 : (Jvm.Cond.superclass "GridMarket$Day" "java/lang/Object") ∈ lw_all := lw_g (lw_at lw_m1 131 rfl) rfl
theorem q409 : (Jvm.Cond.fieldLinkNest "GridMarket$Day" (65 : Nat) "GridMarket$Bid" "firm" "I" "GridMarket") ∈ lw_tbl := lw_at lw_m2 115 rfl
theorem q412 : (Jvm.Cond.fieldLinkNest "GridMarket$Day" (69 : Nat) "GridMarket$Bid" "zone" "I" "GridMarket") ∈ lw_tbl := lw_at lw_m2 118 rfl
theorem q415 : (Jvm.Cond.fieldLinkNest "GridMarket$Day" (72 : Nat) "GridMarket$Bid" "hour" "I" "GridMarket") ∈ lw_tbl := lw_at lw_m2 121 rfl
theorem q419 : (Jvm.Cond.fieldLinkNest "GridMarket$Day" (75 : Nat) "GridMarket$Bid" "isBuy" "Z" "GridMarket") ∈ lw_tbl := lw_at lw_m2 125 rfl
theorem q426 : (Jvm.Cond.fieldLinkNest "GridMarket$Day" (79 : Nat) "GridMarket$Bid" "taken" "I" "GridMarket") ∈ lw_tbl := lw_at lw_m2 132 rfl
theorem q488 : (Jvm.Cond.selects "GridMarket$Day" ({ cls := "java/lang/Object", name := "getClass", desc := "()Ljava/lang/Class;" } : Jvm.MethodName) ({ cls := "java/lang/Object", name := "getClass", desc := "()Ljava/lang/Class;" } : Jvm.MethodName)) ∈ lw_all := lw_g (lw_at lw_m2 194 rfl) rfl
theorem q531 : (Jvm.Cond.fieldLinkNest "GridMarket$Day" (87 : Nat) "GridMarket$Block" "firm" "I" "GridMarket") ∈ lw_tbl := lw_at lw_m2 237 rfl
theorem q534 : (Jvm.Cond.fieldLinkNest "GridMarket$Day" (88 : Nat) "GridMarket$Block" "zone" "I" "GridMarket") ∈ lw_tbl := lw_at lw_m3 0 rfl
theorem q538 : (Jvm.Cond.fieldLinkNest "GridMarket$Day" (93 : Nat) "GridMarket$Block" "isBuy" "Z" "GridMarket") ∈ lw_tbl := lw_at lw_m3 4 rfl
theorem q542 : (Jvm.Cond.fieldLinkNest "GridMarket$Day" (94 : Nat) "GridMarket$Block" "units" "I" "GridMarket") ∈ lw_tbl := lw_at lw_m3 8 rfl
theorem q548 : (Jvm.Cond.fieldLinkNest "GridMarket$Day" (84 : Nat) "GridMarket$Block" "isTaken" "Z" "GridMarket") ∈ lw_tbl := lw_at lw_m3 14 rfl
theorem q1142 : (Jvm.Cond.fieldLinkNest "GridMarket$Day" (106 : Nat) "GridMarket$Offer" "firm" "I" "GridMarket") ∈ lw_tbl := lw_at lw_m5 128 rfl
theorem q1145 : (Jvm.Cond.fieldLinkNest "GridMarket$Day" (107 : Nat) "GridMarket$Offer" "zone" "I" "GridMarket") ∈ lw_tbl := lw_at lw_m5 131 rfl
theorem q1148 : (Jvm.Cond.fieldLinkNest "GridMarket$Day" (103 : Nat) "GridMarket$Offer" "hour" "I" "GridMarket") ∈ lw_tbl := lw_at lw_m5 134 rfl
theorem q1208 : (Jvm.Cond.fieldLinkNest "GridMarket$Day" (99 : Nat) "GridMarket$Trade" "buy" "LGridMarket$Offer;" "GridMarket") ∈ lw_tbl := lw_at lw_m5 194 rfl
theorem q1211 : (Jvm.Cond.fieldLinkNest "GridMarket$Day" (109 : Nat) "GridMarket$Trade" "sell" "LGridMarket$Offer;" "GridMarket") ∈ lw_tbl := lw_at lw_m5 197 rfl
theorem q1216 : (Jvm.Cond.fieldLinkNest "GridMarket$Day" (108 : Nat) "GridMarket$Trade" "units" "I" "GridMarket") ∈ lw_tbl := lw_at lw_m5 202 rfl
theorem q1287 : (Jvm.Cond.instanceMethod ({ cls := "GridMarket$Day", name := "gap", desc := "(III)I" } : Jvm.MethodName)) ∈ lw_all := lw_g (lw_at lw_m6 33 rfl) rfl
theorem q1288 : (Jvm.Cond.selects "GridMarket$Day" ({ cls := "GridMarket$Day", name := "gap", desc := "(III)I" } : Jvm.MethodName) ({ cls := "GridMarket$Day", name := "gap", desc := "(III)I" } : Jvm.MethodName)) ∈ lw_all := lw_g (lw_at lw_m6 34 rfl) rfl
theorem q1289 : (Jvm.Cond.code ({ cls := "GridMarket$Day", name := "gap", desc := "(III)I" } : Jvm.MethodName) prog_8_method_3_code (4 : Nat) (Option.some Jvm.ClassFile.FieldType.int)) ∈ lw_all := lw_g (lw_at lw_m6 35 rfl) rfl
theorem q1290 : (Jvm.Cond.methodLink "GridMarket$Day" (112 : Nat) ({ cls := "GridMarket$Day", name := "plan", desc := "(III)I" } : Jvm.MethodName)) ∈ lw_all := lw_g (lw_at lw_m6 36 rfl) rfl
theorem q1291 : (Jvm.Cond.instanceMethod ({ cls := "GridMarket$Day", name := "plan", desc := "(III)I" } : Jvm.MethodName)) ∈ lw_all := lw_g (lw_at lw_m6 37 rfl) rfl
theorem q1292 : (Jvm.Cond.selects "GridMarket$Day" ({ cls := "GridMarket$Day", name := "plan", desc := "(III)I" } : Jvm.MethodName) ({ cls := "GridMarket$Day", name := "plan", desc := "(III)I" } : Jvm.MethodName)) ∈ lw_all := lw_g (lw_at lw_m6 38 rfl) rfl
theorem q1293 : (Jvm.Cond.code ({ cls := "GridMarket$Day", name := "plan", desc := "(III)I" } : Jvm.MethodName) prog_8_method_2_code (8 : Nat) (Option.some Jvm.ClassFile.FieldType.int)) ∈ lw_all := lw_g (lw_at lw_m6 39 rfl) rfl
theorem q1294 : (Jvm.Cond.interfaceEntry "GridMarket$Day" (47 : Nat)) ∈ lw_tbl := lw_at lw_m6 40 rfl
theorem q1295 : (Jvm.Cond.methodLink "GridMarket$Day" (47 : Nat) ({ cls := "java/util/List", name := "iterator", desc := "()Ljava/util/Iterator;" } : Jvm.MethodName)) ∈ lw_all := lw_g (lw_at lw_m6 41 rfl) rfl
theorem q1296 : (Jvm.Cond.interfaceEntry "GridMarket$Day" (53 : Nat)) ∈ lw_tbl := lw_at lw_m6 42 rfl
theorem q1297 : (Jvm.Cond.methodLink "GridMarket$Day" (53 : Nat) ({ cls := "java/util/Iterator", name := "hasNext", desc := "()Z" } : Jvm.MethodName)) ∈ lw_all := lw_g (lw_at lw_m6 43 rfl) rfl
theorem q1298 : (Jvm.Cond.interfaceEntry "GridMarket$Day" (59 : Nat)) ∈ lw_tbl := lw_at lw_m6 44 rfl
theorem q1299 : (Jvm.Cond.methodLink "GridMarket$Day" (59 : Nat) ({ cls := "java/util/Iterator", name := "next", desc := "()Ljava/lang/Object;" } : Jvm.MethodName)) ∈ lw_all := lw_g (lw_at lw_m6 45 rfl) rfl
theorem q1300 : (Jvm.Cond.classLink "GridMarket$Day" (63 : Nat) "GridMarket$Bid") ∈ lw_all := lw_g (lw_at lw_m6 46 rfl) rfl
theorem q1301 : (Jvm.Cond.classLink "GridMarket$Day" (82 : Nat) "GridMarket$Block") ∈ lw_all := lw_g (lw_at lw_m6 47 rfl) rfl
theorem q1302 : (Jvm.Cond.methodLink "GridMarket$Day" (89 : Nat) ({ cls := "GridMarket$Block", name := "isIn", desc := "(I)Z" } : Jvm.MethodName)) ∈ lw_all := lw_g (lw_at lw_m6 48 rfl) rfl
theorem q1303 : (Jvm.Cond.classLink "GridMarket$Day" (97 : Nat) "GridMarket$Trade") ∈ lw_all := lw_g (lw_at lw_m6 49 rfl) rfl
theorem q1318 : (Jvm.Cond.instanceMethod ({ cls := "GridMarket$Day", name := "gap", desc := "(I)I" } : Jvm.MethodName)) ∈ lw_all := lw_g (lw_at lw_m6 64 rfl) rfl
theorem q1319 : (Jvm.Cond.selects "GridMarket$Day" ({ cls := "GridMarket$Day", name := "gap", desc := "(I)I" } : Jvm.MethodName) ({ cls := "GridMarket$Day", name := "gap", desc := "(I)I" } : Jvm.MethodName)) ∈ lw_all := lw_g (lw_at lw_m6 65 rfl) rfl
theorem q1320 : (Jvm.Cond.code ({ cls := "GridMarket$Day", name := "gap", desc := "(I)I" } : Jvm.MethodName) prog_8_method_4_code (5 : Nat) (Option.some Jvm.ClassFile.FieldType.int)) ∈ lw_all := lw_g (lw_at lw_m6 66 rfl) rfl
theorem q1321 : (Jvm.Cond.methodLink "GridMarket$Day" (116 : Nat) ({ cls := "GridMarket$Day", name := "gap", desc := "(III)I" } : Jvm.MethodName)) ∈ lw_all := lw_g (lw_at lw_m6 67 rfl) rfl
theorem q1966 : (Jvm.Cond.castable "GridMarket$Day" "java/lang/Object") ∈ lw_tbl := lw_at lw_m8 232 rfl
theorem in_X2 : ∀ w ∈ wsX20, w ∈ lw_all := lw_in wsX20 [163, 165, 167, 169, 171, 173, 175, 177, 179, 181, 183] (by decide +kernel) (by decide +kernel)
/-! GridMarket$Bid -/
set_option maxRecDepth 100000
def RX4 : String := "GridMarket$Bid"
def TX4 : u_T := fun k => match k with
  | 0 => ("GridMarket$Bid", "firm", "I", true)
  | 1 => ("GridMarket$Bid", "zone", "I", true)
  | 2 => ("GridMarket$Bid", "hour", "I", true)
  | 3 => ("GridMarket$Bid", "isBuy", "Z", true)
  | 4 => ("GridMarket$Bid", "price", "I", true)
  | 5 => ("GridMarket$Bid", "units", "I", true)
  | _ => ("GridMarket$Bid", "taken", "I", false)
def tyX4 : Nat → FieldType := fun k => match k with
  | 0 => .int
  | 1 => .int
  | 2 => .int
  | 3 => .boolean
  | 4 => .int
  | 5 => .int
  | _ => .int
abbrev wsX40 : List Cond := u_ws RX4 TX4 7
theorem nmX4 : ∀ a, a < 7 → ∀ b, b < 7 → a ≠ b → (TX4 a).2.1 ≠ (TX4 b).2.1 := by decide +kernel
theorem tyX4_ok : ∀ k, k < 7 → parseFieldDescriptor (TX4 k).2.2.1 = some (tyX4 k) := by decide +kernel
abbrev cX4_init : ByteArray := prog_5_method_1_code
def yX4_init : MethodName := ⟨RX4, "<init>", "(IIIZII)V"⟩
def dkwX4_init_1 : List UInt8 := [181, 0, 19, 42, 21, 5, 181, 0, 23, 42, 21, 6, 181, 0, 26, 177]
abbrev dktX4_init_1 : List UInt8 := dkwX4_init_1 ++ []
def dkwX4_init_0 : List UInt8 := [42, 183, 0, 1, 42, 27, 181, 0, 7, 42, 28, 181, 0, 13, 42, 29, 181, 0, 16, 42, 21, 4]
abbrev dktX4_init_0 : List UInt8 := dkwX4_init_0 ++ dktX4_init_1
theorem dksX4_init_0 : cX4_init.data.toList.drop 0 = dktX4_init_0 := by decide +kernel
theorem dksX4_init_1 : cX4_init.data.toList.drop 22 = dktX4_init_1 := dk_seg dksX4_init_0 22 rfl rfl
theorem dX4_init_0 : decode cX4_init 0 = .ok (.aload_n 0, 1) := dk_42 (dk_at dksX4_init_0 0 rfl rfl)
theorem dX4_init_1 : decode cX4_init 1 = .ok (.invokespecial 1, 3) := dk_183 0 1 (dk_at dksX4_init_0 1 rfl rfl)
theorem dX4_init_4 : decode cX4_init 4 = .ok (.aload_n 0, 1) := dk_42 (dk_at dksX4_init_0 4 rfl rfl)
theorem dX4_init_5 : decode cX4_init 5 = .ok (.iload_n 1, 1) := dk_27 (dk_at dksX4_init_0 5 rfl rfl)
theorem dX4_init_6 : decode cX4_init 6 = .ok (.putfield 7, 3) := dk_181 0 7 (dk_at dksX4_init_0 6 rfl rfl)
theorem dX4_init_9 : decode cX4_init 9 = .ok (.aload_n 0, 1) := dk_42 (dk_at dksX4_init_0 9 rfl rfl)
theorem dX4_init_10 : decode cX4_init 10 = .ok (.iload_n 2, 1) := dk_28 (dk_at dksX4_init_0 10 rfl rfl)
theorem dX4_init_11 : decode cX4_init 11 = .ok (.putfield 13, 3) := dk_181 0 13 (dk_at dksX4_init_0 11 rfl rfl)
theorem dX4_init_14 : decode cX4_init 14 = .ok (.aload_n 0, 1) := dk_42 (dk_at dksX4_init_0 14 rfl rfl)
theorem dX4_init_15 : decode cX4_init 15 = .ok (.iload_n 3, 1) := dk_29 (dk_at dksX4_init_0 15 rfl rfl)
theorem dX4_init_16 : decode cX4_init 16 = .ok (.putfield 16, 3) := dk_181 0 16 (dk_at dksX4_init_0 16 rfl rfl)
theorem dX4_init_19 : decode cX4_init 19 = .ok (.aload_n 0, 1) := dk_42 (dk_at dksX4_init_0 19 rfl rfl)
theorem dX4_init_20 : decode cX4_init 20 = .ok (.iload 4, 2) := dk_21 4 (dk_at dksX4_init_0 20 rfl rfl)
theorem dX4_init_22 : decode cX4_init 22 = .ok (.putfield 19, 3) := dk_181 0 19 (dk_at dksX4_init_1 0 rfl rfl)
theorem dX4_init_25 : decode cX4_init 25 = .ok (.aload_n 0, 1) := dk_42 (dk_at dksX4_init_1 3 rfl rfl)
theorem dX4_init_26 : decode cX4_init 26 = .ok (.iload 5, 2) := dk_21 5 (dk_at dksX4_init_1 4 rfl rfl)
theorem dX4_init_28 : decode cX4_init 28 = .ok (.putfield 23, 3) := dk_181 0 23 (dk_at dksX4_init_1 6 rfl rfl)
theorem dX4_init_31 : decode cX4_init 31 = .ok (.aload_n 0, 1) := dk_42 (dk_at dksX4_init_1 9 rfl rfl)
theorem dX4_init_32 : decode cX4_init 32 = .ok (.iload 6, 2) := dk_21 6 (dk_at dksX4_init_1 10 rfl rfl)
theorem dX4_init_34 : decode cX4_init 34 = .ok (.putfield 26, 3) := dk_181 0 26 (dk_at dksX4_init_1 12 rfl rfl)
theorem dX4_init_37 : decode cX4_init 37 = .ok (.return_, 1) := dk_177 (dk_at dksX4_init_1 15 rfl rfl)
theorem q69 : (Jvm.Cond.initialized "GridMarket$Bid") ∈ lw_all := lw_g (lw_at lw_m1 15 rfl) rfl
theorem q403 : (Jvm.Cond.instantiable "GridMarket$Bid" (7 : Nat)) ∈ lw_all := lw_g (lw_at lw_m2 109 rfl) rfl
theorem q405 : (Jvm.Cond.instanceMethod ({ cls := "GridMarket$Bid", name := "<init>", desc := "(IIIZII)V" } : Jvm.MethodName)) ∈ lw_all := lw_g (lw_at lw_m2 111 rfl) rfl
theorem q406 : (Jvm.Cond.code ({ cls := "GridMarket$Bid", name := "<init>", desc := "(IIIZII)V" } : Jvm.MethodName) prog_5_method_1_code (7 : Nat) (Option.none : Option Jvm.ClassFile.FieldType)) ∈ lw_all := lw_g (lw_at lw_m2 112 rfl) rfl
theorem q407 : (Jvm.Cond.methodLink "GridMarket$Bid" (1 : Nat) ({ cls := "java/lang/Object", name := "<init>", desc := "()V" } : Jvm.MethodName)) ∈ lw_all := lw_g (lw_at lw_m2 113 rfl) rfl
theorem q408 : (Jvm.Cond.fieldLink "GridMarket$Bid" (7 : Nat) "GridMarket$Bid" "firm" "I") ∈ lw_all := lw_g (lw_at lw_m2 114 rfl) rfl
theorem q411 : (Jvm.Cond.fieldLink "GridMarket$Bid" (13 : Nat) "GridMarket$Bid" "zone" "I") ∈ lw_all := lw_g (lw_at lw_m2 117 rfl) rfl
theorem q414 : (Jvm.Cond.fieldLink "GridMarket$Bid" (16 : Nat) "GridMarket$Bid" "hour" "I") ∈ lw_all := lw_g (lw_at lw_m2 120 rfl) rfl
theorem q417 : (Jvm.Cond.fieldLink "GridMarket$Bid" (19 : Nat) "GridMarket$Bid" "isBuy" "Z") ∈ lw_all := lw_g (lw_at lw_m2 123 rfl) rfl
theorem q421 : (Jvm.Cond.fieldLink "GridMarket$Bid" (23 : Nat) "GridMarket$Bid" "price" "I") ∈ lw_all := lw_g (lw_at lw_m2 127 rfl) rfl
theorem q424 : (Jvm.Cond.fieldLink "GridMarket$Bid" (26 : Nat) "GridMarket$Bid" "units" "I") ∈ lw_all := lw_g (lw_at lw_m2 130 rfl) rfl
theorem q429 : (Jvm.Cond.laysFinal "GridMarket$Bid" "GridMarket$Bid" "firm" "I") ∈ lw_all := lw_g (lw_at lw_m2 135 rfl) rfl
theorem q430 : (Jvm.Cond.soleField "GridMarket$Bid" "firm") ∈ lw_all := lw_g (lw_at lw_m2 136 rfl) rfl
theorem q431 : (Jvm.Cond.laysFinal "GridMarket$Bid" "GridMarket$Bid" "zone" "I") ∈ lw_all := lw_g (lw_at lw_m2 137 rfl) rfl
theorem q432 : (Jvm.Cond.soleField "GridMarket$Bid" "zone") ∈ lw_all := lw_g (lw_at lw_m2 138 rfl) rfl
theorem q433 : (Jvm.Cond.laysFinal "GridMarket$Bid" "GridMarket$Bid" "hour" "I") ∈ lw_all := lw_g (lw_at lw_m2 139 rfl) rfl
theorem q434 : (Jvm.Cond.soleField "GridMarket$Bid" "hour") ∈ lw_all := lw_g (lw_at lw_m2 140 rfl) rfl
theorem q435 : (Jvm.Cond.laysFinal "GridMarket$Bid" "GridMarket$Bid" "isBuy" "Z") ∈ lw_all := lw_g (lw_at lw_m2 141 rfl) rfl
theorem q436 : (Jvm.Cond.soleField "GridMarket$Bid" "isBuy") ∈ lw_all := lw_g (lw_at lw_m2 142 rfl) rfl
theorem q437 : (Jvm.Cond.laysFinal "GridMarket$Bid" "GridMarket$Bid" "price" "I") ∈ lw_all := lw_g (lw_at lw_m2 143 rfl) rfl
theorem q438 : (Jvm.Cond.soleField "GridMarket$Bid" "price") ∈ lw_all := lw_g (lw_at lw_m2 144 rfl) rfl
theorem q439 : (Jvm.Cond.laysFinal "GridMarket$Bid" "GridMarket$Bid" "units" "I") ∈ lw_all := lw_g (lw_at lw_m2 145 rfl) rfl
theorem q440 : (Jvm.Cond.soleField "GridMarket$Bid" "units") ∈ lw_all := lw_g (lw_at lw_m2 146 rfl) rfl
theorem q441 : (Jvm.Cond.lays "GridMarket$Bid" "GridMarket$Bid" "taken" "I") ∈ lw_all := lw_g (lw_at lw_m2 147 rfl) rfl
theorem q442 : (Jvm.Cond.soleField "GridMarket$Bid" "taken") ∈ lw_all := lw_g (lw_at lw_m2 148 rfl) rfl
theorem q443 : (Jvm.Cond.superclass "GridMarket$Bid" "java/lang/Object") ∈ lw_all := lw_g (lw_at lw_m2 149 rfl) rfl
theorem q485 : (Jvm.Cond.selects "GridMarket$Bid" ({ cls := "java/lang/Object", name := "getClass", desc := "()Ljava/lang/Class;" } : Jvm.MethodName) ({ cls := "java/lang/Object", name := "getClass", desc := "()Ljava/lang/Class;" } : Jvm.MethodName)) ∈ lw_all := lw_g (lw_at lw_m2 191 rfl) rfl
theorem q1972 : (Jvm.Cond.castable "GridMarket$Bid" "java/lang/Object") ∈ lw_tbl := lw_at lw_m8 238 rfl
theorem in_X4 : ∀ w ∈ wsX40, w ∈ lw_all := lw_in wsX40 [429, 431, 433, 435, 437, 439, 441] (by decide +kernel) (by decide +kernel)
/-! GridMarket$Block -/
set_option maxRecDepth 100000
def RX5 : String := "GridMarket$Block"
def TX5 : u_T := fun k => match k with
  | 0 => ("GridMarket$Block", "firm", "I", true)
  | 1 => ("GridMarket$Block", "zone", "I", true)
  | 2 => ("GridMarket$Block", "hours", "I", true)
  | 3 => ("GridMarket$Block", "isBuy", "Z", true)
  | 4 => ("GridMarket$Block", "price", "I", true)
  | 5 => ("GridMarket$Block", "units", "I", true)
  | 6 => ("GridMarket$Block", "to", "I", false)
  | 7 => ("GridMarket$Block", "group", "I", false)
  | _ => ("GridMarket$Block", "isTaken", "Z", false)
def tyX5 : Nat → FieldType := fun k => match k with
  | 0 => .int
  | 1 => .int
  | 2 => .int
  | 3 => .boolean
  | 4 => .int
  | 5 => .int
  | 6 => .int
  | 7 => .int
  | _ => .boolean
abbrev wsX50 : List Cond := u_ws RX5 TX5 9
theorem nmX5 : ∀ a, a < 9 → ∀ b, b < 9 → a ≠ b → (TX5 a).2.1 ≠ (TX5 b).2.1 := by decide +kernel
theorem tyX5_ok : ∀ k, k < 9 → parseFieldDescriptor (TX5 k).2.2.1 = some (tyX5 k) := by decide +kernel
abbrev cX5_init : ByteArray := prog_6_method_1_code
def yX5_init : MethodName := ⟨RX5, "<init>", "(IIIZII)V"⟩
def dkwX5_init_1 : List UInt8 := [42, 29, 181, 0, 24, 42, 21, 4, 181, 0, 27, 42, 21, 5, 181, 0, 31, 42, 21, 6, 181, 0, 34, 177]
abbrev dktX5_init_1 : List UInt8 := dkwX5_init_1 ++ []
def dkwX5_init_0 : List UInt8 := [42, 183, 0, 3, 42, 2, 181, 0, 9, 42, 2, 181, 0, 15, 42, 27, 181, 0, 18, 42, 28, 181, 0, 21]
abbrev dktX5_init_0 : List UInt8 := dkwX5_init_0 ++ dktX5_init_1
theorem dksX5_init_0 : cX5_init.data.toList.drop 0 = dktX5_init_0 := by decide +kernel
theorem dksX5_init_1 : cX5_init.data.toList.drop 24 = dktX5_init_1 := dk_seg dksX5_init_0 24 rfl rfl
theorem dX5_init_0 : decode cX5_init 0 = .ok (.aload_n 0, 1) := dk_42 (dk_at dksX5_init_0 0 rfl rfl)
theorem dX5_init_1 : decode cX5_init 1 = .ok (.invokespecial 3, 3) := dk_183 0 3 (dk_at dksX5_init_0 1 rfl rfl)
theorem dX5_init_4 : decode cX5_init 4 = .ok (.aload_n 0, 1) := dk_42 (dk_at dksX5_init_0 4 rfl rfl)
theorem dX5_init_5 : decode cX5_init 5 = .ok (.iconst (-1), 1) := dk_2 (dk_at dksX5_init_0 5 rfl rfl)
theorem dX5_init_6 : decode cX5_init 6 = .ok (.putfield 9, 3) := dk_181 0 9 (dk_at dksX5_init_0 6 rfl rfl)
theorem dX5_init_9 : decode cX5_init 9 = .ok (.aload_n 0, 1) := dk_42 (dk_at dksX5_init_0 9 rfl rfl)
theorem dX5_init_10 : decode cX5_init 10 = .ok (.iconst (-1), 1) := dk_2 (dk_at dksX5_init_0 10 rfl rfl)
theorem dX5_init_11 : decode cX5_init 11 = .ok (.putfield 15, 3) := dk_181 0 15 (dk_at dksX5_init_0 11 rfl rfl)
theorem dX5_init_14 : decode cX5_init 14 = .ok (.aload_n 0, 1) := dk_42 (dk_at dksX5_init_0 14 rfl rfl)
theorem dX5_init_15 : decode cX5_init 15 = .ok (.iload_n 1, 1) := dk_27 (dk_at dksX5_init_0 15 rfl rfl)
theorem dX5_init_16 : decode cX5_init 16 = .ok (.putfield 18, 3) := dk_181 0 18 (dk_at dksX5_init_0 16 rfl rfl)
theorem dX5_init_19 : decode cX5_init 19 = .ok (.aload_n 0, 1) := dk_42 (dk_at dksX5_init_0 19 rfl rfl)
theorem dX5_init_20 : decode cX5_init 20 = .ok (.iload_n 2, 1) := dk_28 (dk_at dksX5_init_0 20 rfl rfl)
theorem dX5_init_21 : decode cX5_init 21 = .ok (.putfield 21, 3) := dk_181 0 21 (dk_at dksX5_init_0 21 rfl rfl)
theorem dX5_init_24 : decode cX5_init 24 = .ok (.aload_n 0, 1) := dk_42 (dk_at dksX5_init_1 0 rfl rfl)
theorem dX5_init_25 : decode cX5_init 25 = .ok (.iload_n 3, 1) := dk_29 (dk_at dksX5_init_1 1 rfl rfl)
theorem dX5_init_26 : decode cX5_init 26 = .ok (.putfield 24, 3) := dk_181 0 24 (dk_at dksX5_init_1 2 rfl rfl)
theorem dX5_init_29 : decode cX5_init 29 = .ok (.aload_n 0, 1) := dk_42 (dk_at dksX5_init_1 5 rfl rfl)
theorem dX5_init_30 : decode cX5_init 30 = .ok (.iload 4, 2) := dk_21 4 (dk_at dksX5_init_1 6 rfl rfl)
theorem dX5_init_32 : decode cX5_init 32 = .ok (.putfield 27, 3) := dk_181 0 27 (dk_at dksX5_init_1 8 rfl rfl)
theorem dX5_init_35 : decode cX5_init 35 = .ok (.aload_n 0, 1) := dk_42 (dk_at dksX5_init_1 11 rfl rfl)
theorem dX5_init_36 : decode cX5_init 36 = .ok (.iload 5, 2) := dk_21 5 (dk_at dksX5_init_1 12 rfl rfl)
theorem dX5_init_38 : decode cX5_init 38 = .ok (.putfield 31, 3) := dk_181 0 31 (dk_at dksX5_init_1 14 rfl rfl)
theorem dX5_init_41 : decode cX5_init 41 = .ok (.aload_n 0, 1) := dk_42 (dk_at dksX5_init_1 17 rfl rfl)
theorem dX5_init_42 : decode cX5_init 42 = .ok (.iload 6, 2) := dk_21 6 (dk_at dksX5_init_1 18 rfl rfl)
theorem dX5_init_44 : decode cX5_init 44 = .ok (.putfield 34, 3) := dk_181 0 34 (dk_at dksX5_init_1 20 rfl rfl)
theorem dX5_init_47 : decode cX5_init 47 = .ok (.return_, 1) := dk_177 (dk_at dksX5_init_1 23 rfl rfl)
abbrev cX5_isIn : ByteArray := prog_6_method_2_code
def yX5_isIn : MethodName := ⟨RX5, "isIn", "(I)Z"⟩
def dkwX5_isIn_0 : List UInt8 := [42, 180, 0, 24, 27, 122, 4, 126, 4, 160, 0, 7, 4, 167, 0, 4, 3, 172]
abbrev dktX5_isIn_0 : List UInt8 := dkwX5_isIn_0 ++ []
theorem dksX5_isIn_0 : cX5_isIn.data.toList.drop 0 = dktX5_isIn_0 := by decide +kernel
theorem dX5_isIn_0 : decode cX5_isIn 0 = .ok (.aload_n 0, 1) := dk_42 (dk_at dksX5_isIn_0 0 rfl rfl)
theorem dX5_isIn_1 : decode cX5_isIn 1 = .ok (.getfield 24, 3) := dk_180 0 24 (dk_at dksX5_isIn_0 1 rfl rfl)
theorem dX5_isIn_4 : decode cX5_isIn 4 = .ok (.iload_n 1, 1) := dk_27 (dk_at dksX5_isIn_0 4 rfl rfl)
theorem dX5_isIn_5 : decode cX5_isIn 5 = .ok (.ishr, 1) := dk_122 (dk_at dksX5_isIn_0 5 rfl rfl)
theorem dX5_isIn_6 : decode cX5_isIn 6 = .ok (.iconst 1, 1) := dk_4 (dk_at dksX5_isIn_0 6 rfl rfl)
theorem dX5_isIn_7 : decode cX5_isIn 7 = .ok (.iand, 1) := dk_126 (dk_at dksX5_isIn_0 7 rfl rfl)
theorem dX5_isIn_8 : decode cX5_isIn 8 = .ok (.iconst 1, 1) := dk_4 (dk_at dksX5_isIn_0 8 rfl rfl)
theorem dX5_isIn_9 : decode cX5_isIn 9 = .ok (.if_icmp .ne 7, 3) := dk_160 0 7 (dk_at dksX5_isIn_0 9 rfl rfl)
theorem dX5_isIn_12 : decode cX5_isIn 12 = .ok (.iconst 1, 1) := dk_4 (dk_at dksX5_isIn_0 12 rfl rfl)
theorem dX5_isIn_13 : decode cX5_isIn 13 = .ok (.goto 4, 3) := dk_167 0 4 (dk_at dksX5_isIn_0 13 rfl rfl)
theorem dX5_isIn_16 : decode cX5_isIn 16 = .ok (.iconst 0, 1) := dk_3 (dk_at dksX5_isIn_0 16 rfl rfl)
theorem dX5_isIn_17 : decode cX5_isIn 17 = .ok (.ireturn, 1) := dk_172 (dk_at dksX5_isIn_0 17 rfl rfl)
abbrev cX5_gain : ByteArray := prog_6_method_3_code
def yX5_gain : MethodName := ⟨RX5, "gain", "([[I)I"⟩
def dkwX5_gain_2 : List UInt8 := [180, 0, 27, 153, 0, 8, 28, 116, 167, 0, 4, 28, 172]
abbrev dktX5_gain_2 : List UInt8 := dkwX5_gain_2 ++ []
def dkwX5_gain_1 : List UInt8 := [180, 0, 21, 46, 42, 180, 0, 31, 100, 167, 0, 4, 3, 96, 61, 132, 3, 1, 167, 255, 220, 42]
abbrev dktX5_gain_1 : List UInt8 := dkwX5_gain_1 ++ dktX5_gain_2
def dkwX5_gain_0 : List UInt8 := [3, 61, 3, 62, 29, 7, 162, 0, 37, 28, 42, 29, 182, 0, 37, 153, 0, 19, 43, 29, 50, 42]
abbrev dktX5_gain_0 : List UInt8 := dkwX5_gain_0 ++ dktX5_gain_1
theorem dksX5_gain_0 : cX5_gain.data.toList.drop 0 = dktX5_gain_0 := by decide +kernel
theorem dksX5_gain_1 : cX5_gain.data.toList.drop 22 = dktX5_gain_1 := dk_seg dksX5_gain_0 22 rfl rfl
theorem dksX5_gain_2 : cX5_gain.data.toList.drop 44 = dktX5_gain_2 := dk_seg dksX5_gain_1 22 rfl rfl
theorem dX5_gain_0 : decode cX5_gain 0 = .ok (.iconst 0, 1) := dk_3 (dk_at dksX5_gain_0 0 rfl rfl)
theorem dX5_gain_1 : decode cX5_gain 1 = .ok (.istore_n 2, 1) := dk_61 (dk_at dksX5_gain_0 1 rfl rfl)
theorem dX5_gain_2 : decode cX5_gain 2 = .ok (.iconst 0, 1) := dk_3 (dk_at dksX5_gain_0 2 rfl rfl)
theorem dX5_gain_3 : decode cX5_gain 3 = .ok (.istore_n 3, 1) := dk_62 (dk_at dksX5_gain_0 3 rfl rfl)
theorem dX5_gain_4 : decode cX5_gain 4 = .ok (.iload_n 3, 1) := dk_29 (dk_at dksX5_gain_0 4 rfl rfl)
theorem dX5_gain_5 : decode cX5_gain 5 = .ok (.iconst 4, 1) := dk_7 (dk_at dksX5_gain_0 5 rfl rfl)
theorem dX5_gain_6 : decode cX5_gain 6 = .ok (.if_icmp .ge 37, 3) := dk_162 0 37 (dk_at dksX5_gain_0 6 rfl rfl)
theorem dX5_gain_9 : decode cX5_gain 9 = .ok (.iload_n 2, 1) := dk_28 (dk_at dksX5_gain_0 9 rfl rfl)
theorem dX5_gain_10 : decode cX5_gain 10 = .ok (.aload_n 0, 1) := dk_42 (dk_at dksX5_gain_0 10 rfl rfl)
theorem dX5_gain_11 : decode cX5_gain 11 = .ok (.iload_n 3, 1) := dk_29 (dk_at dksX5_gain_0 11 rfl rfl)
theorem dX5_gain_12 : decode cX5_gain 12 = .ok (.invokevirtual 37, 3) := dk_182 0 37 (dk_at dksX5_gain_0 12 rfl rfl)
theorem dX5_gain_15 : decode cX5_gain 15 = .ok (.ifCond .eq 19, 3) := dk_153 0 19 (dk_at dksX5_gain_0 15 rfl rfl)
theorem dX5_gain_18 : decode cX5_gain 18 = .ok (.aload_n 1, 1) := dk_43 (dk_at dksX5_gain_0 18 rfl rfl)
theorem dX5_gain_19 : decode cX5_gain 19 = .ok (.iload_n 3, 1) := dk_29 (dk_at dksX5_gain_0 19 rfl rfl)
theorem dX5_gain_20 : decode cX5_gain 20 = .ok (.aaload, 1) := dk_50 (dk_at dksX5_gain_0 20 rfl rfl)
theorem dX5_gain_21 : decode cX5_gain 21 = .ok (.aload_n 0, 1) := dk_42 (dk_at dksX5_gain_0 21 rfl rfl)
theorem dX5_gain_22 : decode cX5_gain 22 = .ok (.getfield 21, 3) := dk_180 0 21 (dk_at dksX5_gain_1 0 rfl rfl)
theorem dX5_gain_25 : decode cX5_gain 25 = .ok (.iaload, 1) := dk_46 (dk_at dksX5_gain_1 3 rfl rfl)
theorem dX5_gain_26 : decode cX5_gain 26 = .ok (.aload_n 0, 1) := dk_42 (dk_at dksX5_gain_1 4 rfl rfl)
theorem dX5_gain_27 : decode cX5_gain 27 = .ok (.getfield 31, 3) := dk_180 0 31 (dk_at dksX5_gain_1 5 rfl rfl)
theorem dX5_gain_30 : decode cX5_gain 30 = .ok (.isub, 1) := dk_100 (dk_at dksX5_gain_1 8 rfl rfl)
theorem dX5_gain_31 : decode cX5_gain 31 = .ok (.goto 4, 3) := dk_167 0 4 (dk_at dksX5_gain_1 9 rfl rfl)
theorem dX5_gain_34 : decode cX5_gain 34 = .ok (.iconst 0, 1) := dk_3 (dk_at dksX5_gain_1 12 rfl rfl)
theorem dX5_gain_35 : decode cX5_gain 35 = .ok (.iadd, 1) := dk_96 (dk_at dksX5_gain_1 13 rfl rfl)
theorem dX5_gain_36 : decode cX5_gain 36 = .ok (.istore_n 2, 1) := dk_61 (dk_at dksX5_gain_1 14 rfl rfl)
theorem dX5_gain_37 : decode cX5_gain 37 = .ok (.iinc 3 1, 3) := dk_132 3 1 (dk_at dksX5_gain_1 15 rfl rfl)
theorem dX5_gain_40 : decode cX5_gain 40 = .ok (.goto (-36), 3) := dk_167 255 220 (dk_at dksX5_gain_1 18 rfl rfl)
theorem dX5_gain_43 : decode cX5_gain 43 = .ok (.aload_n 0, 1) := dk_42 (dk_at dksX5_gain_1 21 rfl rfl)
theorem dX5_gain_44 : decode cX5_gain 44 = .ok (.getfield 27, 3) := dk_180 0 27 (dk_at dksX5_gain_2 0 rfl rfl)
theorem dX5_gain_47 : decode cX5_gain 47 = .ok (.ifCond .eq 8, 3) := dk_153 0 8 (dk_at dksX5_gain_2 3 rfl rfl)
theorem dX5_gain_50 : decode cX5_gain 50 = .ok (.iload_n 2, 1) := dk_28 (dk_at dksX5_gain_2 6 rfl rfl)
theorem dX5_gain_51 : decode cX5_gain 51 = .ok (.ineg, 1) := dk_116 (dk_at dksX5_gain_2 7 rfl rfl)
theorem dX5_gain_52 : decode cX5_gain 52 = .ok (.goto 4, 3) := dk_167 0 4 (dk_at dksX5_gain_2 8 rfl rfl)
theorem dX5_gain_55 : decode cX5_gain 55 = .ok (.iload_n 2, 1) := dk_28 (dk_at dksX5_gain_2 11 rfl rfl)
theorem dX5_gain_56 : decode cX5_gain 56 = .ok (.ireturn, 1) := dk_172 (dk_at dksX5_gain_2 12 rfl rfl)
abbrev cX5_worth : ByteArray := prog_6_method_4_code
def yX5_worth : MethodName := ⟨RX5, "worth", "()I"⟩
def dkwX5_worth_1 : List UInt8 := [153, 0, 7, 27, 167, 0, 5, 27, 116, 172]
abbrev dktX5_worth_1 : List UInt8 := dkwX5_worth_1 ++ []
def dkwX5_worth_0 : List UInt8 := [42, 180, 0, 31, 42, 180, 0, 34, 104, 42, 180, 0, 24, 184, 0, 41, 104, 60, 42, 180, 0, 27]
abbrev dktX5_worth_0 : List UInt8 := dkwX5_worth_0 ++ dktX5_worth_1
theorem dksX5_worth_0 : cX5_worth.data.toList.drop 0 = dktX5_worth_0 := by decide +kernel
theorem dksX5_worth_1 : cX5_worth.data.toList.drop 22 = dktX5_worth_1 := dk_seg dksX5_worth_0 22 rfl rfl
theorem dX5_worth_0 : decode cX5_worth 0 = .ok (.aload_n 0, 1) := dk_42 (dk_at dksX5_worth_0 0 rfl rfl)
theorem dX5_worth_1 : decode cX5_worth 1 = .ok (.getfield 31, 3) := dk_180 0 31 (dk_at dksX5_worth_0 1 rfl rfl)
theorem dX5_worth_4 : decode cX5_worth 4 = .ok (.aload_n 0, 1) := dk_42 (dk_at dksX5_worth_0 4 rfl rfl)
theorem dX5_worth_5 : decode cX5_worth 5 = .ok (.getfield 34, 3) := dk_180 0 34 (dk_at dksX5_worth_0 5 rfl rfl)
theorem dX5_worth_8 : decode cX5_worth 8 = .ok (.imul, 1) := dk_104 (dk_at dksX5_worth_0 8 rfl rfl)
theorem dX5_worth_9 : decode cX5_worth 9 = .ok (.aload_n 0, 1) := dk_42 (dk_at dksX5_worth_0 9 rfl rfl)
theorem dX5_worth_10 : decode cX5_worth 10 = .ok (.getfield 24, 3) := dk_180 0 24 (dk_at dksX5_worth_0 10 rfl rfl)
theorem dX5_worth_13 : decode cX5_worth 13 = .ok (.invokestatic 41, 3) := dk_184 0 41 (dk_at dksX5_worth_0 13 rfl rfl)
theorem dX5_worth_16 : decode cX5_worth 16 = .ok (.imul, 1) := dk_104 (dk_at dksX5_worth_0 16 rfl rfl)
theorem dX5_worth_17 : decode cX5_worth 17 = .ok (.istore_n 1, 1) := dk_60 (dk_at dksX5_worth_0 17 rfl rfl)
theorem dX5_worth_18 : decode cX5_worth 18 = .ok (.aload_n 0, 1) := dk_42 (dk_at dksX5_worth_0 18 rfl rfl)
theorem dX5_worth_19 : decode cX5_worth 19 = .ok (.getfield 27, 3) := dk_180 0 27 (dk_at dksX5_worth_0 19 rfl rfl)
theorem dX5_worth_22 : decode cX5_worth 22 = .ok (.ifCond .eq 7, 3) := dk_153 0 7 (dk_at dksX5_worth_1 0 rfl rfl)
theorem dX5_worth_25 : decode cX5_worth 25 = .ok (.iload_n 1, 1) := dk_27 (dk_at dksX5_worth_1 3 rfl rfl)
theorem dX5_worth_26 : decode cX5_worth 26 = .ok (.goto 5, 3) := dk_167 0 5 (dk_at dksX5_worth_1 4 rfl rfl)
theorem dX5_worth_29 : decode cX5_worth 29 = .ok (.iload_n 1, 1) := dk_27 (dk_at dksX5_worth_1 7 rfl rfl)
theorem dX5_worth_30 : decode cX5_worth 30 = .ok (.ineg, 1) := dk_116 (dk_at dksX5_worth_1 8 rfl rfl)
theorem dX5_worth_31 : decode cX5_worth 31 = .ok (.ireturn, 1) := dk_172 (dk_at dksX5_worth_1 9 rfl rfl)
theorem q74 : (Jvm.Cond.initialized "GridMarket$Block") ∈ lw_all := lw_g (lw_at lw_m1 20 rfl) rfl
theorem q486 : (Jvm.Cond.selects "GridMarket$Block" ({ cls := "java/lang/Object", name := "getClass", desc := "()Ljava/lang/Class;" } : Jvm.MethodName) ({ cls := "java/lang/Object", name := "getClass", desc := "()Ljava/lang/Class;" } : Jvm.MethodName)) ∈ lw_all := lw_g (lw_at lw_m2 192 rfl) rfl
theorem q525 : (Jvm.Cond.instantiable "GridMarket$Block" (9 : Nat)) ∈ lw_all := lw_g (lw_at lw_m2 231 rfl) rfl
theorem q527 : (Jvm.Cond.instanceMethod ({ cls := "GridMarket$Block", name := "<init>", desc := "(IIIZII)V" } : Jvm.MethodName)) ∈ lw_all := lw_g (lw_at lw_m2 233 rfl) rfl
theorem q528 : (Jvm.Cond.code ({ cls := "GridMarket$Block", name := "<init>", desc := "(IIIZII)V" } : Jvm.MethodName) prog_6_method_1_code (7 : Nat) (Option.none : Option Jvm.ClassFile.FieldType)) ∈ lw_all := lw_g (lw_at lw_m2 234 rfl) rfl
theorem q529 : (Jvm.Cond.methodLink "GridMarket$Block" (3 : Nat) ({ cls := "java/lang/Object", name := "<init>", desc := "()V" } : Jvm.MethodName)) ∈ lw_all := lw_g (lw_at lw_m2 235 rfl) rfl
theorem q530 : (Jvm.Cond.fieldLink "GridMarket$Block" (18 : Nat) "GridMarket$Block" "firm" "I") ∈ lw_all := lw_g (lw_at lw_m2 236 rfl) rfl
theorem q533 : (Jvm.Cond.fieldLink "GridMarket$Block" (21 : Nat) "GridMarket$Block" "zone" "I") ∈ lw_all := lw_g (lw_at lw_m2 239 rfl) rfl
theorem q536 : (Jvm.Cond.fieldLink "GridMarket$Block" (24 : Nat) "GridMarket$Block" "hours" "I") ∈ lw_all := lw_g (lw_at lw_m3 2 rfl) rfl
theorem q537 : (Jvm.Cond.fieldLink "GridMarket$Block" (27 : Nat) "GridMarket$Block" "isBuy" "Z") ∈ lw_all := lw_g (lw_at lw_m3 3 rfl) rfl
theorem q540 : (Jvm.Cond.fieldLink "GridMarket$Block" (31 : Nat) "GridMarket$Block" "price" "I") ∈ lw_all := lw_g (lw_at lw_m3 6 rfl) rfl
theorem q541 : (Jvm.Cond.fieldLink "GridMarket$Block" (34 : Nat) "GridMarket$Block" "units" "I") ∈ lw_all := lw_g (lw_at lw_m3 7 rfl) rfl
theorem q544 : (Jvm.Cond.fieldLink "GridMarket$Block" (9 : Nat) "GridMarket$Block" "to" "I") ∈ lw_all := lw_g (lw_at lw_m3 10 rfl) rfl
theorem q546 : (Jvm.Cond.fieldLink "GridMarket$Block" (15 : Nat) "GridMarket$Block" "group" "I") ∈ lw_all := lw_g (lw_at lw_m3 12 rfl) rfl
theorem q550 : (Jvm.Cond.laysFinal "GridMarket$Block" "GridMarket$Block" "firm" "I") ∈ lw_all := lw_g (lw_at lw_m3 16 rfl) rfl
theorem q551 : (Jvm.Cond.soleField "GridMarket$Block" "firm") ∈ lw_all := lw_g (lw_at lw_m3 17 rfl) rfl
theorem q552 : (Jvm.Cond.laysFinal "GridMarket$Block" "GridMarket$Block" "zone" "I") ∈ lw_all := lw_g (lw_at lw_m3 18 rfl) rfl
theorem q553 : (Jvm.Cond.soleField "GridMarket$Block" "zone") ∈ lw_all := lw_g (lw_at lw_m3 19 rfl) rfl
theorem q554 : (Jvm.Cond.laysFinal "GridMarket$Block" "GridMarket$Block" "hours" "I") ∈ lw_all := lw_g (lw_at lw_m3 20 rfl) rfl
theorem q555 : (Jvm.Cond.soleField "GridMarket$Block" "hours") ∈ lw_all := lw_g (lw_at lw_m3 21 rfl) rfl
theorem q556 : (Jvm.Cond.laysFinal "GridMarket$Block" "GridMarket$Block" "isBuy" "Z") ∈ lw_all := lw_g (lw_at lw_m3 22 rfl) rfl
theorem q557 : (Jvm.Cond.soleField "GridMarket$Block" "isBuy") ∈ lw_all := lw_g (lw_at lw_m3 23 rfl) rfl
theorem q558 : (Jvm.Cond.laysFinal "GridMarket$Block" "GridMarket$Block" "price" "I") ∈ lw_all := lw_g (lw_at lw_m3 24 rfl) rfl
theorem q559 : (Jvm.Cond.soleField "GridMarket$Block" "price") ∈ lw_all := lw_g (lw_at lw_m3 25 rfl) rfl
theorem q560 : (Jvm.Cond.laysFinal "GridMarket$Block" "GridMarket$Block" "units" "I") ∈ lw_all := lw_g (lw_at lw_m3 26 rfl) rfl
theorem q561 : (Jvm.Cond.soleField "GridMarket$Block" "units") ∈ lw_all := lw_g (lw_at lw_m3 27 rfl) rfl
theorem q562 : (Jvm.Cond.lays "GridMarket$Block" "GridMarket$Block" "to" "I") ∈ lw_all := lw_g (lw_at lw_m3 28 rfl) rfl
theorem q563 : (Jvm.Cond.soleField "GridMarket$Block" "to") ∈ lw_all := lw_g (lw_at lw_m3 29 rfl) rfl
theorem q564 : (Jvm.Cond.lays "GridMarket$Block" "GridMarket$Block" "group" "I") ∈ lw_all := lw_g (lw_at lw_m3 30 rfl) rfl
theorem q565 : (Jvm.Cond.soleField "GridMarket$Block" "group") ∈ lw_all := lw_g (lw_at lw_m3 31 rfl) rfl
theorem q566 : (Jvm.Cond.lays "GridMarket$Block" "GridMarket$Block" "isTaken" "Z") ∈ lw_all := lw_g (lw_at lw_m3 32 rfl) rfl
theorem q567 : (Jvm.Cond.soleField "GridMarket$Block" "isTaken") ∈ lw_all := lw_g (lw_at lw_m3 33 rfl) rfl
theorem q568 : (Jvm.Cond.superclass "GridMarket$Block" "java/lang/Object") ∈ lw_all := lw_g (lw_at lw_m3 34 rfl) rfl
theorem q1034 : (Jvm.Cond.instanceMethod ({ cls := "GridMarket$Block", name := "isIn", desc := "(I)Z" } : Jvm.MethodName)) ∈ lw_all := lw_g (lw_at lw_m5 20 rfl) rfl
theorem q1035 : (Jvm.Cond.selects "GridMarket$Block" ({ cls := "GridMarket$Block", name := "isIn", desc := "(I)Z" } : Jvm.MethodName) ({ cls := "GridMarket$Block", name := "isIn", desc := "(I)Z" } : Jvm.MethodName)) ∈ lw_all := lw_g (lw_at lw_m5 21 rfl) rfl
theorem q1036 : (Jvm.Cond.code ({ cls := "GridMarket$Block", name := "isIn", desc := "(I)Z" } : Jvm.MethodName) prog_6_method_2_code (2 : Nat) (Option.some Jvm.ClassFile.FieldType.boolean)) ∈ lw_all := lw_g (lw_at lw_m5 22 rfl) rfl
theorem q1083 : (Jvm.Cond.instanceMethod ({ cls := "GridMarket$Block", name := "gain", desc := "([[I)I" } : Jvm.MethodName)) ∈ lw_all := lw_g (lw_at lw_m5 69 rfl) rfl
theorem q1084 : (Jvm.Cond.selects "GridMarket$Block" ({ cls := "GridMarket$Block", name := "gain", desc := "([[I)I" } : Jvm.MethodName) ({ cls := "GridMarket$Block", name := "gain", desc := "([[I)I" } : Jvm.MethodName)) ∈ lw_all := lw_g (lw_at lw_m5 70 rfl) rfl
theorem q1085 : (Jvm.Cond.code ({ cls := "GridMarket$Block", name := "gain", desc := "([[I)I" } : Jvm.MethodName) prog_6_method_3_code (4 : Nat) (Option.some Jvm.ClassFile.FieldType.int)) ∈ lw_all := lw_g (lw_at lw_m5 71 rfl) rfl
theorem q1086 : (Jvm.Cond.methodLink "GridMarket$Block" (37 : Nat) ({ cls := "GridMarket$Block", name := "isIn", desc := "(I)Z" } : Jvm.MethodName)) ∈ lw_all := lw_g (lw_at lw_m5 72 rfl) rfl
theorem q1089 : (Jvm.Cond.instanceMethod ({ cls := "GridMarket$Block", name := "worth", desc := "()I" } : Jvm.MethodName)) ∈ lw_all := lw_g (lw_at lw_m5 75 rfl) rfl
theorem q1090 : (Jvm.Cond.selects "GridMarket$Block" ({ cls := "GridMarket$Block", name := "worth", desc := "()I" } : Jvm.MethodName) ({ cls := "GridMarket$Block", name := "worth", desc := "()I" } : Jvm.MethodName)) ∈ lw_all := lw_g (lw_at lw_m5 76 rfl) rfl
theorem q1091 : (Jvm.Cond.code ({ cls := "GridMarket$Block", name := "worth", desc := "()I" } : Jvm.MethodName) prog_6_method_4_code (2 : Nat) (Option.some Jvm.ClassFile.FieldType.int)) ∈ lw_all := lw_g (lw_at lw_m5 77 rfl) rfl
theorem q1092 : (Jvm.Cond.methodLink "GridMarket$Block" (41 : Nat) ({ cls := "java/lang/Integer", name := "bitCount", desc := "(I)I" } : Jvm.MethodName)) ∈ lw_all := lw_g (lw_at lw_m5 78 rfl) rfl
theorem q1973 : (Jvm.Cond.castable "GridMarket$Block" "java/lang/Object") ∈ lw_tbl := lw_at lw_m8 239 rfl
theorem in_X5 : ∀ w ∈ wsX50, w ∈ lw_all := lw_in wsX50 [550, 552, 554, 556, 558, 560, 562, 564, 566] (by decide +kernel) (by decide +kernel)
/-! GridMarket$Ask -/
set_option maxRecDepth 100000
def RX6 : String := "GridMarket$Ask"
def TX6 : u_T := fun k => match k with
  | 0 => ("GridMarket$Ask", "firm", "I", true)
  | 1 => ("GridMarket$Ask", "from", "I", true)
  | 2 => ("GridMarket$Ask", "to", "I", true)
  | 3 => ("GridMarket$Ask", "units", "I", true)
  | 4 => ("GridMarket$Ask", "price", "I", true)
  | 5 => ("GridMarket$Ask", "given", "I", false)
  | _ => ("GridMarket$Ask", "cost", "I", false)
def tyX6 : Nat → FieldType := fun k => match k with
  | 0 => .int
  | 1 => .int
  | 2 => .int
  | 3 => .int
  | 4 => .int
  | 5 => .int
  | _ => .int
abbrev wsX60 : List Cond := u_ws RX6 TX6 7
theorem nmX6 : ∀ a, a < 7 → ∀ b, b < 7 → a ≠ b → (TX6 a).2.1 ≠ (TX6 b).2.1 := by decide +kernel
theorem tyX6_ok : ∀ k, k < 7 → parseFieldDescriptor (TX6 k).2.2.1 = some (tyX6 k) := by decide +kernel
abbrev cX6_init : ByteArray := prog_3_method_1_code
def yX6_init : MethodName := ⟨RX6, "<init>", "(IIIII)V"⟩
def dkwX6_init_1 : List UInt8 := [181, 0, 19, 42, 21, 5, 181, 0, 22, 177]
abbrev dktX6_init_1 : List UInt8 := dkwX6_init_1 ++ []
def dkwX6_init_0 : List UInt8 := [42, 183, 0, 1, 42, 27, 181, 0, 7, 42, 28, 181, 0, 13, 42, 29, 181, 0, 16, 42, 21, 4]
abbrev dktX6_init_0 : List UInt8 := dkwX6_init_0 ++ dktX6_init_1
theorem dksX6_init_0 : cX6_init.data.toList.drop 0 = dktX6_init_0 := by decide +kernel
theorem dksX6_init_1 : cX6_init.data.toList.drop 22 = dktX6_init_1 := dk_seg dksX6_init_0 22 rfl rfl
theorem dX6_init_0 : decode cX6_init 0 = .ok (.aload_n 0, 1) := dk_42 (dk_at dksX6_init_0 0 rfl rfl)
theorem dX6_init_1 : decode cX6_init 1 = .ok (.invokespecial 1, 3) := dk_183 0 1 (dk_at dksX6_init_0 1 rfl rfl)
theorem dX6_init_4 : decode cX6_init 4 = .ok (.aload_n 0, 1) := dk_42 (dk_at dksX6_init_0 4 rfl rfl)
theorem dX6_init_5 : decode cX6_init 5 = .ok (.iload_n 1, 1) := dk_27 (dk_at dksX6_init_0 5 rfl rfl)
theorem dX6_init_6 : decode cX6_init 6 = .ok (.putfield 7, 3) := dk_181 0 7 (dk_at dksX6_init_0 6 rfl rfl)
theorem dX6_init_9 : decode cX6_init 9 = .ok (.aload_n 0, 1) := dk_42 (dk_at dksX6_init_0 9 rfl rfl)
theorem dX6_init_10 : decode cX6_init 10 = .ok (.iload_n 2, 1) := dk_28 (dk_at dksX6_init_0 10 rfl rfl)
theorem dX6_init_11 : decode cX6_init 11 = .ok (.putfield 13, 3) := dk_181 0 13 (dk_at dksX6_init_0 11 rfl rfl)
theorem dX6_init_14 : decode cX6_init 14 = .ok (.aload_n 0, 1) := dk_42 (dk_at dksX6_init_0 14 rfl rfl)
theorem dX6_init_15 : decode cX6_init 15 = .ok (.iload_n 3, 1) := dk_29 (dk_at dksX6_init_0 15 rfl rfl)
theorem dX6_init_16 : decode cX6_init 16 = .ok (.putfield 16, 3) := dk_181 0 16 (dk_at dksX6_init_0 16 rfl rfl)
theorem dX6_init_19 : decode cX6_init 19 = .ok (.aload_n 0, 1) := dk_42 (dk_at dksX6_init_0 19 rfl rfl)
theorem dX6_init_20 : decode cX6_init 20 = .ok (.iload 4, 2) := dk_21 4 (dk_at dksX6_init_0 20 rfl rfl)
theorem dX6_init_22 : decode cX6_init 22 = .ok (.putfield 19, 3) := dk_181 0 19 (dk_at dksX6_init_1 0 rfl rfl)
theorem dX6_init_25 : decode cX6_init 25 = .ok (.aload_n 0, 1) := dk_42 (dk_at dksX6_init_1 3 rfl rfl)
theorem dX6_init_26 : decode cX6_init 26 = .ok (.iload 5, 2) := dk_21 5 (dk_at dksX6_init_1 4 rfl rfl)
theorem dX6_init_28 : decode cX6_init 28 = .ok (.putfield 22, 3) := dk_181 0 22 (dk_at dksX6_init_1 6 rfl rfl)
theorem dX6_init_31 : decode cX6_init 31 = .ok (.return_, 1) := dk_177 (dk_at dksX6_init_1 9 rfl rfl)
theorem q77 : (Jvm.Cond.initialized "GridMarket$Ask") ∈ lw_all := lw_g (lw_at lw_m1 23 rfl) rfl
theorem q483 : (Jvm.Cond.selects "GridMarket$Ask" ({ cls := "java/lang/Object", name := "getClass", desc := "()Ljava/lang/Class;" } : Jvm.MethodName) ({ cls := "java/lang/Object", name := "getClass", desc := "()Ljava/lang/Class;" } : Jvm.MethodName)) ∈ lw_all := lw_g (lw_at lw_m2 189 rfl) rfl
theorem q603 : (Jvm.Cond.instantiable "GridMarket$Ask" (7 : Nat)) ∈ lw_all := lw_g (lw_at lw_m3 69 rfl) rfl
theorem q605 : (Jvm.Cond.instanceMethod ({ cls := "GridMarket$Ask", name := "<init>", desc := "(IIIII)V" } : Jvm.MethodName)) ∈ lw_all := lw_g (lw_at lw_m3 71 rfl) rfl
theorem q606 : (Jvm.Cond.code ({ cls := "GridMarket$Ask", name := "<init>", desc := "(IIIII)V" } : Jvm.MethodName) prog_3_method_1_code (6 : Nat) (Option.none : Option Jvm.ClassFile.FieldType)) ∈ lw_all := lw_g (lw_at lw_m3 72 rfl) rfl
theorem q607 : (Jvm.Cond.methodLink "GridMarket$Ask" (1 : Nat) ({ cls := "java/lang/Object", name := "<init>", desc := "()V" } : Jvm.MethodName)) ∈ lw_all := lw_g (lw_at lw_m3 73 rfl) rfl
theorem q608 : (Jvm.Cond.fieldLink "GridMarket$Ask" (7 : Nat) "GridMarket$Ask" "firm" "I") ∈ lw_all := lw_g (lw_at lw_m3 74 rfl) rfl
theorem q610 : (Jvm.Cond.fieldLink "GridMarket$Ask" (13 : Nat) "GridMarket$Ask" "from" "I") ∈ lw_all := lw_g (lw_at lw_m3 76 rfl) rfl
theorem q612 : (Jvm.Cond.fieldLink "GridMarket$Ask" (16 : Nat) "GridMarket$Ask" "to" "I") ∈ lw_all := lw_g (lw_at lw_m3 78 rfl) rfl
theorem q614 : (Jvm.Cond.fieldLink "GridMarket$Ask" (19 : Nat) "GridMarket$Ask" "units" "I") ∈ lw_all := lw_g (lw_at lw_m3 80 rfl) rfl
theorem q616 : (Jvm.Cond.fieldLink "GridMarket$Ask" (22 : Nat) "GridMarket$Ask" "price" "I") ∈ lw_all := lw_g (lw_at lw_m3 82 rfl) rfl
theorem q620 : (Jvm.Cond.laysFinal "GridMarket$Ask" "GridMarket$Ask" "firm" "I") ∈ lw_all := lw_g (lw_at lw_m3 86 rfl) rfl
theorem q621 : (Jvm.Cond.soleField "GridMarket$Ask" "firm") ∈ lw_all := lw_g (lw_at lw_m3 87 rfl) rfl
theorem q622 : (Jvm.Cond.laysFinal "GridMarket$Ask" "GridMarket$Ask" "from" "I") ∈ lw_all := lw_g (lw_at lw_m3 88 rfl) rfl
theorem q623 : (Jvm.Cond.soleField "GridMarket$Ask" "from") ∈ lw_all := lw_g (lw_at lw_m3 89 rfl) rfl
theorem q624 : (Jvm.Cond.laysFinal "GridMarket$Ask" "GridMarket$Ask" "to" "I") ∈ lw_all := lw_g (lw_at lw_m3 90 rfl) rfl
theorem q625 : (Jvm.Cond.soleField "GridMarket$Ask" "to") ∈ lw_all := lw_g (lw_at lw_m3 91 rfl) rfl
theorem q626 : (Jvm.Cond.laysFinal "GridMarket$Ask" "GridMarket$Ask" "units" "I") ∈ lw_all := lw_g (lw_at lw_m3 92 rfl) rfl
theorem q627 : (Jvm.Cond.soleField "GridMarket$Ask" "units") ∈ lw_all := lw_g (lw_at lw_m3 93 rfl) rfl
theorem q628 : (Jvm.Cond.laysFinal "GridMarket$Ask" "GridMarket$Ask" "price" "I") ∈ lw_all := lw_g (lw_at lw_m3 94 rfl) rfl
theorem q629 : (Jvm.Cond.soleField "GridMarket$Ask" "price") ∈ lw_all := lw_g (lw_at lw_m3 95 rfl) rfl
theorem q630 : (Jvm.Cond.lays "GridMarket$Ask" "GridMarket$Ask" "given" "I") ∈ lw_all := lw_g (lw_at lw_m3 96 rfl) rfl
theorem q631 : (Jvm.Cond.soleField "GridMarket$Ask" "given") ∈ lw_all := lw_g (lw_at lw_m3 97 rfl) rfl
theorem q632 : (Jvm.Cond.lays "GridMarket$Ask" "GridMarket$Ask" "cost" "I") ∈ lw_all := lw_g (lw_at lw_m3 98 rfl) rfl
theorem q633 : (Jvm.Cond.soleField "GridMarket$Ask" "cost") ∈ lw_all := lw_g (lw_at lw_m3 99 rfl) rfl
theorem q634 : (Jvm.Cond.superclass "GridMarket$Ask" "java/lang/Object") ∈ lw_all := lw_g (lw_at lw_m3 100 rfl) rfl
theorem q1974 : (Jvm.Cond.castable "GridMarket$Ask" "java/lang/Object") ∈ lw_tbl := lw_at lw_m9 0 rfl
theorem in_X6 : ∀ w ∈ wsX60, w ∈ lw_all := lw_in wsX60 [620, 622, 624, 626, 628, 630, 632] (by decide +kernel) (by decide +kernel)
/-! GridMarket$Curve -/
set_option maxRecDepth 100000
def RX7 : String := "GridMarket$Curve"
def TX7 : u_T := fun k => match k with
  | 0 => ("GridMarket$Curve", "sells", "Ljava/util/List;", true)
  | 1 => ("GridMarket$Curve", "buys", "Ljava/util/List;", true)
  | 2 => ("GridMarket$Curve", "worths", "[I", true)
  | _ => ("GridMarket$Curve", "taken", "[I", true)
def tyX7 : Nat → FieldType := fun k => match k with
  | 0 => .object "java/util/List"
  | 1 => .object "java/util/List"
  | 2 => .array .int
  | _ => .array .int
abbrev wsX70 : List Cond := u_ws RX7 TX7 4
theorem nmX7 : ∀ a, a < 4 → ∀ b, b < 4 → a ≠ b → (TX7 a).2.1 ≠ (TX7 b).2.1 := by decide +kernel
theorem tyX7_ok : ∀ k, k < 4 → parseFieldDescriptor (TX7 k).2.2.1 = some (tyX7 k) := by decide +kernel
abbrev cX7_init : ByteArray := prog_7_method_1_code
def yX7_init : MethodName := ⟨RX7, "<init>", "()V"⟩
def dkwX7_init_1 : List UInt8 := [181, 0, 18, 42, 17, 0, 151, 188, 10, 181, 0, 21, 42, 17, 0, 151, 188, 10, 181, 0, 25, 177]
abbrev dktX7_init_1 : List UInt8 := dkwX7_init_1 ++ []
def dkwX7_init_0 : List UInt8 := [42, 183, 0, 3, 42, 187, 0, 9, 89, 183, 0, 11, 181, 0, 12, 42, 187, 0, 9, 89, 183, 0, 11]
abbrev dktX7_init_0 : List UInt8 := dkwX7_init_0 ++ dktX7_init_1
theorem dksX7_init_0 : cX7_init.data.toList.drop 0 = dktX7_init_0 := by decide +kernel
theorem dksX7_init_1 : cX7_init.data.toList.drop 23 = dktX7_init_1 := dk_seg dksX7_init_0 23 rfl rfl
theorem dX7_init_0 : decode cX7_init 0 = .ok (.aload_n 0, 1) := dk_42 (dk_at dksX7_init_0 0 rfl rfl)
theorem dX7_init_1 : decode cX7_init 1 = .ok (.invokespecial 3, 3) := dk_183 0 3 (dk_at dksX7_init_0 1 rfl rfl)
theorem dX7_init_4 : decode cX7_init 4 = .ok (.aload_n 0, 1) := dk_42 (dk_at dksX7_init_0 4 rfl rfl)
theorem dX7_init_5 : decode cX7_init 5 = .ok (.new 9, 3) := dk_187 0 9 (dk_at dksX7_init_0 5 rfl rfl)
theorem dX7_init_8 : decode cX7_init 8 = .ok (.dup, 1) := dk_89 (dk_at dksX7_init_0 8 rfl rfl)
theorem dX7_init_9 : decode cX7_init 9 = .ok (.invokespecial 11, 3) := dk_183 0 11 (dk_at dksX7_init_0 9 rfl rfl)
theorem dX7_init_12 : decode cX7_init 12 = .ok (.putfield 12, 3) := dk_181 0 12 (dk_at dksX7_init_0 12 rfl rfl)
theorem dX7_init_15 : decode cX7_init 15 = .ok (.aload_n 0, 1) := dk_42 (dk_at dksX7_init_0 15 rfl rfl)
theorem dX7_init_16 : decode cX7_init 16 = .ok (.new 9, 3) := dk_187 0 9 (dk_at dksX7_init_0 16 rfl rfl)
theorem dX7_init_19 : decode cX7_init 19 = .ok (.dup, 1) := dk_89 (dk_at dksX7_init_0 19 rfl rfl)
theorem dX7_init_20 : decode cX7_init 20 = .ok (.invokespecial 11, 3) := dk_183 0 11 (dk_at dksX7_init_0 20 rfl rfl)
theorem dX7_init_23 : decode cX7_init 23 = .ok (.putfield 18, 3) := dk_181 0 18 (dk_at dksX7_init_1 0 rfl rfl)
theorem dX7_init_26 : decode cX7_init 26 = .ok (.aload_n 0, 1) := dk_42 (dk_at dksX7_init_1 3 rfl rfl)
theorem dX7_init_27 : decode cX7_init 27 = .ok (.sipush 151, 3) := dk_17 0 151 (dk_at dksX7_init_1 4 rfl rfl)
theorem dX7_init_30 : decode cX7_init 30 = .ok (.newarray .int, 2) := dk_188_10 (dk_at dksX7_init_1 7 rfl rfl)
theorem dX7_init_32 : decode cX7_init 32 = .ok (.putfield 21, 3) := dk_181 0 21 (dk_at dksX7_init_1 9 rfl rfl)
theorem dX7_init_35 : decode cX7_init 35 = .ok (.aload_n 0, 1) := dk_42 (dk_at dksX7_init_1 12 rfl rfl)
theorem dX7_init_36 : decode cX7_init 36 = .ok (.sipush 151, 3) := dk_17 0 151 (dk_at dksX7_init_1 13 rfl rfl)
theorem dX7_init_39 : decode cX7_init 39 = .ok (.newarray .int, 2) := dk_188_10 (dk_at dksX7_init_1 16 rfl rfl)
theorem dX7_init_41 : decode cX7_init 41 = .ok (.putfield 25, 3) := dk_181 0 25 (dk_at dksX7_init_1 18 rfl rfl)
theorem dX7_init_44 : decode cX7_init 44 = .ok (.return_, 1) := dk_177 (dk_at dksX7_init_1 21 rfl rfl)
abbrev cX7_add : ByteArray := prog_7_method_2_code
def yX7_add : MethodName := ⟨RX7, "add", "(LGridMarket$Bid;)V"⟩
def dkwX7_add_4 : List UInt8 := [167, 255, 195, 44, 29, 43, 185, 0, 48, 3, 0, 177]
abbrev dktX7_add_4 : List UInt8 := dkwX7_add_4 ++ []
def dkwX7_add_3 : List UInt8 := [100, 185, 0, 40, 2, 0, 192, 0, 29, 180, 0, 44, 43, 180, 0, 44, 164, 0, 9, 132, 3, 255]
abbrev dktX7_add_3 : List UInt8 := dkwX7_add_3 ++ dktX7_add_4
def dkwX7_add_2 : List UInt8 := [185, 0, 40, 2, 0, 192, 0, 29, 180, 0, 44, 43, 180, 0, 44, 162, 0, 34, 167, 0, 25, 44, 29, 4]
abbrev dktX7_add_2 : List UInt8 := dkwX7_add_2 ++ dktX7_add_3
def dkwX7_add_1 : List UInt8 := [185, 0, 34, 1, 0, 62, 29, 158, 0, 63, 43, 180, 0, 28, 153, 0, 28, 44, 29, 4, 100]
abbrev dktX7_add_1 : List UInt8 := dkwX7_add_1 ++ dktX7_add_2
def dkwX7_add_0 : List UInt8 := [43, 180, 0, 28, 153, 0, 10, 42, 180, 0, 18, 167, 0, 7, 42, 180, 0, 12, 77, 44]
abbrev dktX7_add_0 : List UInt8 := dkwX7_add_0 ++ dktX7_add_1
theorem dksX7_add_0 : cX7_add.data.toList.drop 0 = dktX7_add_0 := by decide +kernel
theorem dksX7_add_1 : cX7_add.data.toList.drop 20 = dktX7_add_1 := dk_seg dksX7_add_0 20 rfl rfl
theorem dksX7_add_2 : cX7_add.data.toList.drop 41 = dktX7_add_2 := dk_seg dksX7_add_1 21 rfl rfl
theorem dksX7_add_3 : cX7_add.data.toList.drop 65 = dktX7_add_3 := dk_seg dksX7_add_2 24 rfl rfl
theorem dksX7_add_4 : cX7_add.data.toList.drop 87 = dktX7_add_4 := dk_seg dksX7_add_3 22 rfl rfl
theorem dX7_add_0 : decode cX7_add 0 = .ok (.aload_n 1, 1) := dk_43 (dk_at dksX7_add_0 0 rfl rfl)
theorem dX7_add_1 : decode cX7_add 1 = .ok (.getfield 28, 3) := dk_180 0 28 (dk_at dksX7_add_0 1 rfl rfl)
theorem dX7_add_4 : decode cX7_add 4 = .ok (.ifCond .eq 10, 3) := dk_153 0 10 (dk_at dksX7_add_0 4 rfl rfl)
theorem dX7_add_7 : decode cX7_add 7 = .ok (.aload_n 0, 1) := dk_42 (dk_at dksX7_add_0 7 rfl rfl)
theorem dX7_add_8 : decode cX7_add 8 = .ok (.getfield 18, 3) := dk_180 0 18 (dk_at dksX7_add_0 8 rfl rfl)
theorem dX7_add_11 : decode cX7_add 11 = .ok (.goto 7, 3) := dk_167 0 7 (dk_at dksX7_add_0 11 rfl rfl)
theorem dX7_add_14 : decode cX7_add 14 = .ok (.aload_n 0, 1) := dk_42 (dk_at dksX7_add_0 14 rfl rfl)
theorem dX7_add_15 : decode cX7_add 15 = .ok (.getfield 12, 3) := dk_180 0 12 (dk_at dksX7_add_0 15 rfl rfl)
theorem dX7_add_18 : decode cX7_add 18 = .ok (.astore_n 2, 1) := dk_77 (dk_at dksX7_add_0 18 rfl rfl)
theorem dX7_add_19 : decode cX7_add 19 = .ok (.aload_n 2, 1) := dk_44 (dk_at dksX7_add_0 19 rfl rfl)
theorem dX7_add_20 : decode cX7_add 20 = .ok (.invokeinterface 34 1, 5) := by decide +kernel
theorem dX7_add_25 : decode cX7_add 25 = .ok (.istore_n 3, 1) := dk_62 (dk_at dksX7_add_1 5 rfl rfl)
theorem dX7_add_26 : decode cX7_add 26 = .ok (.iload_n 3, 1) := dk_29 (dk_at dksX7_add_1 6 rfl rfl)
theorem dX7_add_27 : decode cX7_add 27 = .ok (.ifCond .le 63, 3) := dk_158 0 63 (dk_at dksX7_add_1 7 rfl rfl)
theorem dX7_add_30 : decode cX7_add 30 = .ok (.aload_n 1, 1) := dk_43 (dk_at dksX7_add_1 10 rfl rfl)
theorem dX7_add_31 : decode cX7_add 31 = .ok (.getfield 28, 3) := dk_180 0 28 (dk_at dksX7_add_1 11 rfl rfl)
theorem dX7_add_34 : decode cX7_add 34 = .ok (.ifCond .eq 28, 3) := dk_153 0 28 (dk_at dksX7_add_1 14 rfl rfl)
theorem dX7_add_37 : decode cX7_add 37 = .ok (.aload_n 2, 1) := dk_44 (dk_at dksX7_add_1 17 rfl rfl)
theorem dX7_add_38 : decode cX7_add 38 = .ok (.iload_n 3, 1) := dk_29 (dk_at dksX7_add_1 18 rfl rfl)
theorem dX7_add_39 : decode cX7_add 39 = .ok (.iconst 1, 1) := dk_4 (dk_at dksX7_add_1 19 rfl rfl)
theorem dX7_add_40 : decode cX7_add 40 = .ok (.isub, 1) := dk_100 (dk_at dksX7_add_1 20 rfl rfl)
theorem dX7_add_41 : decode cX7_add 41 = .ok (.invokeinterface 40 2, 5) := by decide +kernel
theorem dX7_add_46 : decode cX7_add 46 = .ok (.checkcast 29, 3) := dk_192 0 29 (dk_at dksX7_add_2 5 rfl rfl)
theorem dX7_add_49 : decode cX7_add 49 = .ok (.getfield 44, 3) := dk_180 0 44 (dk_at dksX7_add_2 8 rfl rfl)
theorem dX7_add_52 : decode cX7_add 52 = .ok (.aload_n 1, 1) := dk_43 (dk_at dksX7_add_2 11 rfl rfl)
theorem dX7_add_53 : decode cX7_add 53 = .ok (.getfield 44, 3) := dk_180 0 44 (dk_at dksX7_add_2 12 rfl rfl)
theorem dX7_add_56 : decode cX7_add 56 = .ok (.if_icmp .ge 34, 3) := dk_162 0 34 (dk_at dksX7_add_2 15 rfl rfl)
theorem dX7_add_59 : decode cX7_add 59 = .ok (.goto 25, 3) := dk_167 0 25 (dk_at dksX7_add_2 18 rfl rfl)
theorem dX7_add_62 : decode cX7_add 62 = .ok (.aload_n 2, 1) := dk_44 (dk_at dksX7_add_2 21 rfl rfl)
theorem dX7_add_63 : decode cX7_add 63 = .ok (.iload_n 3, 1) := dk_29 (dk_at dksX7_add_2 22 rfl rfl)
theorem dX7_add_64 : decode cX7_add 64 = .ok (.iconst 1, 1) := dk_4 (dk_at dksX7_add_2 23 rfl rfl)
theorem dX7_add_65 : decode cX7_add 65 = .ok (.isub, 1) := dk_100 (dk_at dksX7_add_3 0 rfl rfl)
theorem dX7_add_66 : decode cX7_add 66 = .ok (.invokeinterface 40 2, 5) := by decide +kernel
theorem dX7_add_71 : decode cX7_add 71 = .ok (.checkcast 29, 3) := dk_192 0 29 (dk_at dksX7_add_3 6 rfl rfl)
theorem dX7_add_74 : decode cX7_add 74 = .ok (.getfield 44, 3) := dk_180 0 44 (dk_at dksX7_add_3 9 rfl rfl)
theorem dX7_add_77 : decode cX7_add 77 = .ok (.aload_n 1, 1) := dk_43 (dk_at dksX7_add_3 12 rfl rfl)
theorem dX7_add_78 : decode cX7_add 78 = .ok (.getfield 44, 3) := dk_180 0 44 (dk_at dksX7_add_3 13 rfl rfl)
theorem dX7_add_81 : decode cX7_add 81 = .ok (.if_icmp .le 9, 3) := dk_164 0 9 (dk_at dksX7_add_3 16 rfl rfl)
theorem dX7_add_84 : decode cX7_add 84 = .ok (.iinc 3 (-1), 3) := dk_132 3 255 (dk_at dksX7_add_3 19 rfl rfl)
theorem dX7_add_87 : decode cX7_add 87 = .ok (.goto (-61), 3) := dk_167 255 195 (dk_at dksX7_add_4 0 rfl rfl)
theorem dX7_add_90 : decode cX7_add 90 = .ok (.aload_n 2, 1) := dk_44 (dk_at dksX7_add_4 3 rfl rfl)
theorem dX7_add_91 : decode cX7_add 91 = .ok (.iload_n 3, 1) := dk_29 (dk_at dksX7_add_4 4 rfl rfl)
theorem dX7_add_92 : decode cX7_add 92 = .ok (.aload_n 1, 1) := dk_43 (dk_at dksX7_add_4 5 rfl rfl)
theorem dX7_add_93 : decode cX7_add 93 = .ok (.invokeinterface 48 3, 5) := by decide +kernel
theorem dX7_add_98 : decode cX7_add 98 = .ok (.return_, 1) := dk_177 (dk_at dksX7_add_4 11 rfl rfl)
abbrev cX7_find : ByteArray := prog_7_method_5_code
def yX7_find : MethodName := ⟨RX7, "find", "()V"⟩
def dkwX7_find_5 : List UInt8 := [167, 255, 157, 177]
abbrev dktX7_find_5 : List UInt8 := dkwX7_find_5 ++ []
def dkwX7_find_4 : List UInt8 := [96, 21, 5, 79, 42, 180, 0, 25, 29, 16, 75, 96, 21, 4, 79, 132, 4, 1, 167, 255, 188, 132, 3, 1]
abbrev dktX7_find_4 : List UInt8 := dkwX7_find_4 ++ dktX7_find_5
def dkwX7_find_3 : List UInt8 := [100, 54, 5, 21, 5, 42, 180, 0, 21, 29, 16, 75, 96, 46, 164, 0, 25, 42, 180, 0, 21, 29, 16, 75]
abbrev dktX7_find_3 : List UInt8 := dkwX7_find_3 ++ dktX7_find_4
def dkwX7_find_2 : List UInt8 := [43, 190, 162, 0, 67, 21, 4, 29, 96, 44, 190, 162, 0, 58, 43, 21, 4, 46, 44, 21, 4, 29, 96, 46]
abbrev dktX7_find_2 : List UInt8 := dkwX7_find_2 ++ dktX7_find_3
def dkwX7_find_1 : List UInt8 := [163, 0, 99, 42, 180, 0, 21, 29, 16, 75, 96, 18, 76, 79, 3, 29, 116, 184, 0, 77, 54, 4, 21, 4]
abbrev dktX7_find_1 : List UInt8 := dkwX7_find_1 ++ dktX7_find_2
def dkwX7_find_0 : List UInt8 := [42, 180, 0, 18, 184, 0, 72, 76, 42, 180, 0, 12, 184, 0, 72, 77, 16, 181, 62, 29, 16, 75]
abbrev dktX7_find_0 : List UInt8 := dkwX7_find_0 ++ dktX7_find_1
theorem dksX7_find_0 : cX7_find.data.toList.drop 0 = dktX7_find_0 := by decide +kernel
theorem dksX7_find_1 : cX7_find.data.toList.drop 22 = dktX7_find_1 := dk_seg dksX7_find_0 22 rfl rfl
theorem dksX7_find_2 : cX7_find.data.toList.drop 46 = dktX7_find_2 := dk_seg dksX7_find_1 24 rfl rfl
theorem dksX7_find_3 : cX7_find.data.toList.drop 70 = dktX7_find_3 := dk_seg dksX7_find_2 24 rfl rfl
theorem dksX7_find_4 : cX7_find.data.toList.drop 94 = dktX7_find_4 := dk_seg dksX7_find_3 24 rfl rfl
theorem dksX7_find_5 : cX7_find.data.toList.drop 118 = dktX7_find_5 := dk_seg dksX7_find_4 24 rfl rfl
theorem dX7_find_0 : decode cX7_find 0 = .ok (.aload_n 0, 1) := dk_42 (dk_at dksX7_find_0 0 rfl rfl)
theorem dX7_find_1 : decode cX7_find 1 = .ok (.getfield 18, 3) := dk_180 0 18 (dk_at dksX7_find_0 1 rfl rfl)
theorem dX7_find_4 : decode cX7_find 4 = .ok (.invokestatic 72, 3) := dk_184 0 72 (dk_at dksX7_find_0 4 rfl rfl)
theorem dX7_find_7 : decode cX7_find 7 = .ok (.astore_n 1, 1) := dk_76 (dk_at dksX7_find_0 7 rfl rfl)
theorem dX7_find_8 : decode cX7_find 8 = .ok (.aload_n 0, 1) := dk_42 (dk_at dksX7_find_0 8 rfl rfl)
theorem dX7_find_9 : decode cX7_find 9 = .ok (.getfield 12, 3) := dk_180 0 12 (dk_at dksX7_find_0 9 rfl rfl)
theorem dX7_find_12 : decode cX7_find 12 = .ok (.invokestatic 72, 3) := dk_184 0 72 (dk_at dksX7_find_0 12 rfl rfl)
theorem dX7_find_15 : decode cX7_find 15 = .ok (.astore_n 2, 1) := dk_77 (dk_at dksX7_find_0 15 rfl rfl)
theorem dX7_find_16 : decode cX7_find 16 = .ok (.bipush (-75), 2) := dk_16 181 (dk_at dksX7_find_0 16 rfl rfl)
theorem dX7_find_18 : decode cX7_find 18 = .ok (.istore_n 3, 1) := dk_62 (dk_at dksX7_find_0 18 rfl rfl)
theorem dX7_find_19 : decode cX7_find 19 = .ok (.iload_n 3, 1) := dk_29 (dk_at dksX7_find_0 19 rfl rfl)
theorem dX7_find_20 : decode cX7_find 20 = .ok (.bipush 75, 2) := dk_16 75 (dk_at dksX7_find_0 20 rfl rfl)
theorem dX7_find_22 : decode cX7_find 22 = .ok (.if_icmp .gt 99, 3) := dk_163 0 99 (dk_at dksX7_find_1 0 rfl rfl)
theorem dX7_find_25 : decode cX7_find 25 = .ok (.aload_n 0, 1) := dk_42 (dk_at dksX7_find_1 3 rfl rfl)
theorem dX7_find_26 : decode cX7_find 26 = .ok (.getfield 21, 3) := dk_180 0 21 (dk_at dksX7_find_1 4 rfl rfl)
theorem dX7_find_29 : decode cX7_find 29 = .ok (.iload_n 3, 1) := dk_29 (dk_at dksX7_find_1 7 rfl rfl)
theorem dX7_find_30 : decode cX7_find 30 = .ok (.bipush 75, 2) := dk_16 75 (dk_at dksX7_find_1 8 rfl rfl)
theorem dX7_find_32 : decode cX7_find 32 = .ok (.iadd, 1) := dk_96 (dk_at dksX7_find_1 10 rfl rfl)
theorem dX7_find_33 : decode cX7_find 33 = .ok (.ldc 76, 2) := dk_18 76 (dk_at dksX7_find_1 11 rfl rfl)
theorem dX7_find_35 : decode cX7_find 35 = .ok (.iastore, 1) := dk_79 (dk_at dksX7_find_1 13 rfl rfl)
theorem dX7_find_36 : decode cX7_find 36 = .ok (.iconst 0, 1) := dk_3 (dk_at dksX7_find_1 14 rfl rfl)
theorem dX7_find_37 : decode cX7_find 37 = .ok (.iload_n 3, 1) := dk_29 (dk_at dksX7_find_1 15 rfl rfl)
theorem dX7_find_38 : decode cX7_find 38 = .ok (.ineg, 1) := dk_116 (dk_at dksX7_find_1 16 rfl rfl)
theorem dX7_find_39 : decode cX7_find 39 = .ok (.invokestatic 77, 3) := dk_184 0 77 (dk_at dksX7_find_1 17 rfl rfl)
theorem dX7_find_42 : decode cX7_find 42 = .ok (.istore 4, 2) := dk_54 4 (dk_at dksX7_find_1 20 rfl rfl)
theorem dX7_find_44 : decode cX7_find 44 = .ok (.iload 4, 2) := dk_21 4 (dk_at dksX7_find_1 22 rfl rfl)
theorem dX7_find_46 : decode cX7_find 46 = .ok (.aload_n 1, 1) := dk_43 (dk_at dksX7_find_2 0 rfl rfl)
theorem dX7_find_47 : decode cX7_find 47 = .ok (.arraylength, 1) := dk_190 (dk_at dksX7_find_2 1 rfl rfl)
theorem dX7_find_48 : decode cX7_find 48 = .ok (.if_icmp .ge 67, 3) := dk_162 0 67 (dk_at dksX7_find_2 2 rfl rfl)
theorem dX7_find_51 : decode cX7_find 51 = .ok (.iload 4, 2) := dk_21 4 (dk_at dksX7_find_2 5 rfl rfl)
theorem dX7_find_53 : decode cX7_find 53 = .ok (.iload_n 3, 1) := dk_29 (dk_at dksX7_find_2 7 rfl rfl)
theorem dX7_find_54 : decode cX7_find 54 = .ok (.iadd, 1) := dk_96 (dk_at dksX7_find_2 8 rfl rfl)
theorem dX7_find_55 : decode cX7_find 55 = .ok (.aload_n 2, 1) := dk_44 (dk_at dksX7_find_2 9 rfl rfl)
theorem dX7_find_56 : decode cX7_find 56 = .ok (.arraylength, 1) := dk_190 (dk_at dksX7_find_2 10 rfl rfl)
theorem dX7_find_57 : decode cX7_find 57 = .ok (.if_icmp .ge 58, 3) := dk_162 0 58 (dk_at dksX7_find_2 11 rfl rfl)
theorem dX7_find_60 : decode cX7_find 60 = .ok (.aload_n 1, 1) := dk_43 (dk_at dksX7_find_2 14 rfl rfl)
theorem dX7_find_61 : decode cX7_find 61 = .ok (.iload 4, 2) := dk_21 4 (dk_at dksX7_find_2 15 rfl rfl)
theorem dX7_find_63 : decode cX7_find 63 = .ok (.iaload, 1) := dk_46 (dk_at dksX7_find_2 17 rfl rfl)
theorem dX7_find_64 : decode cX7_find 64 = .ok (.aload_n 2, 1) := dk_44 (dk_at dksX7_find_2 18 rfl rfl)
theorem dX7_find_65 : decode cX7_find 65 = .ok (.iload 4, 2) := dk_21 4 (dk_at dksX7_find_2 19 rfl rfl)
theorem dX7_find_67 : decode cX7_find 67 = .ok (.iload_n 3, 1) := dk_29 (dk_at dksX7_find_2 21 rfl rfl)
theorem dX7_find_68 : decode cX7_find 68 = .ok (.iadd, 1) := dk_96 (dk_at dksX7_find_2 22 rfl rfl)
theorem dX7_find_69 : decode cX7_find 69 = .ok (.iaload, 1) := dk_46 (dk_at dksX7_find_2 23 rfl rfl)
theorem dX7_find_70 : decode cX7_find 70 = .ok (.isub, 1) := dk_100 (dk_at dksX7_find_3 0 rfl rfl)
theorem dX7_find_71 : decode cX7_find 71 = .ok (.istore 5, 2) := dk_54 5 (dk_at dksX7_find_3 1 rfl rfl)
theorem dX7_find_73 : decode cX7_find 73 = .ok (.iload 5, 2) := dk_21 5 (dk_at dksX7_find_3 3 rfl rfl)
theorem dX7_find_75 : decode cX7_find 75 = .ok (.aload_n 0, 1) := dk_42 (dk_at dksX7_find_3 5 rfl rfl)
theorem dX7_find_76 : decode cX7_find 76 = .ok (.getfield 21, 3) := dk_180 0 21 (dk_at dksX7_find_3 6 rfl rfl)
theorem dX7_find_79 : decode cX7_find 79 = .ok (.iload_n 3, 1) := dk_29 (dk_at dksX7_find_3 9 rfl rfl)
theorem dX7_find_80 : decode cX7_find 80 = .ok (.bipush 75, 2) := dk_16 75 (dk_at dksX7_find_3 10 rfl rfl)
theorem dX7_find_82 : decode cX7_find 82 = .ok (.iadd, 1) := dk_96 (dk_at dksX7_find_3 12 rfl rfl)
theorem dX7_find_83 : decode cX7_find 83 = .ok (.iaload, 1) := dk_46 (dk_at dksX7_find_3 13 rfl rfl)
theorem dX7_find_84 : decode cX7_find 84 = .ok (.if_icmp .le 25, 3) := dk_164 0 25 (dk_at dksX7_find_3 14 rfl rfl)
theorem dX7_find_87 : decode cX7_find 87 = .ok (.aload_n 0, 1) := dk_42 (dk_at dksX7_find_3 17 rfl rfl)
theorem dX7_find_88 : decode cX7_find 88 = .ok (.getfield 21, 3) := dk_180 0 21 (dk_at dksX7_find_3 18 rfl rfl)
theorem dX7_find_91 : decode cX7_find 91 = .ok (.iload_n 3, 1) := dk_29 (dk_at dksX7_find_3 21 rfl rfl)
theorem dX7_find_92 : decode cX7_find 92 = .ok (.bipush 75, 2) := dk_16 75 (dk_at dksX7_find_3 22 rfl rfl)
theorem dX7_find_94 : decode cX7_find 94 = .ok (.iadd, 1) := dk_96 (dk_at dksX7_find_4 0 rfl rfl)
theorem dX7_find_95 : decode cX7_find 95 = .ok (.iload 5, 2) := dk_21 5 (dk_at dksX7_find_4 1 rfl rfl)
theorem dX7_find_97 : decode cX7_find 97 = .ok (.iastore, 1) := dk_79 (dk_at dksX7_find_4 3 rfl rfl)
theorem dX7_find_98 : decode cX7_find 98 = .ok (.aload_n 0, 1) := dk_42 (dk_at dksX7_find_4 4 rfl rfl)
theorem dX7_find_99 : decode cX7_find 99 = .ok (.getfield 25, 3) := dk_180 0 25 (dk_at dksX7_find_4 5 rfl rfl)
theorem dX7_find_102 : decode cX7_find 102 = .ok (.iload_n 3, 1) := dk_29 (dk_at dksX7_find_4 8 rfl rfl)
theorem dX7_find_103 : decode cX7_find 103 = .ok (.bipush 75, 2) := dk_16 75 (dk_at dksX7_find_4 9 rfl rfl)
theorem dX7_find_105 : decode cX7_find 105 = .ok (.iadd, 1) := dk_96 (dk_at dksX7_find_4 11 rfl rfl)
theorem dX7_find_106 : decode cX7_find 106 = .ok (.iload 4, 2) := dk_21 4 (dk_at dksX7_find_4 12 rfl rfl)
theorem dX7_find_108 : decode cX7_find 108 = .ok (.iastore, 1) := dk_79 (dk_at dksX7_find_4 14 rfl rfl)
theorem dX7_find_109 : decode cX7_find 109 = .ok (.iinc 4 1, 3) := dk_132 4 1 (dk_at dksX7_find_4 15 rfl rfl)
theorem dX7_find_112 : decode cX7_find 112 = .ok (.goto (-68), 3) := dk_167 255 188 (dk_at dksX7_find_4 18 rfl rfl)
theorem dX7_find_115 : decode cX7_find 115 = .ok (.iinc 3 1, 3) := dk_132 3 1 (dk_at dksX7_find_4 21 rfl rfl)
theorem dX7_find_118 : decode cX7_find 118 = .ok (.goto (-99), 3) := dk_167 255 157 (dk_at dksX7_find_5 0 rfl rfl)
theorem dX7_find_121 : decode cX7_find 121 = .ok (.return_, 1) := dk_177 (dk_at dksX7_find_5 3 rfl rfl)
abbrev cX7_sums : ByteArray := prog_7_method_4_code
def yX7_sums : MethodName := ⟨RX7, "sums", "(Ljava/util/List;)[I"⟩
def dkwX7_sums_3 : List UInt8 := [167, 255, 226, 167, 255, 200, 43, 176]
abbrev dktX7_sums_3 : List UInt8 := dkwX7_sums_3 ++ []
def dkwX7_sums_2 : List UInt8 := [162, 0, 26, 43, 28, 4, 96, 43, 28, 46, 25, 4, 180, 0, 44, 96, 79, 132, 2, 1, 132, 5, 1]
abbrev dktX7_sums_2 : List UInt8 := dkwX7_sums_2 ++ dktX7_sums_3
def dkwX7_sums_1 : List UInt8 := [153, 0, 53, 45, 185, 0, 62, 1, 0, 192, 0, 29, 58, 4, 3, 54, 5, 21, 5, 25, 4, 180, 0, 66]
abbrev dktX7_sums_1 : List UInt8 := dkwX7_sums_1 ++ dktX7_sums_2
def dkwX7_sums_0 : List UInt8 := [42, 184, 0, 69, 4, 96, 188, 10, 76, 3, 61, 42, 185, 0, 52, 1, 0, 78, 45, 185, 0, 56, 1, 0]
abbrev dktX7_sums_0 : List UInt8 := dkwX7_sums_0 ++ dktX7_sums_1
theorem dksX7_sums_0 : cX7_sums.data.toList.drop 0 = dktX7_sums_0 := by decide +kernel
theorem dksX7_sums_1 : cX7_sums.data.toList.drop 24 = dktX7_sums_1 := dk_seg dksX7_sums_0 24 rfl rfl
theorem dksX7_sums_2 : cX7_sums.data.toList.drop 48 = dktX7_sums_2 := dk_seg dksX7_sums_1 24 rfl rfl
theorem dksX7_sums_3 : cX7_sums.data.toList.drop 71 = dktX7_sums_3 := dk_seg dksX7_sums_2 23 rfl rfl
theorem dX7_sums_0 : decode cX7_sums 0 = .ok (.aload_n 0, 1) := dk_42 (dk_at dksX7_sums_0 0 rfl rfl)
theorem dX7_sums_1 : decode cX7_sums 1 = .ok (.invokestatic 69, 3) := dk_184 0 69 (dk_at dksX7_sums_0 1 rfl rfl)
theorem dX7_sums_4 : decode cX7_sums 4 = .ok (.iconst 1, 1) := dk_4 (dk_at dksX7_sums_0 4 rfl rfl)
theorem dX7_sums_5 : decode cX7_sums 5 = .ok (.iadd, 1) := dk_96 (dk_at dksX7_sums_0 5 rfl rfl)
theorem dX7_sums_6 : decode cX7_sums 6 = .ok (.newarray .int, 2) := dk_188_10 (dk_at dksX7_sums_0 6 rfl rfl)
theorem dX7_sums_8 : decode cX7_sums 8 = .ok (.astore_n 1, 1) := dk_76 (dk_at dksX7_sums_0 8 rfl rfl)
theorem dX7_sums_9 : decode cX7_sums 9 = .ok (.iconst 0, 1) := dk_3 (dk_at dksX7_sums_0 9 rfl rfl)
theorem dX7_sums_10 : decode cX7_sums 10 = .ok (.istore_n 2, 1) := dk_61 (dk_at dksX7_sums_0 10 rfl rfl)
theorem dX7_sums_11 : decode cX7_sums 11 = .ok (.aload_n 0, 1) := dk_42 (dk_at dksX7_sums_0 11 rfl rfl)
theorem dX7_sums_12 : decode cX7_sums 12 = .ok (.invokeinterface 52 1, 5) := by decide +kernel
theorem dX7_sums_17 : decode cX7_sums 17 = .ok (.astore_n 3, 1) := dk_78 (dk_at dksX7_sums_0 17 rfl rfl)
theorem dX7_sums_18 : decode cX7_sums 18 = .ok (.aload_n 3, 1) := dk_45 (dk_at dksX7_sums_0 18 rfl rfl)
theorem dX7_sums_19 : decode cX7_sums 19 = .ok (.invokeinterface 56 1, 5) := by decide +kernel
theorem dX7_sums_24 : decode cX7_sums 24 = .ok (.ifCond .eq 53, 3) := dk_153 0 53 (dk_at dksX7_sums_1 0 rfl rfl)
theorem dX7_sums_27 : decode cX7_sums 27 = .ok (.aload_n 3, 1) := dk_45 (dk_at dksX7_sums_1 3 rfl rfl)
theorem dX7_sums_28 : decode cX7_sums 28 = .ok (.invokeinterface 62 1, 5) := by decide +kernel
theorem dX7_sums_33 : decode cX7_sums 33 = .ok (.checkcast 29, 3) := dk_192 0 29 (dk_at dksX7_sums_1 9 rfl rfl)
theorem dX7_sums_36 : decode cX7_sums 36 = .ok (.astore 4, 2) := dk_58 4 (dk_at dksX7_sums_1 12 rfl rfl)
theorem dX7_sums_38 : decode cX7_sums 38 = .ok (.iconst 0, 1) := dk_3 (dk_at dksX7_sums_1 14 rfl rfl)
theorem dX7_sums_39 : decode cX7_sums 39 = .ok (.istore 5, 2) := dk_54 5 (dk_at dksX7_sums_1 15 rfl rfl)
theorem dX7_sums_41 : decode cX7_sums 41 = .ok (.iload 5, 2) := dk_21 5 (dk_at dksX7_sums_1 17 rfl rfl)
theorem dX7_sums_43 : decode cX7_sums 43 = .ok (.aload 4, 2) := dk_25 4 (dk_at dksX7_sums_1 19 rfl rfl)
theorem dX7_sums_45 : decode cX7_sums 45 = .ok (.getfield 66, 3) := dk_180 0 66 (dk_at dksX7_sums_1 21 rfl rfl)
theorem dX7_sums_48 : decode cX7_sums 48 = .ok (.if_icmp .ge 26, 3) := dk_162 0 26 (dk_at dksX7_sums_2 0 rfl rfl)
theorem dX7_sums_51 : decode cX7_sums 51 = .ok (.aload_n 1, 1) := dk_43 (dk_at dksX7_sums_2 3 rfl rfl)
theorem dX7_sums_52 : decode cX7_sums 52 = .ok (.iload_n 2, 1) := dk_28 (dk_at dksX7_sums_2 4 rfl rfl)
theorem dX7_sums_53 : decode cX7_sums 53 = .ok (.iconst 1, 1) := dk_4 (dk_at dksX7_sums_2 5 rfl rfl)
theorem dX7_sums_54 : decode cX7_sums 54 = .ok (.iadd, 1) := dk_96 (dk_at dksX7_sums_2 6 rfl rfl)
theorem dX7_sums_55 : decode cX7_sums 55 = .ok (.aload_n 1, 1) := dk_43 (dk_at dksX7_sums_2 7 rfl rfl)
theorem dX7_sums_56 : decode cX7_sums 56 = .ok (.iload_n 2, 1) := dk_28 (dk_at dksX7_sums_2 8 rfl rfl)
theorem dX7_sums_57 : decode cX7_sums 57 = .ok (.iaload, 1) := dk_46 (dk_at dksX7_sums_2 9 rfl rfl)
theorem dX7_sums_58 : decode cX7_sums 58 = .ok (.aload 4, 2) := dk_25 4 (dk_at dksX7_sums_2 10 rfl rfl)
theorem dX7_sums_60 : decode cX7_sums 60 = .ok (.getfield 44, 3) := dk_180 0 44 (dk_at dksX7_sums_2 12 rfl rfl)
theorem dX7_sums_63 : decode cX7_sums 63 = .ok (.iadd, 1) := dk_96 (dk_at dksX7_sums_2 15 rfl rfl)
theorem dX7_sums_64 : decode cX7_sums 64 = .ok (.iastore, 1) := dk_79 (dk_at dksX7_sums_2 16 rfl rfl)
theorem dX7_sums_65 : decode cX7_sums 65 = .ok (.iinc 2 1, 3) := dk_132 2 1 (dk_at dksX7_sums_2 17 rfl rfl)
theorem dX7_sums_68 : decode cX7_sums 68 = .ok (.iinc 5 1, 3) := dk_132 5 1 (dk_at dksX7_sums_2 20 rfl rfl)
theorem dX7_sums_71 : decode cX7_sums 71 = .ok (.goto (-30), 3) := dk_167 255 226 (dk_at dksX7_sums_3 0 rfl rfl)
theorem dX7_sums_74 : decode cX7_sums 74 = .ok (.goto (-56), 3) := dk_167 255 200 (dk_at dksX7_sums_3 3 rfl rfl)
theorem dX7_sums_77 : decode cX7_sums 77 = .ok (.aload_n 1, 1) := dk_43 (dk_at dksX7_sums_3 6 rfl rfl)
theorem dX7_sums_78 : decode cX7_sums 78 = .ok (.areturn, 1) := dk_176 (dk_at dksX7_sums_3 7 rfl rfl)
abbrev cX7_units : ByteArray := prog_7_method_3_code
def yX7_units : MethodName := ⟨RX7, "units", "(Ljava/util/List;)I"⟩
def dkwX7_units_1 : List UInt8 := [192, 0, 29, 78, 27, 45, 180, 0, 66, 96, 60, 167, 255, 230, 27, 172]
abbrev dktX7_units_1 : List UInt8 := dkwX7_units_1 ++ []
def dkwX7_units_0 : List UInt8 := [3, 60, 42, 185, 0, 52, 1, 0, 77, 44, 185, 0, 56, 1, 0, 153, 0, 23, 44, 185, 0, 62, 1, 0]
abbrev dktX7_units_0 : List UInt8 := dkwX7_units_0 ++ dktX7_units_1
theorem dksX7_units_0 : cX7_units.data.toList.drop 0 = dktX7_units_0 := by decide +kernel
theorem dksX7_units_1 : cX7_units.data.toList.drop 24 = dktX7_units_1 := dk_seg dksX7_units_0 24 rfl rfl
theorem dX7_units_0 : decode cX7_units 0 = .ok (.iconst 0, 1) := dk_3 (dk_at dksX7_units_0 0 rfl rfl)
theorem dX7_units_1 : decode cX7_units 1 = .ok (.istore_n 1, 1) := dk_60 (dk_at dksX7_units_0 1 rfl rfl)
theorem dX7_units_2 : decode cX7_units 2 = .ok (.aload_n 0, 1) := dk_42 (dk_at dksX7_units_0 2 rfl rfl)
theorem dX7_units_3 : decode cX7_units 3 = .ok (.invokeinterface 52 1, 5) := by decide +kernel
theorem dX7_units_8 : decode cX7_units 8 = .ok (.astore_n 2, 1) := dk_77 (dk_at dksX7_units_0 8 rfl rfl)
theorem dX7_units_9 : decode cX7_units 9 = .ok (.aload_n 2, 1) := dk_44 (dk_at dksX7_units_0 9 rfl rfl)
theorem dX7_units_10 : decode cX7_units 10 = .ok (.invokeinterface 56 1, 5) := by decide +kernel
theorem dX7_units_15 : decode cX7_units 15 = .ok (.ifCond .eq 23, 3) := dk_153 0 23 (dk_at dksX7_units_0 15 rfl rfl)
theorem dX7_units_18 : decode cX7_units 18 = .ok (.aload_n 2, 1) := dk_44 (dk_at dksX7_units_0 18 rfl rfl)
theorem dX7_units_19 : decode cX7_units 19 = .ok (.invokeinterface 62 1, 5) := by decide +kernel
theorem dX7_units_24 : decode cX7_units 24 = .ok (.checkcast 29, 3) := dk_192 0 29 (dk_at dksX7_units_1 0 rfl rfl)
theorem dX7_units_27 : decode cX7_units 27 = .ok (.astore_n 3, 1) := dk_78 (dk_at dksX7_units_1 3 rfl rfl)
theorem dX7_units_28 : decode cX7_units 28 = .ok (.iload_n 1, 1) := dk_27 (dk_at dksX7_units_1 4 rfl rfl)
theorem dX7_units_29 : decode cX7_units 29 = .ok (.aload_n 3, 1) := dk_45 (dk_at dksX7_units_1 5 rfl rfl)
theorem dX7_units_30 : decode cX7_units 30 = .ok (.getfield 66, 3) := dk_180 0 66 (dk_at dksX7_units_1 6 rfl rfl)
theorem dX7_units_33 : decode cX7_units 33 = .ok (.iadd, 1) := dk_96 (dk_at dksX7_units_1 9 rfl rfl)
theorem dX7_units_34 : decode cX7_units 34 = .ok (.istore_n 1, 1) := dk_60 (dk_at dksX7_units_1 10 rfl rfl)
theorem dX7_units_35 : decode cX7_units 35 = .ok (.goto (-26), 3) := dk_167 255 230 (dk_at dksX7_units_1 11 rfl rfl)
theorem dX7_units_38 : decode cX7_units 38 = .ok (.iload_n 1, 1) := dk_27 (dk_at dksX7_units_1 14 rfl rfl)
theorem dX7_units_39 : decode cX7_units 39 = .ok (.ireturn, 1) := dk_172 (dk_at dksX7_units_1 15 rfl rfl)
abbrev cX7_at : ByteArray := prog_7_method_6_code
def yX7_at : MethodName := ⟨RX7, "at", "(I)I"⟩
def dkwX7_at_1 : List UInt8 := [96, 46, 172]
abbrev dktX7_at_1 : List UInt8 := dkwX7_at_1 ++ []
def dkwX7_at_0 : List UInt8 := [27, 16, 181, 161, 0, 9, 27, 16, 75, 164, 0, 8, 18, 76, 167, 0, 12, 42, 180, 0, 21, 27, 16, 75]
abbrev dktX7_at_0 : List UInt8 := dkwX7_at_0 ++ dktX7_at_1
theorem dksX7_at_0 : cX7_at.data.toList.drop 0 = dktX7_at_0 := by decide +kernel
theorem dksX7_at_1 : cX7_at.data.toList.drop 24 = dktX7_at_1 := dk_seg dksX7_at_0 24 rfl rfl
theorem dX7_at_0 : decode cX7_at 0 = .ok (.iload_n 1, 1) := dk_27 (dk_at dksX7_at_0 0 rfl rfl)
theorem dX7_at_1 : decode cX7_at 1 = .ok (.bipush (-75), 2) := dk_16 181 (dk_at dksX7_at_0 1 rfl rfl)
theorem dX7_at_3 : decode cX7_at 3 = .ok (.if_icmp .lt 9, 3) := dk_161 0 9 (dk_at dksX7_at_0 3 rfl rfl)
theorem dX7_at_6 : decode cX7_at 6 = .ok (.iload_n 1, 1) := dk_27 (dk_at dksX7_at_0 6 rfl rfl)
theorem dX7_at_7 : decode cX7_at 7 = .ok (.bipush 75, 2) := dk_16 75 (dk_at dksX7_at_0 7 rfl rfl)
theorem dX7_at_9 : decode cX7_at 9 = .ok (.if_icmp .le 8, 3) := dk_164 0 8 (dk_at dksX7_at_0 9 rfl rfl)
theorem dX7_at_12 : decode cX7_at 12 = .ok (.ldc 76, 2) := dk_18 76 (dk_at dksX7_at_0 12 rfl rfl)
theorem dX7_at_14 : decode cX7_at 14 = .ok (.goto 12, 3) := dk_167 0 12 (dk_at dksX7_at_0 14 rfl rfl)
theorem dX7_at_17 : decode cX7_at 17 = .ok (.aload_n 0, 1) := dk_42 (dk_at dksX7_at_0 17 rfl rfl)
theorem dX7_at_18 : decode cX7_at 18 = .ok (.getfield 21, 3) := dk_180 0 21 (dk_at dksX7_at_0 18 rfl rfl)
theorem dX7_at_21 : decode cX7_at 21 = .ok (.iload_n 1, 1) := dk_27 (dk_at dksX7_at_0 21 rfl rfl)
theorem dX7_at_22 : decode cX7_at 22 = .ok (.bipush 75, 2) := dk_16 75 (dk_at dksX7_at_0 22 rfl rfl)
theorem dX7_at_24 : decode cX7_at 24 = .ok (.iadd, 1) := dk_96 (dk_at dksX7_at_1 0 rfl rfl)
theorem dX7_at_25 : decode cX7_at 25 = .ok (.iaload, 1) := dk_46 (dk_at dksX7_at_1 1 rfl rfl)
theorem dX7_at_26 : decode cX7_at 26 = .ok (.ireturn, 1) := dk_172 (dk_at dksX7_at_1 2 rfl rfl)
abbrev cX7_take : ByteArray := prog_7_method_7_code
def yX7_take : MethodName := ⟨RX7, "take", "(I)V"⟩
def dkwX7_take_1 : List UInt8 := [27, 16, 75, 96, 46, 27, 96, 184, 0, 83, 177]
abbrev dktX7_take_1 : List UInt8 := dkwX7_take_1 ++ []
def dkwX7_take_0 : List UInt8 := [42, 180, 0, 18, 42, 180, 0, 25, 27, 16, 75, 96, 46, 184, 0, 83, 42, 180, 0, 12, 42, 180, 0, 25]
abbrev dktX7_take_0 : List UInt8 := dkwX7_take_0 ++ dktX7_take_1
theorem dksX7_take_0 : cX7_take.data.toList.drop 0 = dktX7_take_0 := by decide +kernel
theorem dksX7_take_1 : cX7_take.data.toList.drop 24 = dktX7_take_1 := dk_seg dksX7_take_0 24 rfl rfl
theorem dX7_take_0 : decode cX7_take 0 = .ok (.aload_n 0, 1) := dk_42 (dk_at dksX7_take_0 0 rfl rfl)
theorem dX7_take_1 : decode cX7_take 1 = .ok (.getfield 18, 3) := dk_180 0 18 (dk_at dksX7_take_0 1 rfl rfl)
theorem dX7_take_4 : decode cX7_take 4 = .ok (.aload_n 0, 1) := dk_42 (dk_at dksX7_take_0 4 rfl rfl)
theorem dX7_take_5 : decode cX7_take 5 = .ok (.getfield 25, 3) := dk_180 0 25 (dk_at dksX7_take_0 5 rfl rfl)
theorem dX7_take_8 : decode cX7_take 8 = .ok (.iload_n 1, 1) := dk_27 (dk_at dksX7_take_0 8 rfl rfl)
theorem dX7_take_9 : decode cX7_take 9 = .ok (.bipush 75, 2) := dk_16 75 (dk_at dksX7_take_0 9 rfl rfl)
theorem dX7_take_11 : decode cX7_take 11 = .ok (.iadd, 1) := dk_96 (dk_at dksX7_take_0 11 rfl rfl)
theorem dX7_take_12 : decode cX7_take 12 = .ok (.iaload, 1) := dk_46 (dk_at dksX7_take_0 12 rfl rfl)
theorem dX7_take_13 : decode cX7_take 13 = .ok (.invokestatic 83, 3) := dk_184 0 83 (dk_at dksX7_take_0 13 rfl rfl)
theorem dX7_take_16 : decode cX7_take 16 = .ok (.aload_n 0, 1) := dk_42 (dk_at dksX7_take_0 16 rfl rfl)
theorem dX7_take_17 : decode cX7_take 17 = .ok (.getfield 12, 3) := dk_180 0 12 (dk_at dksX7_take_0 17 rfl rfl)
theorem dX7_take_20 : decode cX7_take 20 = .ok (.aload_n 0, 1) := dk_42 (dk_at dksX7_take_0 20 rfl rfl)
theorem dX7_take_21 : decode cX7_take 21 = .ok (.getfield 25, 3) := dk_180 0 25 (dk_at dksX7_take_0 21 rfl rfl)
theorem dX7_take_24 : decode cX7_take 24 = .ok (.iload_n 1, 1) := dk_27 (dk_at dksX7_take_1 0 rfl rfl)
theorem dX7_take_25 : decode cX7_take 25 = .ok (.bipush 75, 2) := dk_16 75 (dk_at dksX7_take_1 1 rfl rfl)
theorem dX7_take_27 : decode cX7_take 27 = .ok (.iadd, 1) := dk_96 (dk_at dksX7_take_1 3 rfl rfl)
theorem dX7_take_28 : decode cX7_take 28 = .ok (.iaload, 1) := dk_46 (dk_at dksX7_take_1 4 rfl rfl)
theorem dX7_take_29 : decode cX7_take 29 = .ok (.iload_n 1, 1) := dk_27 (dk_at dksX7_take_1 5 rfl rfl)
theorem dX7_take_30 : decode cX7_take 30 = .ok (.iadd, 1) := dk_96 (dk_at dksX7_take_1 6 rfl rfl)
theorem dX7_take_31 : decode cX7_take 31 = .ok (.invokestatic 83, 3) := dk_184 0 83 (dk_at dksX7_take_1 7 rfl rfl)
theorem dX7_take_34 : decode cX7_take 34 = .ok (.return_, 1) := dk_177 (dk_at dksX7_take_1 10 rfl rfl)
abbrev cX7_take_2 : ByteArray := prog_7_method_8_code
def yX7_take_2 : MethodName := ⟨RX7, "take", "(Ljava/util/List;I)V"⟩
def dkwX7_take_2_2 : List UInt8 := [180, 0, 90, 100, 61, 167, 255, 214, 177]
abbrev dktX7_take_2_2 : List UInt8 := dkwX7_take_2_2 ++ []
def dkwX7_take_2_1 : List UInt8 := [192, 0, 29, 58, 4, 25, 4, 28, 25, 4, 180, 0, 66, 184, 0, 87, 181, 0, 90, 28, 25, 4]
abbrev dktX7_take_2_1 : List UInt8 := dkwX7_take_2_1 ++ dktX7_take_2_2
def dkwX7_take_2_0 : List UInt8 := [27, 61, 42, 185, 0, 52, 1, 0, 78, 45, 185, 0, 56, 1, 0, 153, 0, 39, 45, 185, 0, 62, 1, 0]
abbrev dktX7_take_2_0 : List UInt8 := dkwX7_take_2_0 ++ dktX7_take_2_1
theorem dksX7_take_2_0 : cX7_take_2.data.toList.drop 0 = dktX7_take_2_0 := by decide +kernel
theorem dksX7_take_2_1 : cX7_take_2.data.toList.drop 24 = dktX7_take_2_1 := dk_seg dksX7_take_2_0 24 rfl rfl
theorem dksX7_take_2_2 : cX7_take_2.data.toList.drop 46 = dktX7_take_2_2 := dk_seg dksX7_take_2_1 22 rfl rfl
theorem dX7_take_2_0 : decode cX7_take_2 0 = .ok (.iload_n 1, 1) := dk_27 (dk_at dksX7_take_2_0 0 rfl rfl)
theorem dX7_take_2_1 : decode cX7_take_2 1 = .ok (.istore_n 2, 1) := dk_61 (dk_at dksX7_take_2_0 1 rfl rfl)
theorem dX7_take_2_2 : decode cX7_take_2 2 = .ok (.aload_n 0, 1) := dk_42 (dk_at dksX7_take_2_0 2 rfl rfl)
theorem dX7_take_2_3 : decode cX7_take_2 3 = .ok (.invokeinterface 52 1, 5) := by decide +kernel
theorem dX7_take_2_8 : decode cX7_take_2 8 = .ok (.astore_n 3, 1) := dk_78 (dk_at dksX7_take_2_0 8 rfl rfl)
theorem dX7_take_2_9 : decode cX7_take_2 9 = .ok (.aload_n 3, 1) := dk_45 (dk_at dksX7_take_2_0 9 rfl rfl)
theorem dX7_take_2_10 : decode cX7_take_2 10 = .ok (.invokeinterface 56 1, 5) := by decide +kernel
theorem dX7_take_2_15 : decode cX7_take_2 15 = .ok (.ifCond .eq 39, 3) := dk_153 0 39 (dk_at dksX7_take_2_0 15 rfl rfl)
theorem dX7_take_2_18 : decode cX7_take_2 18 = .ok (.aload_n 3, 1) := dk_45 (dk_at dksX7_take_2_0 18 rfl rfl)
theorem dX7_take_2_19 : decode cX7_take_2 19 = .ok (.invokeinterface 62 1, 5) := by decide +kernel
theorem dX7_take_2_24 : decode cX7_take_2 24 = .ok (.checkcast 29, 3) := dk_192 0 29 (dk_at dksX7_take_2_1 0 rfl rfl)
theorem dX7_take_2_27 : decode cX7_take_2 27 = .ok (.astore 4, 2) := dk_58 4 (dk_at dksX7_take_2_1 3 rfl rfl)
theorem dX7_take_2_29 : decode cX7_take_2 29 = .ok (.aload 4, 2) := dk_25 4 (dk_at dksX7_take_2_1 5 rfl rfl)
theorem dX7_take_2_31 : decode cX7_take_2 31 = .ok (.iload_n 2, 1) := dk_28 (dk_at dksX7_take_2_1 7 rfl rfl)
theorem dX7_take_2_32 : decode cX7_take_2 32 = .ok (.aload 4, 2) := dk_25 4 (dk_at dksX7_take_2_1 8 rfl rfl)
theorem dX7_take_2_34 : decode cX7_take_2 34 = .ok (.getfield 66, 3) := dk_180 0 66 (dk_at dksX7_take_2_1 10 rfl rfl)
theorem dX7_take_2_37 : decode cX7_take_2 37 = .ok (.invokestatic 87, 3) := dk_184 0 87 (dk_at dksX7_take_2_1 13 rfl rfl)
theorem dX7_take_2_40 : decode cX7_take_2 40 = .ok (.putfield 90, 3) := dk_181 0 90 (dk_at dksX7_take_2_1 16 rfl rfl)
theorem dX7_take_2_43 : decode cX7_take_2 43 = .ok (.iload_n 2, 1) := dk_28 (dk_at dksX7_take_2_1 19 rfl rfl)
theorem dX7_take_2_44 : decode cX7_take_2 44 = .ok (.aload 4, 2) := dk_25 4 (dk_at dksX7_take_2_1 20 rfl rfl)
theorem dX7_take_2_46 : decode cX7_take_2 46 = .ok (.getfield 90, 3) := dk_180 0 90 (dk_at dksX7_take_2_2 0 rfl rfl)
theorem dX7_take_2_49 : decode cX7_take_2 49 = .ok (.isub, 1) := dk_100 (dk_at dksX7_take_2_2 3 rfl rfl)
theorem dX7_take_2_50 : decode cX7_take_2 50 = .ok (.istore_n 2, 1) := dk_61 (dk_at dksX7_take_2_2 4 rfl rfl)
theorem dX7_take_2_51 : decode cX7_take_2 51 = .ok (.goto (-42), 3) := dk_167 255 214 (dk_at dksX7_take_2_2 5 rfl rfl)
theorem dX7_take_2_54 : decode cX7_take_2 54 = .ok (.return_, 1) := dk_177 (dk_at dksX7_take_2_2 8 rfl rfl)
theorem q78 : (Jvm.Cond.initialized "GridMarket$Curve") ∈ lw_all := lw_g (lw_at lw_m1 24 rfl) rfl
theorem q418 : (Jvm.Cond.fieldLinkNest "GridMarket$Curve" (28 : Nat) "GridMarket$Bid" "isBuy" "Z" "GridMarket") ∈ lw_tbl := lw_at lw_m2 124 rfl
theorem q422 : (Jvm.Cond.fieldLinkNest "GridMarket$Curve" (44 : Nat) "GridMarket$Bid" "price" "I" "GridMarket") ∈ lw_tbl := lw_at lw_m2 128 rfl
theorem q425 : (Jvm.Cond.fieldLinkNest "GridMarket$Curve" (66 : Nat) "GridMarket$Bid" "units" "I" "GridMarket") ∈ lw_tbl := lw_at lw_m2 131 rfl
theorem q427 : (Jvm.Cond.fieldLinkNest "GridMarket$Curve" (90 : Nat) "GridMarket$Bid" "taken" "I" "GridMarket") ∈ lw_tbl := lw_at lw_m2 133 rfl
theorem q487 : (Jvm.Cond.selects "GridMarket$Curve" ({ cls := "java/lang/Object", name := "getClass", desc := "()Ljava/lang/Class;" } : Jvm.MethodName) ({ cls := "java/lang/Object", name := "getClass", desc := "()Ljava/lang/Class;" } : Jvm.MethodName)) ∈ lw_all := lw_g (lw_at lw_m2 193 rfl) rfl
theorem q652 : (Jvm.Cond.instantiable "GridMarket$Curve" (4 : Nat)) ∈ lw_all := lw_g (lw_at lw_m3 118 rfl) rfl
theorem q654 : (Jvm.Cond.instanceMethod ({ cls := "GridMarket$Curve", name := "<init>", desc := "()V" } : Jvm.MethodName)) ∈ lw_all := lw_g (lw_at lw_m3 120 rfl) rfl
theorem q655 : (Jvm.Cond.code ({ cls := "GridMarket$Curve", name := "<init>", desc := "()V" } : Jvm.MethodName) prog_7_method_1_code (1 : Nat) (Option.none : Option Jvm.ClassFile.FieldType)) ∈ lw_all := lw_g (lw_at lw_m3 121 rfl) rfl
theorem q656 : (Jvm.Cond.methodLink "GridMarket$Curve" (3 : Nat) ({ cls := "java/lang/Object", name := "<init>", desc := "()V" } : Jvm.MethodName)) ∈ lw_all := lw_g (lw_at lw_m3 122 rfl) rfl
theorem q657 : (Jvm.Cond.classLink "GridMarket$Curve" (9 : Nat) "java/util/ArrayList") ∈ lw_all := lw_g (lw_at lw_m3 123 rfl) rfl
theorem q658 : (Jvm.Cond.methodLink "GridMarket$Curve" (11 : Nat) ({ cls := "java/util/ArrayList", name := "<init>", desc := "()V" } : Jvm.MethodName)) ∈ lw_all := lw_g (lw_at lw_m3 124 rfl) rfl
theorem q659 : (Jvm.Cond.fieldLink "GridMarket$Curve" (12 : Nat) "GridMarket$Curve" "sells" "Ljava/util/List;") ∈ lw_all := lw_g (lw_at lw_m3 125 rfl) rfl
theorem q660 : (Jvm.Cond.fieldLink "GridMarket$Curve" (18 : Nat) "GridMarket$Curve" "buys" "Ljava/util/List;") ∈ lw_all := lw_g (lw_at lw_m3 126 rfl) rfl
theorem q661 : (Jvm.Cond.fieldLink "GridMarket$Curve" (21 : Nat) "GridMarket$Curve" "worths" "[I") ∈ lw_all := lw_g (lw_at lw_m3 127 rfl) rfl
theorem q662 : (Jvm.Cond.fieldLink "GridMarket$Curve" (25 : Nat) "GridMarket$Curve" "taken" "[I") ∈ lw_all := lw_g (lw_at lw_m3 128 rfl) rfl
theorem q663 : (Jvm.Cond.laysFinal "GridMarket$Curve" "GridMarket$Curve" "sells" "Ljava/util/List;") ∈ lw_all := lw_g (lw_at lw_m3 129 rfl) rfl
theorem q664 : (Jvm.Cond.soleField "GridMarket$Curve" "sells") ∈ lw_all := lw_g (lw_at lw_m3 130 rfl) rfl
theorem q665 : (Jvm.Cond.laysFinal "GridMarket$Curve" "GridMarket$Curve" "buys" "Ljava/util/List;") ∈ lw_all := lw_g (lw_at lw_m3 131 rfl) rfl
theorem q666 : (Jvm.Cond.soleField "GridMarket$Curve" "buys") ∈ lw_all := lw_g (lw_at lw_m3 132 rfl) rfl
theorem q667 : (Jvm.Cond.laysFinal "GridMarket$Curve" "GridMarket$Curve" "worths" "[I") ∈ lw_all := lw_g (lw_at lw_m3 133 rfl) rfl
theorem q668 : (Jvm.Cond.soleField "GridMarket$Curve" "worths") ∈ lw_all := lw_g (lw_at lw_m3 134 rfl) rfl
theorem q669 : (Jvm.Cond.laysFinal "GridMarket$Curve" "GridMarket$Curve" "taken" "[I") ∈ lw_all := lw_g (lw_at lw_m3 135 rfl) rfl
theorem q670 : (Jvm.Cond.soleField "GridMarket$Curve" "taken") ∈ lw_all := lw_g (lw_at lw_m3 136 rfl) rfl
theorem q671 : (Jvm.Cond.superclass "GridMarket$Curve" "java/lang/Object") ∈ lw_all := lw_g (lw_at lw_m3 137 rfl) rfl
theorem q724 : (Jvm.Cond.instanceMethod ({ cls := "GridMarket$Curve", name := "add", desc := "(LGridMarket$Bid;)V" } : Jvm.MethodName)) ∈ lw_all := lw_g (lw_at lw_m3 190 rfl) rfl
theorem q725 : (Jvm.Cond.selects "GridMarket$Curve" ({ cls := "GridMarket$Curve", name := "add", desc := "(LGridMarket$Bid;)V" } : Jvm.MethodName) ({ cls := "GridMarket$Curve", name := "add", desc := "(LGridMarket$Bid;)V" } : Jvm.MethodName)) ∈ lw_all := lw_g (lw_at lw_m3 191 rfl) rfl
theorem q726 : (Jvm.Cond.code ({ cls := "GridMarket$Curve", name := "add", desc := "(LGridMarket$Bid;)V" } : Jvm.MethodName) prog_7_method_2_code (4 : Nat) (Option.none : Option Jvm.ClassFile.FieldType)) ∈ lw_all := lw_g (lw_at lw_m3 192 rfl) rfl
theorem q727 : (Jvm.Cond.interfaceEntry "GridMarket$Curve" (34 : Nat)) ∈ lw_tbl := lw_at lw_m3 193 rfl
theorem q728 : (Jvm.Cond.methodLink "GridMarket$Curve" (34 : Nat) ({ cls := "java/util/List", name := "size", desc := "()I" } : Jvm.MethodName)) ∈ lw_all := lw_g (lw_at lw_m3 194 rfl) rfl
theorem q729 : (Jvm.Cond.interfaceEntry "GridMarket$Curve" (40 : Nat)) ∈ lw_tbl := lw_at lw_m3 195 rfl
theorem q730 : (Jvm.Cond.methodLink "GridMarket$Curve" (40 : Nat) ({ cls := "java/util/List", name := "get", desc := "(I)Ljava/lang/Object;" } : Jvm.MethodName)) ∈ lw_all := lw_g (lw_at lw_m3 196 rfl) rfl
theorem q731 : (Jvm.Cond.classLink "GridMarket$Curve" (29 : Nat) "GridMarket$Bid") ∈ lw_all := lw_g (lw_at lw_m3 197 rfl) rfl
theorem q732 : (Jvm.Cond.interfaceEntry "GridMarket$Curve" (48 : Nat)) ∈ lw_tbl := lw_at lw_m3 198 rfl
theorem q733 : (Jvm.Cond.methodLink "GridMarket$Curve" (48 : Nat) ({ cls := "java/util/List", name := "add", desc := "(ILjava/lang/Object;)V" } : Jvm.MethodName)) ∈ lw_all := lw_g (lw_at lw_m3 199 rfl) rfl
theorem q979 : (Jvm.Cond.instanceMethod ({ cls := "GridMarket$Curve", name := "find", desc := "()V" } : Jvm.MethodName)) ∈ lw_all := lw_g (lw_at lw_m4 205 rfl) rfl
theorem q980 : (Jvm.Cond.selects "GridMarket$Curve" ({ cls := "GridMarket$Curve", name := "find", desc := "()V" } : Jvm.MethodName) ({ cls := "GridMarket$Curve", name := "find", desc := "()V" } : Jvm.MethodName)) ∈ lw_all := lw_g (lw_at lw_m4 206 rfl) rfl
theorem q981 : (Jvm.Cond.code ({ cls := "GridMarket$Curve", name := "find", desc := "()V" } : Jvm.MethodName) prog_7_method_5_code (6 : Nat) (Option.none : Option Jvm.ClassFile.FieldType)) ∈ lw_all := lw_g (lw_at lw_m4 207 rfl) rfl
theorem q982 : (Jvm.Cond.methodLink "GridMarket$Curve" (72 : Nat) ({ cls := "GridMarket$Curve", name := "sums", desc := "(Ljava/util/List;)[I" } : Jvm.MethodName)) ∈ lw_all := lw_g (lw_at lw_m4 208 rfl) rfl
theorem q983 : (Jvm.Cond.static ({ cls := "GridMarket$Curve", name := "sums", desc := "(Ljava/util/List;)[I" } : Jvm.MethodName)) ∈ lw_all := lw_g (lw_at lw_m4 209 rfl) rfl
theorem q984 : (Jvm.Cond.code ({ cls := "GridMarket$Curve", name := "sums", desc := "(Ljava/util/List;)[I" } : Jvm.MethodName) prog_7_method_4_code (6 : Nat) (Option.some (Jvm.ClassFile.FieldType.array Jvm.ClassFile.FieldType.int))) ∈ lw_all := lw_g (lw_at lw_m4 210 rfl) rfl
theorem q985 : (Jvm.Cond.methodLink "GridMarket$Curve" (69 : Nat) ({ cls := "GridMarket$Curve", name := "units", desc := "(Ljava/util/List;)I" } : Jvm.MethodName)) ∈ lw_all := lw_g (lw_at lw_m4 211 rfl) rfl
theorem q986 : (Jvm.Cond.static ({ cls := "GridMarket$Curve", name := "units", desc := "(Ljava/util/List;)I" } : Jvm.MethodName)) ∈ lw_all := lw_g (lw_at lw_m4 212 rfl) rfl
theorem q987 : (Jvm.Cond.code ({ cls := "GridMarket$Curve", name := "units", desc := "(Ljava/util/List;)I" } : Jvm.MethodName) prog_7_method_3_code (4 : Nat) (Option.some Jvm.ClassFile.FieldType.int)) ∈ lw_all := lw_g (lw_at lw_m4 213 rfl) rfl
theorem q988 : (Jvm.Cond.interfaceEntry "GridMarket$Curve" (52 : Nat)) ∈ lw_tbl := lw_at lw_m4 214 rfl
theorem q989 : (Jvm.Cond.methodLink "GridMarket$Curve" (52 : Nat) ({ cls := "java/util/List", name := "iterator", desc := "()Ljava/util/Iterator;" } : Jvm.MethodName)) ∈ lw_all := lw_g (lw_at lw_m4 215 rfl) rfl
theorem q990 : (Jvm.Cond.interfaceEntry "GridMarket$Curve" (56 : Nat)) ∈ lw_tbl := lw_at lw_m4 216 rfl
theorem q991 : (Jvm.Cond.methodLink "GridMarket$Curve" (56 : Nat) ({ cls := "java/util/Iterator", name := "hasNext", desc := "()Z" } : Jvm.MethodName)) ∈ lw_all := lw_g (lw_at lw_m4 217 rfl) rfl
theorem q992 : (Jvm.Cond.interfaceEntry "GridMarket$Curve" (62 : Nat)) ∈ lw_tbl := lw_at lw_m4 218 rfl
theorem q993 : (Jvm.Cond.methodLink "GridMarket$Curve" (62 : Nat) ({ cls := "java/util/Iterator", name := "next", desc := "()Ljava/lang/Object;" } : Jvm.MethodName)) ∈ lw_all := lw_g (lw_at lw_m4 219 rfl) rfl
theorem q994 : (Jvm.Cond.constant "GridMarket$Curve" (76 : Nat) (-100000000 : Int32)) ∈ lw_all := lw_g (lw_at lw_m4 220 rfl) rfl
theorem q995 : (Jvm.Cond.methodLink "GridMarket$Curve" (77 : Nat) ({ cls := "java/lang/Math", name := "max", desc := "(II)I" } : Jvm.MethodName)) ∈ lw_all := lw_g (lw_at lw_m4 221 rfl) rfl
theorem q1040 : (Jvm.Cond.instanceMethod ({ cls := "GridMarket$Curve", name := "at", desc := "(I)I" } : Jvm.MethodName)) ∈ lw_all := lw_g (lw_at lw_m5 26 rfl) rfl
theorem q1041 : (Jvm.Cond.selects "GridMarket$Curve" ({ cls := "GridMarket$Curve", name := "at", desc := "(I)I" } : Jvm.MethodName) ({ cls := "GridMarket$Curve", name := "at", desc := "(I)I" } : Jvm.MethodName)) ∈ lw_all := lw_g (lw_at lw_m5 27 rfl) rfl
theorem q1042 : (Jvm.Cond.code ({ cls := "GridMarket$Curve", name := "at", desc := "(I)I" } : Jvm.MethodName) prog_7_method_6_code (2 : Nat) (Option.some Jvm.ClassFile.FieldType.int)) ∈ lw_all := lw_g (lw_at lw_m5 28 rfl) rfl
theorem q1116 : (Jvm.Cond.instanceMethod ({ cls := "GridMarket$Curve", name := "take", desc := "(I)V" } : Jvm.MethodName)) ∈ lw_all := lw_g (lw_at lw_m5 102 rfl) rfl
theorem q1117 : (Jvm.Cond.selects "GridMarket$Curve" ({ cls := "GridMarket$Curve", name := "take", desc := "(I)V" } : Jvm.MethodName) ({ cls := "GridMarket$Curve", name := "take", desc := "(I)V" } : Jvm.MethodName)) ∈ lw_all := lw_g (lw_at lw_m5 103 rfl) rfl
theorem q1118 : (Jvm.Cond.code ({ cls := "GridMarket$Curve", name := "take", desc := "(I)V" } : Jvm.MethodName) prog_7_method_7_code (2 : Nat) (Option.none : Option Jvm.ClassFile.FieldType)) ∈ lw_all := lw_g (lw_at lw_m5 104 rfl) rfl
theorem q1119 : (Jvm.Cond.methodLink "GridMarket$Curve" (83 : Nat) ({ cls := "GridMarket$Curve", name := "take", desc := "(Ljava/util/List;I)V" } : Jvm.MethodName)) ∈ lw_all := lw_g (lw_at lw_m5 105 rfl) rfl
theorem q1120 : (Jvm.Cond.static ({ cls := "GridMarket$Curve", name := "take", desc := "(Ljava/util/List;I)V" } : Jvm.MethodName)) ∈ lw_all := lw_g (lw_at lw_m5 106 rfl) rfl
theorem q1121 : (Jvm.Cond.code ({ cls := "GridMarket$Curve", name := "take", desc := "(Ljava/util/List;I)V" } : Jvm.MethodName) prog_7_method_8_code (5 : Nat) (Option.none : Option Jvm.ClassFile.FieldType)) ∈ lw_all := lw_g (lw_at lw_m5 107 rfl) rfl
theorem q1122 : (Jvm.Cond.methodLink "GridMarket$Curve" (87 : Nat) ({ cls := "java/lang/Math", name := "min", desc := "(II)I" } : Jvm.MethodName)) ∈ lw_all := lw_g (lw_at lw_m5 108 rfl) rfl
theorem q1962 : (Jvm.Cond.castable "GridMarket$Curve" "java/lang/Object") ∈ lw_tbl := lw_at lw_m8 228 rfl
theorem in_X7 : ∀ w ∈ wsX70, w ∈ lw_all := lw_in wsX70 [663, 665, 667, 669] (by decide +kernel) (by decide +kernel)
/-! GridMarket$Result -/
set_option maxRecDepth 100000
def RX8 : String := "GridMarket$Result"
def TX8 : u_T := fun k => match k with
  | 0 => ("GridMarket$Result", "nets", "[[I", true)
  | 1 => ("GridMarket$Result", "prices", "[[I", true)
  | _ => ("GridMarket$Result", "worth", "I", false)
def tyX8 : Nat → FieldType := fun k => match k with
  | 0 => .array (.array .int)
  | 1 => .array (.array .int)
  | _ => .int
abbrev wsX80 : List Cond := u_ws RX8 TX8 3
theorem nmX8 : ∀ a, a < 3 → ∀ b, b < 3 → a ≠ b → (TX8 a).2.1 ≠ (TX8 b).2.1 := by decide +kernel
theorem tyX8_ok : ∀ k, k < 3 → parseFieldDescriptor (TX8 k).2.2.1 = some (tyX8 k) := by decide +kernel
abbrev cX8_init : ByteArray := prog_11_method_1_code
def yX8_init : MethodName := ⟨RX8, "<init>", "()V"⟩
def dkwX8_init_1 : List UInt8 := [177]
abbrev dktX8_init_1 : List UInt8 := dkwX8_init_1 ++ []
def dkwX8_init_0 : List UInt8 := [42, 183, 0, 3, 42, 7, 6, 197, 0, 9, 2, 181, 0, 11, 42, 7, 6, 197, 0, 9, 2, 181, 0, 16]
abbrev dktX8_init_0 : List UInt8 := dkwX8_init_0 ++ dktX8_init_1
theorem dksX8_init_0 : cX8_init.data.toList.drop 0 = dktX8_init_0 := by decide +kernel
theorem dksX8_init_1 : cX8_init.data.toList.drop 24 = dktX8_init_1 := dk_seg dksX8_init_0 24 rfl rfl
theorem dX8_init_0 : decode cX8_init 0 = .ok (.aload_n 0, 1) := dk_42 (dk_at dksX8_init_0 0 rfl rfl)
theorem dX8_init_1 : decode cX8_init 1 = .ok (.invokespecial 3, 3) := dk_183 0 3 (dk_at dksX8_init_0 1 rfl rfl)
theorem dX8_init_4 : decode cX8_init 4 = .ok (.aload_n 0, 1) := dk_42 (dk_at dksX8_init_0 4 rfl rfl)
theorem dX8_init_5 : decode cX8_init 5 = .ok (.iconst 4, 1) := dk_7 (dk_at dksX8_init_0 5 rfl rfl)
theorem dX8_init_6 : decode cX8_init 6 = .ok (.iconst 3, 1) := dk_6 (dk_at dksX8_init_0 6 rfl rfl)
theorem dX8_init_7 : decode cX8_init 7 = .ok (.multianewarray 9 2, 4) := by decide +kernel
theorem dX8_init_11 : decode cX8_init 11 = .ok (.putfield 11, 3) := dk_181 0 11 (dk_at dksX8_init_0 11 rfl rfl)
theorem dX8_init_14 : decode cX8_init 14 = .ok (.aload_n 0, 1) := dk_42 (dk_at dksX8_init_0 14 rfl rfl)
theorem dX8_init_15 : decode cX8_init 15 = .ok (.iconst 4, 1) := dk_7 (dk_at dksX8_init_0 15 rfl rfl)
theorem dX8_init_16 : decode cX8_init 16 = .ok (.iconst 3, 1) := dk_6 (dk_at dksX8_init_0 16 rfl rfl)
theorem dX8_init_17 : decode cX8_init 17 = .ok (.multianewarray 9 2, 4) := by decide +kernel
theorem dX8_init_21 : decode cX8_init 21 = .ok (.putfield 16, 3) := dk_181 0 16 (dk_at dksX8_init_0 21 rfl rfl)
theorem dX8_init_24 : decode cX8_init 24 = .ok (.return_, 1) := dk_177 (dk_at dksX8_init_1 0 rfl rfl)
theorem q86 : (Jvm.Cond.initialized "GridMarket$Result") ∈ lw_all := lw_g (lw_at lw_m1 32 rfl) rfl
theorem q491 : (Jvm.Cond.selects "GridMarket$Result" ({ cls := "java/lang/Object", name := "getClass", desc := "()Ljava/lang/Class;" } : Jvm.MethodName) ({ cls := "java/lang/Object", name := "getClass", desc := "()Ljava/lang/Class;" } : Jvm.MethodName)) ∈ lw_all := lw_g (lw_at lw_m2 197 rfl) rfl
theorem q1005 : (Jvm.Cond.instantiable "GridMarket$Result" (3 : Nat)) ∈ lw_all := lw_g (lw_at lw_m4 231 rfl) rfl
theorem q1007 : (Jvm.Cond.instanceMethod ({ cls := "GridMarket$Result", name := "<init>", desc := "()V" } : Jvm.MethodName)) ∈ lw_all := lw_g (lw_at lw_m4 233 rfl) rfl
theorem q1008 : (Jvm.Cond.code ({ cls := "GridMarket$Result", name := "<init>", desc := "()V" } : Jvm.MethodName) prog_11_method_1_code (1 : Nat) (Option.none : Option Jvm.ClassFile.FieldType)) ∈ lw_all := lw_g (lw_at lw_m4 234 rfl) rfl
theorem q1009 : (Jvm.Cond.methodLink "GridMarket$Result" (3 : Nat) ({ cls := "java/lang/Object", name := "<init>", desc := "()V" } : Jvm.MethodName)) ∈ lw_all := lw_g (lw_at lw_m4 235 rfl) rfl
theorem q1010 : (Jvm.Cond.classLink "GridMarket$Result" (9 : Nat) "[[I") ∈ lw_all := lw_g (lw_at lw_m4 236 rfl) rfl
theorem q1011 : (Jvm.Cond.fieldLink "GridMarket$Result" (11 : Nat) "GridMarket$Result" "nets" "[[I") ∈ lw_all := lw_g (lw_at lw_m4 237 rfl) rfl
theorem q1013 : (Jvm.Cond.fieldLink "GridMarket$Result" (16 : Nat) "GridMarket$Result" "prices" "[[I") ∈ lw_all := lw_g (lw_at lw_m4 239 rfl) rfl
theorem q1016 : (Jvm.Cond.laysFinal "GridMarket$Result" "GridMarket$Result" "nets" "[[I") ∈ lw_all := lw_g (lw_at lw_m5 2 rfl) rfl
theorem q1017 : (Jvm.Cond.soleField "GridMarket$Result" "nets") ∈ lw_all := lw_g (lw_at lw_m5 3 rfl) rfl
theorem q1018 : (Jvm.Cond.laysFinal "GridMarket$Result" "GridMarket$Result" "prices" "[[I") ∈ lw_all := lw_g (lw_at lw_m5 4 rfl) rfl
theorem q1019 : (Jvm.Cond.soleField "GridMarket$Result" "prices") ∈ lw_all := lw_g (lw_at lw_m5 5 rfl) rfl
theorem q1020 : (Jvm.Cond.lays "GridMarket$Result" "GridMarket$Result" "worth" "I") ∈ lw_all := lw_g (lw_at lw_m5 6 rfl) rfl
theorem q1021 : (Jvm.Cond.soleField "GridMarket$Result" "worth") ∈ lw_all := lw_g (lw_at lw_m5 7 rfl) rfl
theorem q1022 : (Jvm.Cond.superclass "GridMarket$Result" "java/lang/Object") ∈ lw_all := lw_g (lw_at lw_m5 8 rfl) rfl
theorem q1978 : (Jvm.Cond.castable "GridMarket$Result" "java/lang/Object") ∈ lw_tbl := lw_at lw_m9 4 rfl
theorem in_X8 : ∀ w ∈ wsX80, w ∈ lw_all := lw_in wsX80 [1016, 1018, 1020] (by decide +kernel) (by decide +kernel)
/-! GridMarket$Impossible -/
set_option maxRecDepth 100000
def RX9 : String := "GridMarket$Impossible"
def TX9 : u_T := fun k => match k with
  | 0 => ("java/lang/Throwable", "cause", "Ljava/lang/Throwable;", false)
  | 1 => ("java/lang/Throwable", "stackTrace", "[Ljava/lang/StackTraceElement;", false)
  | 2 => ("java/lang/Throwable", "suppressedExceptions", "Ljava/util/List;", false)
  | 3 => ("java/lang/Throwable", "detailMessage", "Ljava/lang/String;", false)
  | 4 => ("java/lang/Throwable", "backtrace", "Ljava/lang/Object;", false)
  | _ => ("java/lang/Throwable", "depth", "I", false)
def tyX9 : Nat → FieldType := fun k => match k with
  | 0 => .object "java/lang/Throwable"
  | 1 => .array (.object "java/lang/StackTraceElement")
  | 2 => .object "java/util/List"
  | 3 => .object "java/lang/String"
  | 4 => .object "java/lang/Object"
  | _ => .int
abbrev wsX90 : List Cond := u_ws RX9 TX9 6
theorem nmX9 : ∀ a, a < 6 → ∀ b, b < 6 → a ≠ b → (TX9 a).2.1 ≠ (TX9 b).2.1 := by decide +kernel
theorem tyX9_ok : ∀ k, k < 6 → parseFieldDescriptor (TX9 k).2.2.1 = some (tyX9 k) := by decide +kernel
abbrev cX9_init : ByteArray := prog_9_method_1_code
def yX9_init : MethodName := ⟨RX9, "<init>", "(Ljava/lang/String;)V"⟩
def dkwX9_init_0 : List UInt8 := [42, 43, 183, 0, 1, 177]
abbrev dktX9_init_0 : List UInt8 := dkwX9_init_0 ++ []
theorem dksX9_init_0 : cX9_init.data.toList.drop 0 = dktX9_init_0 := by decide +kernel
theorem dX9_init_0 : decode cX9_init 0 = .ok (.aload_n 0, 1) := dk_42 (dk_at dksX9_init_0 0 rfl rfl)
theorem dX9_init_1 : decode cX9_init 1 = .ok (.aload_n 1, 1) := dk_43 (dk_at dksX9_init_0 1 rfl rfl)
theorem dX9_init_2 : decode cX9_init 2 = .ok (.invokespecial 1, 3) := dk_183 0 1 (dk_at dksX9_init_0 2 rfl rfl)
theorem dX9_init_5 : decode cX9_init 5 = .ok (.return_, 1) := dk_177 (dk_at dksX9_init_0 5 rfl rfl)
theorem q87 : (Jvm.Cond.initialized "GridMarket$Impossible") ∈ lw_all := lw_g (lw_at lw_m1 33 rfl) rfl
theorem q260 : (Jvm.Cond.selects "GridMarket$Impossible" ({ cls := "java/lang/Throwable", name := "fillInStackTrace", desc := "()Ljava/lang/Throwable;" } : Jvm.MethodName) ({ cls := "java/lang/Throwable", name := "fillInStackTrace", desc := "()Ljava/lang/Throwable;" } : Jvm.MethodName)) ∈ lw_all := lw_g (lw_at lw_m1 206 rfl) rfl
theorem q489 : (Jvm.Cond.selects "GridMarket$Impossible" ({ cls := "java/lang/Object", name := "getClass", desc := "()Ljava/lang/Class;" } : Jvm.MethodName) ({ cls := "java/lang/Object", name := "getClass", desc := "()Ljava/lang/Class;" } : Jvm.MethodName)) ∈ lw_all := lw_g (lw_at lw_m2 195 rfl) rfl
theorem q1066 : (Jvm.Cond.instantiable "GridMarket$Impossible" (6 : Nat)) ∈ lw_all := lw_g (lw_at lw_m5 52 rfl) rfl
theorem q1067 : (Jvm.Cond.castable "GridMarket$Impossible" "GridMarket$Impossible") ∈ lw_tbl := lw_at lw_m5 53 rfl
theorem q1068 : (Jvm.Cond.selects "GridMarket$Impossible" ({ cls := "java/lang/Throwable", name := "fillInStackTrace", desc := "(I)Ljava/lang/Throwable;" } : Jvm.MethodName) ({ cls := "java/lang/Throwable", name := "fillInStackTrace", desc := "(I)Ljava/lang/Throwable;" } : Jvm.MethodName)) ∈ lw_all := lw_g (lw_at lw_m5 54 rfl) rfl
theorem q1069 : (Jvm.Cond.lays "GridMarket$Impossible" "java/lang/Throwable" "cause" "Ljava/lang/Throwable;") ∈ lw_all := lw_g (lw_at lw_m5 55 rfl) rfl
theorem q1070 : (Jvm.Cond.lays "GridMarket$Impossible" "java/lang/Throwable" "stackTrace" "[Ljava/lang/StackTraceElement;") ∈ lw_all := lw_g (lw_at lw_m5 56 rfl) rfl
theorem q1071 : (Jvm.Cond.lays "GridMarket$Impossible" "java/lang/Throwable" "suppressedExceptions" "Ljava/util/List;") ∈ lw_all := lw_g (lw_at lw_m5 57 rfl) rfl
theorem q1072 : (Jvm.Cond.lays "GridMarket$Impossible" "java/lang/Throwable" "detailMessage" "Ljava/lang/String;") ∈ lw_all := lw_g (lw_at lw_m5 58 rfl) rfl
theorem q1073 : (Jvm.Cond.lays "GridMarket$Impossible" "java/lang/Throwable" "backtrace" "Ljava/lang/Object;") ∈ lw_all := lw_g (lw_at lw_m5 59 rfl) rfl
theorem q1076 : (Jvm.Cond.instanceMethod ({ cls := "GridMarket$Impossible", name := "<init>", desc := "(Ljava/lang/String;)V" } : Jvm.MethodName)) ∈ lw_all := lw_g (lw_at lw_m5 62 rfl) rfl
theorem q1077 : (Jvm.Cond.code ({ cls := "GridMarket$Impossible", name := "<init>", desc := "(Ljava/lang/String;)V" } : Jvm.MethodName) prog_9_method_1_code (2 : Nat) (Option.none : Option Jvm.ClassFile.FieldType)) ∈ lw_all := lw_g (lw_at lw_m5 63 rfl) rfl
theorem q1078 : (Jvm.Cond.methodLink "GridMarket$Impossible" (1 : Nat) ({ cls := "java/lang/Exception", name := "<init>", desc := "(Ljava/lang/String;)V" } : Jvm.MethodName)) ∈ lw_all := lw_g (lw_at lw_m5 64 rfl) rfl
theorem q1079 : (Jvm.Cond.lays "GridMarket$Impossible" "java/lang/Throwable" "depth" "I") ∈ lw_all := lw_g (lw_at lw_m5 65 rfl) rfl
theorem q1080 : (Jvm.Cond.superclass "GridMarket$Impossible" "java/lang/Exception") ∈ lw_all := lw_g (lw_at lw_m5 66 rfl) rfl
theorem q1979 : (Jvm.Cond.castable "GridMarket$Impossible" "java/lang/Object") ∈ lw_tbl := lw_at lw_m9 5 rfl
theorem in_X9 : ∀ w ∈ wsX90, w ∈ lw_all := lw_in wsX90 [1069, 1070, 1071, 1072, 1073, 1079] (by decide +kernel) (by decide +kernel)
/-! GridMarket$Offer -/
set_option maxRecDepth 100000
def RX10 : String := "GridMarket$Offer"
def TX10 : u_T := fun k => match k with
  | 0 => ("GridMarket$Offer", "firm", "I", true)
  | 1 => ("GridMarket$Offer", "zone", "I", true)
  | 2 => ("GridMarket$Offer", "hour", "I", true)
  | 3 => ("GridMarket$Offer", "isBuy", "Z", true)
  | 4 => ("GridMarket$Offer", "price", "I", true)
  | _ => ("GridMarket$Offer", "left", "I", false)
def tyX10 : Nat → FieldType := fun k => match k with
  | 0 => .int
  | 1 => .int
  | 2 => .int
  | 3 => .boolean
  | 4 => .int
  | _ => .int
abbrev wsX100 : List Cond := u_ws RX10 TX10 6
theorem nmX10 : ∀ a, a < 6 → ∀ b, b < 6 → a ≠ b → (TX10 a).2.1 ≠ (TX10 b).2.1 := by decide +kernel
theorem tyX10_ok : ∀ k, k < 6 → parseFieldDescriptor (TX10 k).2.2.1 = some (tyX10 k) := by decide +kernel
abbrev cX10_init : ByteArray := prog_10_method_1_code
def yX10_init : MethodName := ⟨RX10, "<init>", "(IIIZII)V"⟩
def dkwX10_init_1 : List UInt8 := [181, 0, 19, 42, 21, 5, 181, 0, 23, 42, 21, 6, 181, 0, 26, 177]
abbrev dktX10_init_1 : List UInt8 := dkwX10_init_1 ++ []
def dkwX10_init_0 : List UInt8 := [42, 183, 0, 1, 42, 27, 181, 0, 7, 42, 28, 181, 0, 13, 42, 29, 181, 0, 16, 42, 21, 4]
abbrev dktX10_init_0 : List UInt8 := dkwX10_init_0 ++ dktX10_init_1
theorem dksX10_init_0 : cX10_init.data.toList.drop 0 = dktX10_init_0 := by decide +kernel
theorem dksX10_init_1 : cX10_init.data.toList.drop 22 = dktX10_init_1 := dk_seg dksX10_init_0 22 rfl rfl
theorem dX10_init_0 : decode cX10_init 0 = .ok (.aload_n 0, 1) := dk_42 (dk_at dksX10_init_0 0 rfl rfl)
theorem dX10_init_1 : decode cX10_init 1 = .ok (.invokespecial 1, 3) := dk_183 0 1 (dk_at dksX10_init_0 1 rfl rfl)
theorem dX10_init_4 : decode cX10_init 4 = .ok (.aload_n 0, 1) := dk_42 (dk_at dksX10_init_0 4 rfl rfl)
theorem dX10_init_5 : decode cX10_init 5 = .ok (.iload_n 1, 1) := dk_27 (dk_at dksX10_init_0 5 rfl rfl)
theorem dX10_init_6 : decode cX10_init 6 = .ok (.putfield 7, 3) := dk_181 0 7 (dk_at dksX10_init_0 6 rfl rfl)
theorem dX10_init_9 : decode cX10_init 9 = .ok (.aload_n 0, 1) := dk_42 (dk_at dksX10_init_0 9 rfl rfl)
theorem dX10_init_10 : decode cX10_init 10 = .ok (.iload_n 2, 1) := dk_28 (dk_at dksX10_init_0 10 rfl rfl)
theorem dX10_init_11 : decode cX10_init 11 = .ok (.putfield 13, 3) := dk_181 0 13 (dk_at dksX10_init_0 11 rfl rfl)
theorem dX10_init_14 : decode cX10_init 14 = .ok (.aload_n 0, 1) := dk_42 (dk_at dksX10_init_0 14 rfl rfl)
theorem dX10_init_15 : decode cX10_init 15 = .ok (.iload_n 3, 1) := dk_29 (dk_at dksX10_init_0 15 rfl rfl)
theorem dX10_init_16 : decode cX10_init 16 = .ok (.putfield 16, 3) := dk_181 0 16 (dk_at dksX10_init_0 16 rfl rfl)
theorem dX10_init_19 : decode cX10_init 19 = .ok (.aload_n 0, 1) := dk_42 (dk_at dksX10_init_0 19 rfl rfl)
theorem dX10_init_20 : decode cX10_init 20 = .ok (.iload 4, 2) := dk_21 4 (dk_at dksX10_init_0 20 rfl rfl)
theorem dX10_init_22 : decode cX10_init 22 = .ok (.putfield 19, 3) := dk_181 0 19 (dk_at dksX10_init_1 0 rfl rfl)
theorem dX10_init_25 : decode cX10_init 25 = .ok (.aload_n 0, 1) := dk_42 (dk_at dksX10_init_1 3 rfl rfl)
theorem dX10_init_26 : decode cX10_init 26 = .ok (.iload 5, 2) := dk_21 5 (dk_at dksX10_init_1 4 rfl rfl)
theorem dX10_init_28 : decode cX10_init 28 = .ok (.putfield 23, 3) := dk_181 0 23 (dk_at dksX10_init_1 6 rfl rfl)
theorem dX10_init_31 : decode cX10_init 31 = .ok (.aload_n 0, 1) := dk_42 (dk_at dksX10_init_1 9 rfl rfl)
theorem dX10_init_32 : decode cX10_init 32 = .ok (.iload 6, 2) := dk_21 6 (dk_at dksX10_init_1 10 rfl rfl)
theorem dX10_init_34 : decode cX10_init 34 = .ok (.putfield 26, 3) := dk_181 0 26 (dk_at dksX10_init_1 12 rfl rfl)
theorem dX10_init_37 : decode cX10_init 37 = .ok (.return_, 1) := dk_177 (dk_at dksX10_init_1 15 rfl rfl)
theorem q88 : (Jvm.Cond.initialized "GridMarket$Offer") ∈ lw_all := lw_g (lw_at lw_m1 34 rfl) rfl
theorem q490 : (Jvm.Cond.selects "GridMarket$Offer" ({ cls := "java/lang/Object", name := "getClass", desc := "()Ljava/lang/Class;" } : Jvm.MethodName) ({ cls := "java/lang/Object", name := "getClass", desc := "()Ljava/lang/Class;" } : Jvm.MethodName)) ∈ lw_all := lw_g (lw_at lw_m2 196 rfl) rfl
theorem q1136 : (Jvm.Cond.instantiable "GridMarket$Offer" (6 : Nat)) ∈ lw_all := lw_g (lw_at lw_m5 122 rfl) rfl
theorem q1138 : (Jvm.Cond.instanceMethod ({ cls := "GridMarket$Offer", name := "<init>", desc := "(IIIZII)V" } : Jvm.MethodName)) ∈ lw_all := lw_g (lw_at lw_m5 124 rfl) rfl
theorem q1139 : (Jvm.Cond.code ({ cls := "GridMarket$Offer", name := "<init>", desc := "(IIIZII)V" } : Jvm.MethodName) prog_10_method_1_code (7 : Nat) (Option.none : Option Jvm.ClassFile.FieldType)) ∈ lw_all := lw_g (lw_at lw_m5 125 rfl) rfl
theorem q1140 : (Jvm.Cond.methodLink "GridMarket$Offer" (1 : Nat) ({ cls := "java/lang/Object", name := "<init>", desc := "()V" } : Jvm.MethodName)) ∈ lw_all := lw_g (lw_at lw_m5 126 rfl) rfl
theorem q1141 : (Jvm.Cond.fieldLink "GridMarket$Offer" (7 : Nat) "GridMarket$Offer" "firm" "I") ∈ lw_all := lw_g (lw_at lw_m5 127 rfl) rfl
theorem q1144 : (Jvm.Cond.fieldLink "GridMarket$Offer" (13 : Nat) "GridMarket$Offer" "zone" "I") ∈ lw_all := lw_g (lw_at lw_m5 130 rfl) rfl
theorem q1147 : (Jvm.Cond.fieldLink "GridMarket$Offer" (16 : Nat) "GridMarket$Offer" "hour" "I") ∈ lw_all := lw_g (lw_at lw_m5 133 rfl) rfl
theorem q1150 : (Jvm.Cond.fieldLink "GridMarket$Offer" (19 : Nat) "GridMarket$Offer" "isBuy" "Z") ∈ lw_all := lw_g (lw_at lw_m5 136 rfl) rfl
theorem q1152 : (Jvm.Cond.fieldLink "GridMarket$Offer" (23 : Nat) "GridMarket$Offer" "price" "I") ∈ lw_all := lw_g (lw_at lw_m5 138 rfl) rfl
theorem q1154 : (Jvm.Cond.fieldLink "GridMarket$Offer" (26 : Nat) "GridMarket$Offer" "left" "I") ∈ lw_all := lw_g (lw_at lw_m5 140 rfl) rfl
theorem q1156 : (Jvm.Cond.laysFinal "GridMarket$Offer" "GridMarket$Offer" "firm" "I") ∈ lw_all := lw_g (lw_at lw_m5 142 rfl) rfl
theorem q1157 : (Jvm.Cond.soleField "GridMarket$Offer" "firm") ∈ lw_all := lw_g (lw_at lw_m5 143 rfl) rfl
theorem q1158 : (Jvm.Cond.laysFinal "GridMarket$Offer" "GridMarket$Offer" "zone" "I") ∈ lw_all := lw_g (lw_at lw_m5 144 rfl) rfl
theorem q1159 : (Jvm.Cond.soleField "GridMarket$Offer" "zone") ∈ lw_all := lw_g (lw_at lw_m5 145 rfl) rfl
theorem q1160 : (Jvm.Cond.laysFinal "GridMarket$Offer" "GridMarket$Offer" "hour" "I") ∈ lw_all := lw_g (lw_at lw_m5 146 rfl) rfl
theorem q1161 : (Jvm.Cond.soleField "GridMarket$Offer" "hour") ∈ lw_all := lw_g (lw_at lw_m5 147 rfl) rfl
theorem q1162 : (Jvm.Cond.laysFinal "GridMarket$Offer" "GridMarket$Offer" "isBuy" "Z") ∈ lw_all := lw_g (lw_at lw_m5 148 rfl) rfl
theorem q1163 : (Jvm.Cond.soleField "GridMarket$Offer" "isBuy") ∈ lw_all := lw_g (lw_at lw_m5 149 rfl) rfl
theorem q1164 : (Jvm.Cond.laysFinal "GridMarket$Offer" "GridMarket$Offer" "price" "I") ∈ lw_all := lw_g (lw_at lw_m5 150 rfl) rfl
theorem q1165 : (Jvm.Cond.soleField "GridMarket$Offer" "price") ∈ lw_all := lw_g (lw_at lw_m5 151 rfl) rfl
theorem q1166 : (Jvm.Cond.lays "GridMarket$Offer" "GridMarket$Offer" "left" "I") ∈ lw_all := lw_g (lw_at lw_m5 152 rfl) rfl
theorem q1167 : (Jvm.Cond.soleField "GridMarket$Offer" "left") ∈ lw_all := lw_g (lw_at lw_m5 153 rfl) rfl
theorem q1168 : (Jvm.Cond.superclass "GridMarket$Offer" "java/lang/Object") ∈ lw_all := lw_g (lw_at lw_m5 154 rfl) rfl
theorem q1980 : (Jvm.Cond.castable "GridMarket$Offer" "java/lang/Object") ∈ lw_tbl := lw_at lw_m9 6 rfl
theorem in_X10 : ∀ w ∈ wsX100, w ∈ lw_all := lw_in wsX100 [1156, 1158, 1160, 1162, 1164, 1166] (by decide +kernel) (by decide +kernel)
/-! GridMarket$Barred -/
set_option maxRecDepth 100000
def RX11 : String := "GridMarket$Barred"
def TX11 : u_T := fun k => match k with
  | 0 => ("java/lang/Throwable", "cause", "Ljava/lang/Throwable;", false)
  | 1 => ("java/lang/Throwable", "stackTrace", "[Ljava/lang/StackTraceElement;", false)
  | 2 => ("java/lang/Throwable", "suppressedExceptions", "Ljava/util/List;", false)
  | 3 => ("java/lang/Throwable", "detailMessage", "Ljava/lang/String;", false)
  | 4 => ("java/lang/Throwable", "backtrace", "Ljava/lang/Object;", false)
  | _ => ("java/lang/Throwable", "depth", "I", false)
def tyX11 : Nat → FieldType := fun k => match k with
  | 0 => .object "java/lang/Throwable"
  | 1 => .array (.object "java/lang/StackTraceElement")
  | 2 => .object "java/util/List"
  | 3 => .object "java/lang/String"
  | 4 => .object "java/lang/Object"
  | _ => .int
abbrev wsX110 : List Cond := u_ws RX11 TX11 6
theorem nmX11 : ∀ a, a < 6 → ∀ b, b < 6 → a ≠ b → (TX11 a).2.1 ≠ (TX11 b).2.1 := by decide +kernel
theorem tyX11_ok : ∀ k, k < 6 → parseFieldDescriptor (TX11 k).2.2.1 = some (tyX11 k) := by decide +kernel
abbrev cX11_init : ByteArray := prog_4_method_1_code
def yX11_init : MethodName := ⟨RX11, "<init>", "()V"⟩
def dkwX11_init_0 : List UInt8 := [42, 18, 1, 183, 0, 3, 177]
abbrev dktX11_init_0 : List UInt8 := dkwX11_init_0 ++ []
theorem dksX11_init_0 : cX11_init.data.toList.drop 0 = dktX11_init_0 := by decide +kernel
theorem dX11_init_0 : decode cX11_init 0 = .ok (.aload_n 0, 1) := dk_42 (dk_at dksX11_init_0 0 rfl rfl)
theorem dX11_init_1 : decode cX11_init 1 = .ok (.ldc 1, 2) := dk_18 1 (dk_at dksX11_init_0 1 rfl rfl)
theorem dX11_init_3 : decode cX11_init 3 = .ok (.invokespecial 3, 3) := dk_183 0 3 (dk_at dksX11_init_0 3 rfl rfl)
theorem dX11_init_6 : decode cX11_init 6 = .ok (.return_, 1) := dk_177 (dk_at dksX11_init_0 6 rfl rfl)
theorem q89 : (Jvm.Cond.initialized "GridMarket$Barred") ∈ lw_all := lw_g (lw_at lw_m1 35 rfl) rfl
theorem q259 : (Jvm.Cond.selects "GridMarket$Barred" ({ cls := "java/lang/Throwable", name := "fillInStackTrace", desc := "()Ljava/lang/Throwable;" } : Jvm.MethodName) ({ cls := "java/lang/Throwable", name := "fillInStackTrace", desc := "()Ljava/lang/Throwable;" } : Jvm.MethodName)) ∈ lw_all := lw_g (lw_at lw_m1 205 rfl) rfl
theorem q484 : (Jvm.Cond.selects "GridMarket$Barred" ({ cls := "java/lang/Object", name := "getClass", desc := "()Ljava/lang/Class;" } : Jvm.MethodName) ({ cls := "java/lang/Object", name := "getClass", desc := "()Ljava/lang/Class;" } : Jvm.MethodName)) ∈ lw_all := lw_g (lw_at lw_m2 190 rfl) rfl
theorem q1186 : (Jvm.Cond.instantiable "GridMarket$Barred" (6 : Nat)) ∈ lw_all := lw_g (lw_at lw_m5 172 rfl) rfl
theorem q1187 : (Jvm.Cond.castable "GridMarket$Barred" "GridMarket$Barred") ∈ lw_tbl := lw_at lw_m5 173 rfl
theorem q1188 : (Jvm.Cond.selects "GridMarket$Barred" ({ cls := "java/lang/Throwable", name := "fillInStackTrace", desc := "(I)Ljava/lang/Throwable;" } : Jvm.MethodName) ({ cls := "java/lang/Throwable", name := "fillInStackTrace", desc := "(I)Ljava/lang/Throwable;" } : Jvm.MethodName)) ∈ lw_all := lw_g (lw_at lw_m5 174 rfl) rfl
theorem q1189 : (Jvm.Cond.lays "GridMarket$Barred" "java/lang/Throwable" "cause" "Ljava/lang/Throwable;") ∈ lw_all := lw_g (lw_at lw_m5 175 rfl) rfl
theorem q1190 : (Jvm.Cond.lays "GridMarket$Barred" "java/lang/Throwable" "stackTrace" "[Ljava/lang/StackTraceElement;") ∈ lw_all := lw_g (lw_at lw_m5 176 rfl) rfl
theorem q1191 : (Jvm.Cond.lays "GridMarket$Barred" "java/lang/Throwable" "suppressedExceptions" "Ljava/util/List;") ∈ lw_all := lw_g (lw_at lw_m5 177 rfl) rfl
theorem q1192 : (Jvm.Cond.lays "GridMarket$Barred" "java/lang/Throwable" "detailMessage" "Ljava/lang/String;") ∈ lw_all := lw_g (lw_at lw_m5 178 rfl) rfl
theorem q1193 : (Jvm.Cond.lays "GridMarket$Barred" "java/lang/Throwable" "backtrace" "Ljava/lang/Object;") ∈ lw_all := lw_g (lw_at lw_m5 179 rfl) rfl
theorem q1195 : (Jvm.Cond.instanceMethod ({ cls := "GridMarket$Barred", name := "<init>", desc := "()V" } : Jvm.MethodName)) ∈ lw_all := lw_g (lw_at lw_m5 181 rfl) rfl
theorem q1196 : (Jvm.Cond.code ({ cls := "GridMarket$Barred", name := "<init>", desc := "()V" } : Jvm.MethodName) prog_4_method_1_code (1 : Nat) (Option.none : Option Jvm.ClassFile.FieldType)) ∈ lw_all := lw_g (lw_at lw_m5 182 rfl) rfl
theorem q1197 : (Jvm.Cond.stringRef "GridMarket$Barred" (1 : Nat) "by the limits") ∈ lw_tbl := lw_at lw_m5 183 rfl
theorem q1198 : (Jvm.Cond.methodLink "GridMarket$Barred" (3 : Nat) ({ cls := "java/lang/Exception", name := "<init>", desc := "(Ljava/lang/String;)V" } : Jvm.MethodName)) ∈ lw_all := lw_g (lw_at lw_m5 184 rfl) rfl
theorem q1199 : (Jvm.Cond.lays "GridMarket$Barred" "java/lang/Throwable" "depth" "I") ∈ lw_all := lw_g (lw_at lw_m5 185 rfl) rfl
theorem q1200 : (Jvm.Cond.superclass "GridMarket$Barred" "java/lang/Exception") ∈ lw_all := lw_g (lw_at lw_m5 186 rfl) rfl
theorem q1981 : (Jvm.Cond.castable "GridMarket$Barred" "java/lang/Object") ∈ lw_tbl := lw_at lw_m9 7 rfl
theorem in_X11 : ∀ w ∈ wsX110, w ∈ lw_all := lw_in wsX110 [1189, 1190, 1191, 1192, 1193, 1199] (by decide +kernel) (by decide +kernel)
/-! GridMarket$Trade -/
set_option maxRecDepth 100000
def RX12 : String := "GridMarket$Trade"
def TX12 : u_T := fun k => match k with
  | 0 => ("GridMarket$Trade", "buy", "LGridMarket$Offer;", true)
  | 1 => ("GridMarket$Trade", "sell", "LGridMarket$Offer;", true)
  | 2 => ("GridMarket$Trade", "price", "I", true)
  | _ => ("GridMarket$Trade", "units", "I", true)
def tyX12 : Nat → FieldType := fun k => match k with
  | 0 => .object "GridMarket$Offer"
  | 1 => .object "GridMarket$Offer"
  | 2 => .int
  | _ => .int
abbrev wsX120 : List Cond := u_ws RX12 TX12 4
theorem nmX12 : ∀ a, a < 4 → ∀ b, b < 4 → a ≠ b → (TX12 a).2.1 ≠ (TX12 b).2.1 := by decide +kernel
theorem tyX12_ok : ∀ k, k < 4 → parseFieldDescriptor (TX12 k).2.2.1 = some (tyX12 k) := by decide +kernel
abbrev cX12_init : ByteArray := prog_12_method_1_code
def yX12_init : MethodName := ⟨RX12, "<init>", "(LGridMarket$Offer;LGridMarket$Offer;II)V"⟩
def dkwX12_init_1 : List UInt8 := [181, 0, 20, 177]
abbrev dktX12_init_1 : List UInt8 := dkwX12_init_1 ++ []
def dkwX12_init_0 : List UInt8 := [42, 183, 0, 1, 42, 43, 181, 0, 7, 42, 44, 181, 0, 13, 42, 29, 181, 0, 16, 42, 21, 4]
abbrev dktX12_init_0 : List UInt8 := dkwX12_init_0 ++ dktX12_init_1
theorem dksX12_init_0 : cX12_init.data.toList.drop 0 = dktX12_init_0 := by decide +kernel
theorem dksX12_init_1 : cX12_init.data.toList.drop 22 = dktX12_init_1 := dk_seg dksX12_init_0 22 rfl rfl
theorem dX12_init_0 : decode cX12_init 0 = .ok (.aload_n 0, 1) := dk_42 (dk_at dksX12_init_0 0 rfl rfl)
theorem dX12_init_1 : decode cX12_init 1 = .ok (.invokespecial 1, 3) := dk_183 0 1 (dk_at dksX12_init_0 1 rfl rfl)
theorem dX12_init_4 : decode cX12_init 4 = .ok (.aload_n 0, 1) := dk_42 (dk_at dksX12_init_0 4 rfl rfl)
theorem dX12_init_5 : decode cX12_init 5 = .ok (.aload_n 1, 1) := dk_43 (dk_at dksX12_init_0 5 rfl rfl)
theorem dX12_init_6 : decode cX12_init 6 = .ok (.putfield 7, 3) := dk_181 0 7 (dk_at dksX12_init_0 6 rfl rfl)
theorem dX12_init_9 : decode cX12_init 9 = .ok (.aload_n 0, 1) := dk_42 (dk_at dksX12_init_0 9 rfl rfl)
theorem dX12_init_10 : decode cX12_init 10 = .ok (.aload_n 2, 1) := dk_44 (dk_at dksX12_init_0 10 rfl rfl)
theorem dX12_init_11 : decode cX12_init 11 = .ok (.putfield 13, 3) := dk_181 0 13 (dk_at dksX12_init_0 11 rfl rfl)
theorem dX12_init_14 : decode cX12_init 14 = .ok (.aload_n 0, 1) := dk_42 (dk_at dksX12_init_0 14 rfl rfl)
theorem dX12_init_15 : decode cX12_init 15 = .ok (.iload_n 3, 1) := dk_29 (dk_at dksX12_init_0 15 rfl rfl)
theorem dX12_init_16 : decode cX12_init 16 = .ok (.putfield 16, 3) := dk_181 0 16 (dk_at dksX12_init_0 16 rfl rfl)
theorem dX12_init_19 : decode cX12_init 19 = .ok (.aload_n 0, 1) := dk_42 (dk_at dksX12_init_0 19 rfl rfl)
theorem dX12_init_20 : decode cX12_init 20 = .ok (.iload 4, 2) := dk_21 4 (dk_at dksX12_init_0 20 rfl rfl)
theorem dX12_init_22 : decode cX12_init 22 = .ok (.putfield 20, 3) := dk_181 0 20 (dk_at dksX12_init_1 0 rfl rfl)
theorem dX12_init_25 : decode cX12_init 25 = .ok (.return_, 1) := dk_177 (dk_at dksX12_init_1 3 rfl rfl)
theorem q90 : (Jvm.Cond.initialized "GridMarket$Trade") ∈ lw_all := lw_g (lw_at lw_m1 36 rfl) rfl
theorem q492 : (Jvm.Cond.selects "GridMarket$Trade" ({ cls := "java/lang/Object", name := "getClass", desc := "()Ljava/lang/Class;" } : Jvm.MethodName) ({ cls := "java/lang/Object", name := "getClass", desc := "()Ljava/lang/Class;" } : Jvm.MethodName)) ∈ lw_all := lw_g (lw_at lw_m2 198 rfl) rfl
theorem q1202 : (Jvm.Cond.instantiable "GridMarket$Trade" (4 : Nat)) ∈ lw_all := lw_g (lw_at lw_m5 188 rfl) rfl
theorem q1204 : (Jvm.Cond.instanceMethod ({ cls := "GridMarket$Trade", name := "<init>", desc := "(LGridMarket$Offer;LGridMarket$Offer;II)V" } : Jvm.MethodName)) ∈ lw_all := lw_g (lw_at lw_m5 190 rfl) rfl
theorem q1205 : (Jvm.Cond.code ({ cls := "GridMarket$Trade", name := "<init>", desc := "(LGridMarket$Offer;LGridMarket$Offer;II)V" } : Jvm.MethodName) prog_12_method_1_code (5 : Nat) (Option.none : Option Jvm.ClassFile.FieldType)) ∈ lw_all := lw_g (lw_at lw_m5 191 rfl) rfl
theorem q1206 : (Jvm.Cond.methodLink "GridMarket$Trade" (1 : Nat) ({ cls := "java/lang/Object", name := "<init>", desc := "()V" } : Jvm.MethodName)) ∈ lw_all := lw_g (lw_at lw_m5 192 rfl) rfl
theorem q1207 : (Jvm.Cond.fieldLink "GridMarket$Trade" (7 : Nat) "GridMarket$Trade" "buy" "LGridMarket$Offer;") ∈ lw_all := lw_g (lw_at lw_m5 193 rfl) rfl
theorem q1210 : (Jvm.Cond.fieldLink "GridMarket$Trade" (13 : Nat) "GridMarket$Trade" "sell" "LGridMarket$Offer;") ∈ lw_all := lw_g (lw_at lw_m5 196 rfl) rfl
theorem q1213 : (Jvm.Cond.fieldLink "GridMarket$Trade" (16 : Nat) "GridMarket$Trade" "price" "I") ∈ lw_all := lw_g (lw_at lw_m5 199 rfl) rfl
theorem q1215 : (Jvm.Cond.fieldLink "GridMarket$Trade" (20 : Nat) "GridMarket$Trade" "units" "I") ∈ lw_all := lw_g (lw_at lw_m5 201 rfl) rfl
theorem q1218 : (Jvm.Cond.laysFinal "GridMarket$Trade" "GridMarket$Trade" "buy" "LGridMarket$Offer;") ∈ lw_all := lw_g (lw_at lw_m5 204 rfl) rfl
theorem q1219 : (Jvm.Cond.soleField "GridMarket$Trade" "buy") ∈ lw_all := lw_g (lw_at lw_m5 205 rfl) rfl
theorem q1220 : (Jvm.Cond.laysFinal "GridMarket$Trade" "GridMarket$Trade" "sell" "LGridMarket$Offer;") ∈ lw_all := lw_g (lw_at lw_m5 206 rfl) rfl
theorem q1221 : (Jvm.Cond.soleField "GridMarket$Trade" "sell") ∈ lw_all := lw_g (lw_at lw_m5 207 rfl) rfl
theorem q1222 : (Jvm.Cond.laysFinal "GridMarket$Trade" "GridMarket$Trade" "price" "I") ∈ lw_all := lw_g (lw_at lw_m5 208 rfl) rfl
theorem q1223 : (Jvm.Cond.soleField "GridMarket$Trade" "price") ∈ lw_all := lw_g (lw_at lw_m5 209 rfl) rfl
theorem q1224 : (Jvm.Cond.laysFinal "GridMarket$Trade" "GridMarket$Trade" "units" "I") ∈ lw_all := lw_g (lw_at lw_m5 210 rfl) rfl
theorem q1225 : (Jvm.Cond.soleField "GridMarket$Trade" "units") ∈ lw_all := lw_g (lw_at lw_m5 211 rfl) rfl
theorem q1226 : (Jvm.Cond.superclass "GridMarket$Trade" "java/lang/Object") ∈ lw_all := lw_g (lw_at lw_m5 212 rfl) rfl
theorem q1982 : (Jvm.Cond.castable "GridMarket$Trade" "java/lang/Object") ∈ lw_tbl := lw_at lw_m9 8 rfl
theorem in_X12 : ∀ w ∈ wsX120, w ∈ lw_all := lw_in wsX120 [1218, 1220, 1222, 1224] (by decide +kernel) (by decide +kernel)
/-! GridMarket$Aid -/
set_option maxRecDepth 100000
def RX13 : String := "GridMarket$Aid"
def TX13 : u_T := fun k => match k with
  | 0 => ("GridMarket$Aid", "firm", "I", true)
  | 1 => ("GridMarket$Aid", "hour", "I", true)
  | 2 => ("GridMarket$Aid", "isMore", "Z", true)
  | 3 => ("GridMarket$Aid", "price", "I", true)
  | _ => ("GridMarket$Aid", "units", "I", true)
def tyX13 : Nat → FieldType := fun k => match k with
  | 0 => .int
  | 1 => .int
  | 2 => .boolean
  | 3 => .int
  | _ => .int
abbrev wsX130 : List Cond := u_ws RX13 TX13 5
theorem nmX13 : ∀ a, a < 5 → ∀ b, b < 5 → a ≠ b → (TX13 a).2.1 ≠ (TX13 b).2.1 := by decide +kernel
theorem tyX13_ok : ∀ k, k < 5 → parseFieldDescriptor (TX13 k).2.2.1 = some (tyX13 k) := by decide +kernel
abbrev cX13_init : ByteArray := prog_2_method_1_code
def yX13_init : MethodName := ⟨RX13, "<init>", "(IIZII)V"⟩
def dkwX13_init_1 : List UInt8 := [181, 0, 20, 42, 21, 5, 181, 0, 23, 177]
abbrev dktX13_init_1 : List UInt8 := dkwX13_init_1 ++ []
def dkwX13_init_0 : List UInt8 := [42, 183, 0, 1, 42, 27, 181, 0, 7, 42, 28, 181, 0, 13, 42, 29, 181, 0, 16, 42, 21, 4]
abbrev dktX13_init_0 : List UInt8 := dkwX13_init_0 ++ dktX13_init_1
theorem dksX13_init_0 : cX13_init.data.toList.drop 0 = dktX13_init_0 := by decide +kernel
theorem dksX13_init_1 : cX13_init.data.toList.drop 22 = dktX13_init_1 := dk_seg dksX13_init_0 22 rfl rfl
theorem dX13_init_0 : decode cX13_init 0 = .ok (.aload_n 0, 1) := dk_42 (dk_at dksX13_init_0 0 rfl rfl)
theorem dX13_init_1 : decode cX13_init 1 = .ok (.invokespecial 1, 3) := dk_183 0 1 (dk_at dksX13_init_0 1 rfl rfl)
theorem dX13_init_4 : decode cX13_init 4 = .ok (.aload_n 0, 1) := dk_42 (dk_at dksX13_init_0 4 rfl rfl)
theorem dX13_init_5 : decode cX13_init 5 = .ok (.iload_n 1, 1) := dk_27 (dk_at dksX13_init_0 5 rfl rfl)
theorem dX13_init_6 : decode cX13_init 6 = .ok (.putfield 7, 3) := dk_181 0 7 (dk_at dksX13_init_0 6 rfl rfl)
theorem dX13_init_9 : decode cX13_init 9 = .ok (.aload_n 0, 1) := dk_42 (dk_at dksX13_init_0 9 rfl rfl)
theorem dX13_init_10 : decode cX13_init 10 = .ok (.iload_n 2, 1) := dk_28 (dk_at dksX13_init_0 10 rfl rfl)
theorem dX13_init_11 : decode cX13_init 11 = .ok (.putfield 13, 3) := dk_181 0 13 (dk_at dksX13_init_0 11 rfl rfl)
theorem dX13_init_14 : decode cX13_init 14 = .ok (.aload_n 0, 1) := dk_42 (dk_at dksX13_init_0 14 rfl rfl)
theorem dX13_init_15 : decode cX13_init 15 = .ok (.iload_n 3, 1) := dk_29 (dk_at dksX13_init_0 15 rfl rfl)
theorem dX13_init_16 : decode cX13_init 16 = .ok (.putfield 16, 3) := dk_181 0 16 (dk_at dksX13_init_0 16 rfl rfl)
theorem dX13_init_19 : decode cX13_init 19 = .ok (.aload_n 0, 1) := dk_42 (dk_at dksX13_init_0 19 rfl rfl)
theorem dX13_init_20 : decode cX13_init 20 = .ok (.iload 4, 2) := dk_21 4 (dk_at dksX13_init_0 20 rfl rfl)
theorem dX13_init_22 : decode cX13_init 22 = .ok (.putfield 20, 3) := dk_181 0 20 (dk_at dksX13_init_1 0 rfl rfl)
theorem dX13_init_25 : decode cX13_init 25 = .ok (.aload_n 0, 1) := dk_42 (dk_at dksX13_init_1 3 rfl rfl)
theorem dX13_init_26 : decode cX13_init 26 = .ok (.iload 5, 2) := dk_21 5 (dk_at dksX13_init_1 4 rfl rfl)
theorem dX13_init_28 : decode cX13_init 28 = .ok (.putfield 23, 3) := dk_181 0 23 (dk_at dksX13_init_1 6 rfl rfl)
theorem dX13_init_31 : decode cX13_init 31 = .ok (.return_, 1) := dk_177 (dk_at dksX13_init_1 9 rfl rfl)
theorem q91 : (Jvm.Cond.initialized "GridMarket$Aid") ∈ lw_all := lw_g (lw_at lw_m1 37 rfl) rfl
theorem q482 : (Jvm.Cond.selects "GridMarket$Aid" ({ cls := "java/lang/Object", name := "getClass", desc := "()Ljava/lang/Class;" } : Jvm.MethodName) ({ cls := "java/lang/Object", name := "getClass", desc := "()Ljava/lang/Class;" } : Jvm.MethodName)) ∈ lw_all := lw_g (lw_at lw_m2 188 rfl) rfl
theorem q1242 : (Jvm.Cond.instantiable "GridMarket$Aid" (5 : Nat)) ∈ lw_all := lw_g (lw_at lw_m5 228 rfl) rfl
theorem q1244 : (Jvm.Cond.instanceMethod ({ cls := "GridMarket$Aid", name := "<init>", desc := "(IIZII)V" } : Jvm.MethodName)) ∈ lw_all := lw_g (lw_at lw_m5 230 rfl) rfl
theorem q1245 : (Jvm.Cond.code ({ cls := "GridMarket$Aid", name := "<init>", desc := "(IIZII)V" } : Jvm.MethodName) prog_2_method_1_code (6 : Nat) (Option.none : Option Jvm.ClassFile.FieldType)) ∈ lw_all := lw_g (lw_at lw_m5 231 rfl) rfl
theorem q1246 : (Jvm.Cond.methodLink "GridMarket$Aid" (1 : Nat) ({ cls := "java/lang/Object", name := "<init>", desc := "()V" } : Jvm.MethodName)) ∈ lw_all := lw_g (lw_at lw_m5 232 rfl) rfl
theorem q1247 : (Jvm.Cond.fieldLink "GridMarket$Aid" (7 : Nat) "GridMarket$Aid" "firm" "I") ∈ lw_all := lw_g (lw_at lw_m5 233 rfl) rfl
theorem q1249 : (Jvm.Cond.fieldLink "GridMarket$Aid" (13 : Nat) "GridMarket$Aid" "hour" "I") ∈ lw_all := lw_g (lw_at lw_m5 235 rfl) rfl
theorem q1251 : (Jvm.Cond.fieldLink "GridMarket$Aid" (16 : Nat) "GridMarket$Aid" "isMore" "Z") ∈ lw_all := lw_g (lw_at lw_m5 237 rfl) rfl
theorem q1253 : (Jvm.Cond.fieldLink "GridMarket$Aid" (20 : Nat) "GridMarket$Aid" "price" "I") ∈ lw_all := lw_g (lw_at lw_m5 239 rfl) rfl
theorem q1255 : (Jvm.Cond.fieldLink "GridMarket$Aid" (23 : Nat) "GridMarket$Aid" "units" "I") ∈ lw_all := lw_g (lw_at lw_m6 1 rfl) rfl
theorem q1257 : (Jvm.Cond.laysFinal "GridMarket$Aid" "GridMarket$Aid" "firm" "I") ∈ lw_all := lw_g (lw_at lw_m6 3 rfl) rfl
theorem q1258 : (Jvm.Cond.soleField "GridMarket$Aid" "firm") ∈ lw_all := lw_g (lw_at lw_m6 4 rfl) rfl
theorem q1259 : (Jvm.Cond.laysFinal "GridMarket$Aid" "GridMarket$Aid" "hour" "I") ∈ lw_all := lw_g (lw_at lw_m6 5 rfl) rfl
theorem q1260 : (Jvm.Cond.soleField "GridMarket$Aid" "hour") ∈ lw_all := lw_g (lw_at lw_m6 6 rfl) rfl
theorem q1261 : (Jvm.Cond.laysFinal "GridMarket$Aid" "GridMarket$Aid" "isMore" "Z") ∈ lw_all := lw_g (lw_at lw_m6 7 rfl) rfl
theorem q1262 : (Jvm.Cond.soleField "GridMarket$Aid" "isMore") ∈ lw_all := lw_g (lw_at lw_m6 8 rfl) rfl
theorem q1263 : (Jvm.Cond.laysFinal "GridMarket$Aid" "GridMarket$Aid" "price" "I") ∈ lw_all := lw_g (lw_at lw_m6 9 rfl) rfl
theorem q1264 : (Jvm.Cond.soleField "GridMarket$Aid" "price") ∈ lw_all := lw_g (lw_at lw_m6 10 rfl) rfl
theorem q1265 : (Jvm.Cond.laysFinal "GridMarket$Aid" "GridMarket$Aid" "units" "I") ∈ lw_all := lw_g (lw_at lw_m6 11 rfl) rfl
theorem q1266 : (Jvm.Cond.soleField "GridMarket$Aid" "units") ∈ lw_all := lw_g (lw_at lw_m6 12 rfl) rfl
theorem q1267 : (Jvm.Cond.superclass "GridMarket$Aid" "java/lang/Object") ∈ lw_all := lw_g (lw_at lw_m6 13 rfl) rfl
theorem q1983 : (Jvm.Cond.castable "GridMarket$Aid" "java/lang/Object") ∈ lw_tbl := lw_at lw_m9 9 rfl
theorem in_X13 : ∀ w ∈ wsX130, w ∈ lw_all := lw_in wsX130 [1257, 1259, 1261, 1263, 1265] (by decide +kernel) (by decide +kernel)
